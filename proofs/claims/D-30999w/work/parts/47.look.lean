/-! depths by looking: where the looking begins is all one -/
set_option maxRecDepth 100000
theorem lkR_min (w g : Nat) (ik : Nat → Bool) (x0 y0 : Int) (ch : Bool) (y a b : Int) : ∀ n, lkR w g ik x0 y0 ch y n (min a b) = min a (lkR w g ik x0 y0 ch y n b)
  | 0 => rfl
  | n + 1 => by
    rw [lkR, lkR, lkR_min w g ik x0 y0 ch y a b n]
    split
    · rfl
    · omega
theorem lkA_min (w g : Nat) (ik : Nat → Bool) (x0 y0 : Int) (ch : Bool) (a b : Int) : ∀ n, lkA w g ik x0 y0 ch n (min a b) = min a (lkA w g ik x0 y0 ch n b)
  | 0 => rfl
  | n + 1 => by rw [lkA, lkA, lkA_min w g ik x0 y0 ch a b n, lkR_min]
theorem lkR_dn {w g : Nat} {ik : Nat → Bool} {x0 y0 : Int} {ch : Bool} {y m : Int} (hm : 0 ≤ m) : ∀ n, lkR w g ik x0 y0 ch y (n + 1) m ≤ lkR w g ik x0 y0 ch y 1 m
  | 0 => Int.le_refl _
  | n + 1 => by
    have h1 := lkR_dn (w := w) (g := g) (ik := ik) (x0 := x0) (y0 := y0) (ch := ch) (y := y) hm n
    rw [lkR]
    split <;> omega
theorem lkA_dn {w g : Nat} {ik : Nat → Bool} {x0 y0 : Int} {ch : Bool} {m : Int} (hm : 0 ≤ m) : ∀ n, lkA w g ik x0 y0 ch (n + 1) m ≤ lkA w g ik x0 y0 ch 1 m
  | 0 => Int.le_refl _
  | n + 1 => by
    have h1 := lkA_dn (w := w) (g := g) (ik := ik) (x0 := x0) (y0 := y0) (ch := ch) hm n
    have h2 := lkA_rng w g ik x0 y0 ch (n + 1) m hm
    have h3 := lkR_rng w g ik x0 y0 ch (((n + 1 : Nat) : Int) - 1) (w + 2) (lkA w g ik x0 y0 ch (n + 1) m) h2.1
    rw [lkA]
    omega
theorem lkA_1 {w g : Nat} {ik : Nat → Bool} {x0 y0 : Int} {ch : Bool} {m : Int} (hm : 0 ≤ m) (hx : 0 ≤ x0 ∧ x0 < 32) (hy : 0 ≤ y0 ∧ y0 < 32) : lkA w g ik x0 y0 ch 1 m ≤ 66 := by
  have h1 := lkR_dn (w := w) (g := g) (ik := ik) (x0 := x0) (y0 := y0) (ch := ch) (y := ((0 : Nat) : Int) - 1) hm (w + 1)
  have h2 : lkR w g ik x0 y0 ch (((0 : Nat) : Int) - 1) 1 m ≤ 66 := by
    rw [lkR, if_neg (by
      intro q
      unfold isK at q
      rw [Bool.and_eq_true, isBd_t] at q
      omega)]
    have h3 : dstC ch (tabs (((0 : Nat) : Int) - 1 - x0)) (tabs (((0 : Nat) : Int) - 1 - y0)) ≤ 66 := by
      unfold dstC tabs
      split <;> split <;> split <;> omega
    omega
  show lkR w g ik x0 y0 ch (((0 : Nat) : Int) - 1) (w + 2) (lkA w g ik x0 y0 ch 0 m) ≤ 66
  exact Int.le_trans h1 h2
theorem lkA_big {w g : Nat} {ik : Nat → Bool} {x0 y0 : Int} {ch : Bool} (hx : 0 ≤ x0 ∧ x0 < 32) (hy : 0 ≤ y0 ∧ y0 < 32) : lkA w g ik x0 y0 ch (g + 2) 2147483647 = lkA w g ik x0 y0 ch (g + 2) 1024 := by
  have h1 := lkA_min w g ik x0 y0 ch 1024 2147483647 (g + 2)
  rw [show min (1024 : Int) 2147483647 = 1024 from by decide] at h1
  have h2 : lkA w g ik x0 y0 ch (g + 2) 2147483647 ≤ lkA w g ik x0 y0 ch 1 2147483647 := lkA_dn (by decide) (g + 1)
  have h3 := lkA_1 (w := w) (g := g) (ik := ik) (x0 := x0) (y0 := y0) (ch := ch) (m := 2147483647) (by decide) hx hy
  rw [h1]
  omega
