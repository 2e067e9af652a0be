/-! depths over the whole array: the greatest, the sum; cells by rows -/
set_option maxRecDepth 100000
theorem kD_at {w g : Nat} {P : Nat → Bool} {x y : Int} (h : 0 ≤ x ∧ x < w ∧ 0 ≤ y ∧ y < g) : kD w g P (y + 1).toNat (x + 1).toNat = P (cel w x y) := by
  unfold kD isK
  rw [show (((x + 1).toNat : Nat) : Int) - 1 = x by omega, show (((y + 1).toNat : Nat) : Int) - 1 = y by omega, (isBd_t _ _ _ _).mpr h, Bool.true_and]
theorem dpG_at {w g : Nat} {P : Nat → Bool} {ch : Bool} {x y : Int} (hd : isDep w g P ch (depF w g P ch)) (h : 0 ≤ x ∧ x < w ∧ 0 ≤ y ∧ y < g) : dpG w g P ch (y + 1).toNat (x + 1).toNat = depF w g P ch (cel w x y) := by
  unfold dpG
  rw [kD_at h, show (((x + 1).toNat : Nat) : Int) - 1 = x by omega, show (((y + 1).toNat : Nat) : Int) - 1 = y by omega]
  cases hp : P (cel w x y) with
  | true => rw [if_pos rfl]
  | false =>
    rw [if_neg (by decide)]
    exact ((hd _ (cel_int h).2).1 hp).symm
theorem dpG_n {w g : Nat} {P : Nat → Bool} {ch : Bool} {x y : Nat} (hd : isDep w g P ch (depF w g P ch)) (hx : x < w) (hy : y < g) : dpG w g P ch (y + 1) (x + 1) = depF w g P ch (w * y + x) := by
  have h := dpG_at (x := (x : Int)) (y := (y : Int)) hd (by omega)
  rw [show ((y : Int) + 1).toNat = y + 1 by omega, show ((x : Int) + 1).toNat = x + 1 by omega] at h
  rw [h]
  congr 1
  unfold cel
  rw [Nat.mul_comm w y]
  have : ((y : Int) * (w : Int)) = ((y * w : Nat) : Int) := (Int.natCast_mul y w).symm
  omega
theorem dpG_0 {w g : Nat} {P : Nat → Bool} {ch : Bool} {x y : Nat} (h : ¬ (1 ≤ x ∧ x ≤ w ∧ 1 ≤ y ∧ y ≤ g)) : dpG w g P ch y x = 0 := by
  unfold dpG
  rw [if_neg (fun q => h (kD_bd q))]
theorem dpG_rng {w g : Nat} {P : Nat → Bool} {ch : Bool} (hw : 1 ≤ w ∧ w ≤ 32) (hd : isDep w g P ch (depF w g P ch)) (y x : Nat) : 0 ≤ dpG w g P ch y x ∧ dpG w g P ch y x ≤ 32 := by
  unfold dpG
  by_cases q : kD w g P y x = true
  · rw [if_pos q]
    have hb := kD_bd q
    exact isDep_rng hw hd _ (cel_int (w := w) (g := g) (x := (x : Int) - 1) (y := (y : Int) - 1) (by omega)).2
  · rw [if_neg q]; omega
/-- the greatest of n rows of m -/
def mx2 (d : Nat → Nat → Int) (m : Nat) : Nat → Int
  | 0 => 0
  | n + 1 => max (mx2 d m n) (mxF (d n) m)
theorem mxF_iff {f : Nat → Int} {b : Int} : ∀ {n : Nat}, mxF f n ≤ b ↔ (0 ≤ b ∧ ∀ c, c < n → f c ≤ b)
  | 0 => ⟨fun h => ⟨h, fun c hc => absurd hc (Nat.not_lt_zero _)⟩, fun h => h.1⟩
  | n + 1 => by
    have ih := mxF_iff (f := f) (b := b) (n := n)
    rw [mxF]
    constructor
    · intro h
      have h1 := ih.mp (by omega)
      exact ⟨h1.1, fun c hc => by
        by_cases e : c = n
        · subst e; omega
        · exact h1.2 c (by omega)⟩
    · intro h
      have h1 := ih.mpr ⟨h.1, fun c hc => h.2 c (by omega)⟩
      have h2 := h.2 n (Nat.lt_succ_self _)
      omega
theorem mx2_iff {d : Nat → Nat → Int} {m : Nat} {b : Int} : ∀ {n : Nat}, mx2 d m n ≤ b ↔ (0 ≤ b ∧ ∀ y, y < n → ∀ x, x < m → d y x ≤ b)
  | 0 => ⟨fun h => ⟨h, fun c hc => absurd hc (Nat.not_lt_zero _)⟩, fun h => h.1⟩
  | n + 1 => by
    have ih := mx2_iff (d := d) (m := m) (b := b) (n := n)
    have ir := mxF_iff (f := d n) (b := b) (n := m)
    rw [mx2]
    constructor
    · intro h
      have h1 := ih.mp (by omega)
      have h2 := ir.mp (by omega)
      exact ⟨h1.1, fun y hy x hx => by
        by_cases e : y = n
        · subst e; exact h2.2 x hx
        · exact h1.2 y (by omega) x hx⟩
    · intro h
      have h1 := ih.mpr ⟨h.1, fun y hy => h.2 y (by omega)⟩
      have h2 := ir.mpr ⟨h.1, fun x hx => h.2 n (Nat.lt_succ_self _) x hx⟩
      omega
theorem mx2_rng {d : Nat → Nat → Int} {m : Nat} (h : ∀ y x, 0 ≤ d y x ∧ d y x ≤ 32) : ∀ n, 0 ≤ mx2 d m n ∧ mx2 d m n ≤ 32
  | 0 => by simp [mx2]
  | n + 1 => by
    have h1 := mx2_rng (d := d) (m := m) h n
    have h2 := mxF_rng (f := d n) (n := m) (fun c _ => h n c)
    rw [mx2]; omega
theorem mx2_dep {w g : Nat} {P : Nat → Bool} {ch : Bool} (hw : 1 ≤ w) (hd : isDep w g P ch (depF w g P ch)) : mx2 (dpG w g P ch) (w + 2) (g + 2) = mxF (depF w g P ch) (w * g) := by
  refine Int.le_antisymm (mx2_iff.mpr ?_) (mxF_iff.mpr ?_)
  · have h0 := mxF_iff.mp (Int.le_refl (mxF (depF w g P ch) (w * g)))
    refine ⟨h0.1, fun y hy x hx => ?_⟩
    unfold dpG
    by_cases q : kD w g P y x = true
    · rw [if_pos q]
      have hb := kD_bd q
      exact h0.2 _ (cel_int (w := w) (g := g) (x := (x : Int) - 1) (y := (y : Int) - 1) (by omega)).2
    · rw [if_neg q]; exact h0.1
  · have h0 := mx2_iff.mp (Int.le_refl (mx2 (dpG w g P ch) (w + 2) (g + 2)))
    refine ⟨h0.1, fun c hc => ?_⟩
    have hm := dm_bd hw hc
    have h1 := h0.2 ((c : Int) / (w : Int) + 1).toNat (by omega) ((c : Int) % (w : Int) + 1).toNat (by omega)
    rw [dpG_at hd hm, cel_dm hw] at h1
    exact h1
theorem si_zero {f : Nat → Int} : ∀ {n : Nat}, (∀ k, k < n → f k = 0) → fb_si f n = 0
  | 0, _ => rfl
  | n + 1, h => by rw [fb_si_succ, si_zero (fun k hk => h k (by omega)), h n (Nat.lt_succ_self _)]; rfl
theorem si_row {w g : Nat} {P : Nat → Bool} {ch : Bool} (hd : isDep w g P ch (depF w g P ch)) {y : Nat} (hy : y < g) : fb_si (dpG w g P ch (y + 1)) (w + 2) = fb_si (fun x => depF w g P ch (w * y + x)) w := by
  have e := fb_si_split (dpG w g P ch (y + 1)) 1 (w + 1)
  rw [show 1 + (w + 1) = w + 2 by omega] at e
  rw [e, show fb_si (dpG w g P ch (y + 1)) 1 = 0 from si_zero (fun k hk => dpG_0 (by omega)), fb_si_succ, dpG_0 (by omega), Int.zero_add, Int.add_zero]
  exact fb_si_cong (fun k hk => by rw [Nat.add_comm 1 k, dpG_n hd hk hy])
theorem si_rows {w g : Nat} {P : Nat → Bool} {ch : Bool} (hd : isDep w g P ch (depF w g P ch)) : ∀ {n : Nat}, n ≤ g → fb_si (fun y => fb_si (dpG w g P ch (y + 1)) (w + 2)) n = fb_si (depF w g P ch) (w * n)
  | 0, _ => rfl
  | n + 1, h => by rw [fb_si_succ, si_rows hd (by omega), Nat.mul_succ, fb_si_split (depF w g P ch), si_row hd (by omega)]
theorem si_dep {w g : Nat} {P : Nat → Bool} {ch : Bool} (hd : isDep w g P ch (depF w g P ch)) : fb_si (fun y => fb_si (dpG w g P ch y) (w + 2)) (g + 2) = fb_si (depF w g P ch) (w * g) := by
  have e := fb_si_split (fun y => fb_si (dpG w g P ch y) (w + 2)) 1 (g + 1)
  rw [show 1 + (g + 1) = g + 2 by omega] at e
  rw [e, show fb_si (fun y => fb_si (dpG w g P ch y) (w + 2)) 1 = 0 from si_zero (fun k hk => si_zero (fun x hx => dpG_0 (by omega))), fb_si_succ, show fb_si (dpG w g P ch (1 + g)) (w + 2) = 0 from si_zero (fun x hx => dpG_0 (by omega)), Int.zero_add, Int.add_zero, ← si_rows hd (Nat.le_refl g)]
  exact fb_si_cong (fun k hk => by rw [Nat.add_comm 1 k])
theorem ss_rng {d : Nat → Nat → Int} {m : Nat} (h : ∀ y x, 0 ≤ d y x ∧ d y x ≤ 32) (hm : m ≤ 40) : ∀ n, 0 ≤ fb_si (fun y => fb_si (d y) m) n ∧ fb_si (fun y => fb_si (d y) m) n ≤ 1280 * n
  | 0 => by simp [fb_si]
  | n + 1 => by
    have h1 := ss_rng (d := d) (m := m) h hm n
    have h2 := si_rng (f := d n) (n := m) (fun c _ => h n c)
    rw [fb_si_succ]; omega
theorem cel_n {w x y : Nat} : cel w (x : Int) (y : Int) = w * y + x := by
  unfold cel
  rw [Nat.mul_comm w y]
  have : ((y : Int) * (w : Int)) = ((y * w : Nat) : Int) := (Int.natCast_mul y w).symm
  omega
/-- the depths looked at: the class's way -/
theorem lk_cel {w g : Nat} {P : Nat → Bool} {ch : Bool} {x y : Nat} (hx : x < w ∧ w ≤ 32) (hy : y < g ∧ g ≤ 32) : lkA w g P (x : Int) (y : Int) ch (g + 2) 2147483647 = lkd w g P ch (w * y + x) := by
  have hd := dm_cel (w := w) (g := g) (x := (x : Int)) (y := (y : Int)) (by omega)
  rw [cel_n] at hd
  unfold lkd
  rw [hd.1, hd.2]
  exact lkA_big (by omega) (by omega)
theorem dm_n {w x y : Nat} (hx : x < w) : ((w * y + x : Nat) : Int) % (w : Int) = (x : Int) ∧ ((w * y + x : Nat) : Int) / (w : Int) = (y : Int) := by
  have hd := dm_cel (w := w) (g := y + 1) (x := (x : Int)) (y := (y : Int)) (by omega)
  rw [cel_n] at hd
  exact hd
