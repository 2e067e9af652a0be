/-! depths by two passes: the same as depths layer by layer -/
set_option maxRecDepth 100000
/-- the least of the neighbors on one side -/
def mnN (ch : Bool) (r : Int → Int → Int) (x y s : Int) : Int := if ch then min (min (r x (y + s)) (r (x + s) y)) (min (r (x - 1) (y + s)) (r (x + 1) (y + s))) else min (r x (y + s)) (r (x + s) y)
def nb4 (x y u v : Int) : Prop := (u = x ∧ (v = y + 1 ∨ v = y - 1)) ∨ (v = y ∧ (u = x + 1 ∨ u = x - 1))
def nb8 (x y u v : Int) : Prop := -1 ≤ u - x ∧ u - x ≤ 1 ∧ -1 ≤ v - y ∧ v - y ≤ 1 ∧ ¬ (u = x ∧ v = y)
theorem mn8 {z a b c d e : Int} (h : z = min a (1 + min (min b c) (min d e))) : z = a ∨ z = 1 + b ∨ z = 1 + c ∨ z = 1 + d ∨ z = 1 + e := by omega
theorem mn8_le {z a b c d e : Int} (h : z = min a (1 + min (min b c) (min d e))) : z ≤ a ∧ z ≤ 1 + b ∧ z ≤ 1 + c ∧ z ≤ 1 + d ∧ z ≤ 1 + e := by omega
theorem mn8_f {z b c d e : Int} (h : z = 1 + min (min b c) (min d e)) : z ≤ 1 + b ∧ z ≤ 1 + c ∧ z ≤ 1 + d ∧ z ≤ 1 + e := by omega
section TP
variable {w g : Nat} {K : Int → Int → Bool} {f r : Int → Int → Int} {ch : Bool}
theorem tp_f0 (hK : ∀ x y, K x y = true → 0 ≤ x ∧ x < w ∧ 0 ≤ y ∧ y < g) (h1 : ∀ x y, f x y = if K x y then 1 + mnN ch f x y (-1) else 0) : ∀ (n : Nat) (x y : Int), y < n → 0 ≤ f x y := by
  intro n
  induction n with
  | zero =>
    intro x y h
    rw [h1, if_neg (fun q => by have := hK x y q; omega)]
    exact Int.le_refl _
  | succ n ih =>
    have key : ∀ (m : Nat) (x y : Int), y < ((n + 1 : Nat) : Int) → x < m → 0 ≤ f x y := by
      intro m
      induction m with
      | zero =>
        intro x y hy hx
        rw [h1, if_neg (fun q => by have := hK x y q; omega)]
        exact Int.le_refl _
      | succ m ihm =>
        intro x y hy hx
        rw [h1]
        by_cases q : K x y = true
        · rw [if_pos q]
          have a1 := ih x (y + -1) (by omega)
          have a2 := ihm (x + -1) y hy (by omega)
          have a3 := ih (x - 1) (y + -1) (by omega)
          have a4 := ih (x + 1) (y + -1) (by omega)
          unfold mnN
          split <;> omega
        · rw [if_neg q]; exact Int.le_refl _
    intro x y hy
    exact key (x + 1).toNat x y hy (by omega)
theorem tp_r0 (hK : ∀ x y, K x y = true → 0 ≤ x ∧ x < w ∧ 0 ≤ y ∧ y < g) (hf : ∀ x y, 0 ≤ f x y) (h2 : ∀ x y, r x y = if K x y then min (f x y) (1 + mnN ch r x y 1) else 0) : ∀ (n : Nat) (x y : Int), (g : Int) - y ≤ n → 0 ≤ r x y := by
  intro n
  induction n with
  | zero =>
    intro x y h
    rw [h2, if_neg (fun q => by have := hK x y q; omega)]
    exact Int.le_refl _
  | succ n ih =>
    have key : ∀ (m : Nat) (x y : Int), (g : Int) - y ≤ ((n + 1 : Nat) : Int) → (w : Int) - x ≤ m → 0 ≤ r x y := by
      intro m
      induction m with
      | zero =>
        intro x y hy hx
        rw [h2, if_neg (fun q => by have := hK x y q; omega)]
        exact Int.le_refl _
      | succ m ihm =>
        intro x y hy hx
        rw [h2]
        by_cases q : K x y = true
        · rw [if_pos q]
          have a0 := hf x y
          have a1 := ih x (y + 1) (by omega)
          have a2 := ihm (x + 1) y hy (by omega)
          have a3 := ih (x - 1) (y + 1) (by omega)
          have a4 := ih (x + 1) (y + 1) (by omega)
          unfold mnN
          split <;> omega
        · rw [if_neg q]; exact Int.le_refl _
    intro x y hy
    exact key ((w : Int) - x).toNat x y hy (by omega)
theorem tp_lip8 (hK : ∀ x y, K x y = true → 0 ≤ x ∧ x < w ∧ 0 ≤ y ∧ y < g) (h1 : ∀ x y, f x y = if K x y then 1 + mnN true f x y (-1) else 0) (h2 : ∀ x y, r x y = if K x y then min (f x y) (1 + mnN true r x y 1) else 0) (hr : ∀ x y, 0 ≤ r x y) :
    ∀ (n : Nat) (x y : Int), (g : Int) - y ≤ n → ∀ u v, nb8 x y u v → r x y ≤ r u v + 1 := by
  have hno : ∀ x y u v, K x y ≠ true → r x y ≤ r u v + 1 := fun x y u v q => by
    have a := hr u v
    rw [h2 x y, if_neg q]; omega
  intro n
  induction n with
  | zero => intro x y h u v _; exact hno x y u v (fun q => by have := hK x y q; omega)
  | succ n ih =>
    have key : ∀ (m : Nat) (x y : Int), (g : Int) - y ≤ ((n + 1 : Nat) : Int) → (w : Int) - x ≤ m → ∀ u v, nb8 x y u v → r x y ≤ r u v + 1 := by
      intro m
      induction m with
      | zero => intro x y _ h u v _; exact hno x y u v (fun q => by have := hK x y q; omega)
      | succ m ihm =>
        intro x y hy hx u v huv
        by_cases q : K x y = true
        · have e2 := h2 x y
          have e1 := h1 x y
          rw [if_pos q] at e1 e2
          simp only [mnN, if_true] at e1 e2
          rw [show x + -1 = x - 1 by omega, show y + -1 = y - 1 by omega] at e1
          obtain ⟨b0, b1, b2, b3, b4⟩ := mn8_le e2
          obtain ⟨c1, c2, c3, c4⟩ := mn8_f e1
          clear e1 e2
          have L : r x y ≤ r (x - 1) y + 1 := by
            by_cases q2 : K (x - 1) y = true
            · have eq := h2 (x - 1) y
              rw [if_pos q2] at eq
              simp only [mnN, if_true, Int.sub_add_cancel] at eq
              have i1 := ih (x - 1) (y + 1) (by omega) (x - 1 - 1) (y + 1) (by unfold nb8; omega)
              have e9 := mn8 eq
              clear eq
              rcases e9 with h | h | h | h | h <;> omega
            · have eq := h2 (x - 1) y
              have ef := h1 (x - 1) y
              rw [if_neg q2] at eq ef
              omega
          have U : r x y ≤ r x (y - 1) + 1 := by
            by_cases q2 : K x (y - 1) = true
            · have eq := h2 x (y - 1)
              rw [if_pos q2] at eq
              simp only [mnN, if_true, Int.sub_add_cancel] at eq
              have i1 := ihm (x + 1) y hy (by omega) (x + 1) (y - 1) (by unfold nb8; omega)
              have e9 := mn8 eq
              clear eq
              rcases e9 with h | h | h | h | h <;> omega
            · have eq := h2 x (y - 1)
              have ef := h1 x (y - 1)
              rw [if_neg q2] at eq ef
              omega
          have UL : r x y ≤ r (x - 1) (y - 1) + 1 := by
            by_cases q2 : K (x - 1) (y - 1) = true
            · have eq := h2 (x - 1) (y - 1)
              rw [if_pos q2] at eq
              simp only [mnN, if_true, Int.sub_add_cancel] at eq
              have i1 := ih (x - 1) (y + 1) (by omega) (x - 1 - 1) y (by unfold nb8; omega)
              have e9 := mn8 eq
              clear eq
              rcases e9 with h | h | h | h | h <;> omega
            · have eq := h2 (x - 1) (y - 1)
              have ef := h1 (x - 1) (y - 1)
              rw [if_neg q2] at eq ef
              omega
          have UR : r x y ≤ r (x + 1) (y - 1) + 1 := by
            by_cases q2 : K (x + 1) (y - 1) = true
            · have eq := h2 (x + 1) (y - 1)
              rw [if_pos q2] at eq
              simp only [mnN, if_true, Int.sub_add_cancel, Int.add_sub_cancel] at eq
              have i1 := ihm (x + 1) y hy (by omega) (x + 1 + 1) (y - 1) (by unfold nb8; omega)
              have i2 := ihm (x + 1) y hy (by omega) (x + 1 + 1) y (by unfold nb8; omega)
              have e9 := mn8 eq
              clear eq
              rcases e9 with h | h | h | h | h <;> omega
            · have eq := h2 (x + 1) (y - 1)
              have ef := h1 (x + 1) (y - 1)
              rw [if_neg q2] at eq ef
              omega
          clear c1 c2 c3 c4 ih ihm
          unfold nb8 at huv
          rcases (show (u = x - 1 ∨ u = x ∨ u = x + 1) by omega) with rfl | rfl | rfl <;> rcases (show (v = y - 1 ∨ v = y ∨ v = y + 1) by omega) with rfl | rfl | rfl <;> first | omega | exact absurd ⟨rfl, rfl⟩ huv.2.2.2.2
        · exact hno x y u v q
    intro x y hy
    exact key ((w : Int) - x).toNat x y hy (by omega)
theorem tp_lip4 (hK : ∀ x y, K x y = true → 0 ≤ x ∧ x < w ∧ 0 ≤ y ∧ y < g) (h1 : ∀ x y, f x y = if K x y then 1 + mnN false f x y (-1) else 0) (h2 : ∀ x y, r x y = if K x y then min (f x y) (1 + mnN false r x y 1) else 0) (hr : ∀ x y, 0 ≤ r x y) :
    ∀ (n : Nat) (x y : Int), (g : Int) - y ≤ n → ∀ u v, nb4 x y u v → r x y ≤ r u v + 1 := by
  have hno : ∀ x y u v, K x y ≠ true → r x y ≤ r u v + 1 := fun x y u v q => by
    have a := hr u v
    rw [h2 x y, if_neg q]; omega
  intro n
  induction n with
  | zero => intro x y h u v _; exact hno x y u v (fun q => by have := hK x y q; omega)
  | succ n ih =>
    have key : ∀ (m : Nat) (x y : Int), (g : Int) - y ≤ ((n + 1 : Nat) : Int) → (w : Int) - x ≤ m → ∀ u v, nb4 x y u v → r x y ≤ r u v + 1 := by
      intro m
      induction m with
      | zero => intro x y _ h u v _; exact hno x y u v (fun q => by have := hK x y q; omega)
      | succ m ihm =>
        intro x y hy hx u v huv
        by_cases q : K x y = true
        · have e2 := h2 x y
          have e1 := h1 x y
          rw [if_pos q] at e1 e2
          simp only [mnN, Bool.false_eq_true, if_false] at e1 e2
          rw [show x + -1 = x - 1 by omega, show y + -1 = y - 1 by omega] at e1
          have L : r x y ≤ r (x - 1) y + 1 := by
            have eq := h2 (x - 1) y
            have ef := h1 (x - 1) y
            by_cases q2 : K (x - 1) y = true
            · rw [if_pos q2] at eq
              simp only [mnN, Bool.false_eq_true, if_false, Int.sub_add_cancel] at eq
              have i1 := ih x (y + 1) (by omega) (x - 1) (y + 1) (by unfold nb4; omega)
              omega
            · rw [if_neg q2] at eq ef
              omega
          have U : r x y ≤ r x (y - 1) + 1 := by
            have eq := h2 x (y - 1)
            have ef := h1 x (y - 1)
            by_cases q2 : K x (y - 1) = true
            · rw [if_pos q2] at eq
              simp only [mnN, Bool.false_eq_true, if_false, Int.sub_add_cancel] at eq
              have i1 := ihm (x + 1) y hy (by omega) (x + 1) (y - 1) (by unfold nb4; omega)
              omega
            · rw [if_neg q2] at eq ef
              omega
          unfold nb4 at huv
          rcases huv with ⟨rfl, rfl | rfl⟩ | ⟨rfl, rfl | rfl⟩ <;> omega
        · exact hno x y u v q
    intro x y hy
    exact key ((w : Int) - x).toNat x y hy (by omega)
theorem tp_ex8 (h1 : ∀ x y, f x y = if K x y then 1 + mnN true f x y (-1) else 0) (h2 : ∀ x y, r x y = if K x y then min (f x y) (1 + mnN true r x y 1) else 0) (hl : ∀ x y u v, nb8 x y u v → r x y ≤ r u v + 1) {x y : Int} (q : K x y = true) : ∃ u v, nb8 x y u v ∧ r u v = r x y - 1 := by
  have le : ∀ u v, r u v ≤ f u v := fun u v => by
    have a1 := h1 u v
    have a2 := h2 u v
    by_cases q2 : K u v = true
    · rw [if_pos q2] at a2; omega
    · rw [if_neg q2] at a1 a2; omega
  have e2 := h2 x y
  have e1 := h1 x y
  rw [if_pos q] at e1 e2
  simp only [mnN, if_true] at e1 e2
  rw [show x + -1 = x - 1 by omega, show y + -1 = y - 1 by omega] at e1
  have l1 := le x (y - 1)
  have l2 := le (x - 1) y
  have l3 := le (x - 1) (y - 1)
  have l4 := le (x + 1) (y - 1)
  have k1 := hl x y x (y - 1) (by unfold nb8; omega)
  have k2 := hl x y (x - 1) y (by unfold nb8; omega)
  have k3 := hl x y (x - 1) (y - 1) (by unfold nb8; omega)
  have k4 := hl x y (x + 1) (y - 1) (by unfold nb8; omega)
  rcases (show r x (y + 1) = r x y - 1 ∨ r (x + 1) y = r x y - 1 ∨ r (x - 1) (y + 1) = r x y - 1 ∨ r (x + 1) (y + 1) = r x y - 1 ∨ r x (y - 1) = r x y - 1 ∨ r (x - 1) y = r x y - 1 ∨ r (x - 1) (y - 1) = r x y - 1 ∨ r (x + 1) (y - 1) = r x y - 1 by omega) with h | h | h | h | h | h | h | h <;> exact ⟨_, _, by unfold nb8; omega, h⟩
theorem tp_ex4 (h1 : ∀ x y, f x y = if K x y then 1 + mnN false f x y (-1) else 0) (h2 : ∀ x y, r x y = if K x y then min (f x y) (1 + mnN false r x y 1) else 0) (hl : ∀ x y u v, nb4 x y u v → r x y ≤ r u v + 1) {x y : Int} (q : K x y = true) : ∃ u v, nb4 x y u v ∧ r u v = r x y - 1 := by
  have le : ∀ u v, r u v ≤ f u v := fun u v => by
    have a1 := h1 u v
    have a2 := h2 u v
    by_cases q2 : K u v = true
    · rw [if_pos q2] at a2; omega
    · rw [if_neg q2] at a1 a2; omega
  have e2 := h2 x y
  have e1 := h1 x y
  rw [if_pos q] at e1 e2
  simp only [mnN, Bool.false_eq_true, if_false] at e1 e2
  rw [show x + -1 = x - 1 by omega, show y + -1 = y - 1 by omega] at e1
  have l1 := le x (y - 1)
  have l2 := le (x - 1) y
  have k1 := hl x y x (y - 1) (by unfold nb4; omega)
  have k2 := hl x y (x - 1) y (by unfold nb4; omega)
  rcases (show r x (y + 1) = r x y - 1 ∨ r (x + 1) y = r x y - 1 ∨ r x (y - 1) = r x y - 1 ∨ r (x - 1) y = r x y - 1 by omega) with h | h | h | h <;> exact ⟨_, _, by unfold nb4; omega, h⟩
end TP
theorem nb_k8 {x y : Int} {k : Int} (h : okk true k) : nb8 x y (x + sX k) (y + sY k) := by
  obtain ⟨a1, a2, -⟩ := h
  rcases (show k = 0 ∨ k = 1 ∨ k = 2 ∨ k = 3 ∨ k = 4 ∨ k = 5 ∨ k = 6 ∨ k = 7 by omega) with rfl | rfl | rfl | rfl | rfl | rfl | rfl | rfl <;> (simp only [sX, sY, nb8]; simp; try omega)
theorem nb_k4 {x y : Int} {k : Int} (h : okk false k) : nb4 x y (x + sX k) (y + sY k) := by
  obtain ⟨a1, a2, a3⟩ := h
  have a4 : k % 2 = 0 := by rcases a3 with a3 | a3; (cases a3); exact a3
  rcases (show k = 0 ∨ k = 2 ∨ k = 4 ∨ k = 6 by omega) with rfl | rfl | rfl | rfl <;> (simp only [sX, sY, nb4]; simp; try omega)
theorem nb_of8 {x y u v : Int} (h : nb8 x y u v) : ∃ k, okk true k ∧ u = x + sX k ∧ v = y + sY k := by
  unfold nb8 at h
  rcases (show (u = x - 1 ∨ u = x ∨ u = x + 1) by omega) with rfl | rfl | rfl <;> rcases (show (v = y - 1 ∨ v = y ∨ v = y + 1) by omega) with rfl | rfl | rfl
  · exact ⟨7, ⟨by decide, by decide, Or.inl rfl⟩, by simp only [sX]; simp; omega, by simp only [sY]; simp; omega⟩
  · exact ⟨6, ⟨by decide, by decide, Or.inl rfl⟩, by simp only [sX]; simp; omega, by simp only [sY]; simp⟩
  · exact ⟨5, ⟨by decide, by decide, Or.inl rfl⟩, by simp only [sX]; simp; omega, by simp only [sY]; simp⟩
  · exact ⟨0, ⟨by decide, by decide, Or.inl rfl⟩, by simp only [sX]; simp, by simp only [sY]; simp; omega⟩
  · exact absurd ⟨rfl, rfl⟩ h.2.2.2.2
  · exact ⟨4, ⟨by decide, by decide, Or.inl rfl⟩, by simp only [sX]; simp, by simp only [sY]; simp⟩
  · exact ⟨1, ⟨by decide, by decide, Or.inl rfl⟩, by simp only [sX]; simp, by simp only [sY]; simp; omega⟩
  · exact ⟨2, ⟨by decide, by decide, Or.inl rfl⟩, by simp only [sX]; simp, by simp only [sY]; simp⟩
  · exact ⟨3, ⟨by decide, by decide, Or.inl rfl⟩, by simp only [sX]; simp, by simp only [sY]; simp⟩
theorem nb_of4 {x y u v : Int} (h : nb4 x y u v) : ∃ k, okk false k ∧ u = x + sX k ∧ v = y + sY k := by
  unfold nb4 at h
  rcases h with ⟨rfl, rfl | rfl⟩ | ⟨rfl, rfl | rfl⟩
  · exact ⟨4, ⟨by decide, by decide, Or.inr (by decide)⟩, by simp only [sX]; simp, by simp only [sY]; simp⟩
  · exact ⟨0, ⟨by decide, by decide, Or.inr (by decide)⟩, by simp only [sX]; simp, by simp only [sY]; simp; omega⟩
  · exact ⟨2, ⟨by decide, by decide, Or.inr (by decide)⟩, by simp only [sX]; simp, by simp only [sY]; simp⟩
  · exact ⟨6, ⟨by decide, by decide, Or.inr (by decide)⟩, by simp only [sX]; simp; omega, by simp only [sY]; simp⟩
/-- two passes give the depths -/
theorem tp_dep {w g : Nat} {P : Nat → Bool} {ch : Bool} {f r : Int → Int → Int} (hw : 1 ≤ w) (h1 : ∀ x y, f x y = if isK w g P x y then 1 + mnN ch f x y (-1) else 0) (h2 : ∀ x y, r x y = if isK w g P x y then min (f x y) (1 + mnN ch r x y 1) else 0) :
    isDep w g P ch (fun c => r ((c : Int) % (w : Int)) ((c : Int) / (w : Int))) := by
  have hK : ∀ x y, isK w g P x y = true → 0 ≤ x ∧ x < w ∧ 0 ≤ y ∧ y < g := fun x y h => isK_bd h
  have hf : ∀ x y, 0 ≤ f x y := fun x y => tp_f0 hK h1 (y + 1).toNat x y (by omega)
  have hr : ∀ x y, 0 ≤ r x y := fun x y => tp_r0 hK hf h2 ((g : Int) - y).toNat x y (by omega)
  have hk : ∀ c, c < w * g → isK w g P ((c : Int) % (w : Int)) ((c : Int) / (w : Int)) = P c := fun c hc => by
    unfold isK
    rw [(isBd_t _ _ _ _).mpr (dm_bd hw hc), cel_dm hw, Bool.true_and]
  have hnb : ∀ c k, nbD w g (fun c => r ((c : Int) % (w : Int)) ((c : Int) / (w : Int))) c k = r ((c : Int) % (w : Int) + sX k) ((c : Int) / (w : Int) + sY k) := fun c k => by
    unfold nbD
    by_cases hb : isBd w g (nbX w c k) (nbY w c k) = true
    · rw [if_pos hb]
      have hd := dm_cel ((isBd_t _ _ _ _).mp hb)
      show r ((cel w (nbX w c k) (nbY w c k) : Int) % (w : Int)) ((cel w (nbX w c k) (nbY w c k) : Int) / (w : Int)) = _
      rw [hd.1, hd.2]
      rfl
    · rw [if_neg hb]
      have : isK w g P ((c : Int) % (w : Int) + sX k) ((c : Int) / (w : Int) + sY k) ≠ true := fun q => hb ((isBd_t _ _ _ _).mpr (isK_bd q))
      rw [h2, if_neg this]
  intro c hc
  have hkc := hk c hc
  refine ⟨fun hp => ?_, fun hp => ?_⟩
  · show r _ _ = 0
    rw [h2, if_neg (by rw [hkc, hp]; decide)]
  · rw [hp] at hkc
    show 1 ≤ r _ _ ∧ _
    have pos : 1 ≤ r ((c : Int) % (w : Int)) ((c : Int) / (w : Int)) := by
      have e2 := h2 ((c : Int) % (w : Int)) ((c : Int) / (w : Int))
      have e1 := h1 ((c : Int) % (w : Int)) ((c : Int) / (w : Int))
      rw [if_pos hkc] at e1 e2
      have m1 : 0 ≤ mnN ch f ((c : Int) % (w : Int)) ((c : Int) / (w : Int)) (-1) := by
        have b1 := hf ((c : Int) % (w : Int)) ((c : Int) / (w : Int) + -1)
        have b2 := hf ((c : Int) % (w : Int) + -1) ((c : Int) / (w : Int))
        have b3 := hf ((c : Int) % (w : Int) - 1) ((c : Int) / (w : Int) + -1)
        have b4 := hf ((c : Int) % (w : Int) + 1) ((c : Int) / (w : Int) + -1)
        unfold mnN; split <;> omega
      have m2 : 0 ≤ mnN ch r ((c : Int) % (w : Int)) ((c : Int) / (w : Int)) 1 := by
        have b1 := hr ((c : Int) % (w : Int)) ((c : Int) / (w : Int) + 1)
        have b2 := hr ((c : Int) % (w : Int) + 1) ((c : Int) / (w : Int))
        have b3 := hr ((c : Int) % (w : Int) - 1) ((c : Int) / (w : Int) + 1)
        have b4 := hr ((c : Int) % (w : Int) + 1) ((c : Int) / (w : Int) + 1)
        unfold mnN; split <;> omega
      omega
    refine ⟨pos, ?_, ?_⟩
    · cases ch with
      | true =>
        have hl : ∀ x y u v, nb8 x y u v → r x y ≤ r u v + 1 := fun x y u v h => tp_lip8 hK h1 h2 hr ((g : Int) - y).toNat x y (by omega) u v h
        obtain ⟨u, v, hn, he⟩ := tp_ex8 h1 h2 hl hkc
        obtain ⟨k, hok, hu, hv⟩ := nb_of8 hn
        exact ⟨k, hok, by rw [hnb, ← hu, ← hv]; exact he⟩
      | false =>
        have hl : ∀ x y u v, nb4 x y u v → r x y ≤ r u v + 1 := fun x y u v h => tp_lip4 hK h1 h2 hr ((g : Int) - y).toNat x y (by omega) u v h
        obtain ⟨u, v, hn, he⟩ := tp_ex4 h1 h2 hl hkc
        obtain ⟨k, hok, hu, hv⟩ := nb_of4 hn
        exact ⟨k, hok, by rw [hnb, ← hu, ← hv]; exact he⟩
    · intro k hok
      rw [hnb]
      cases ch with
      | true => exact tp_lip8 hK h1 h2 hr ((g : Int) - (c : Int) / (w : Int)).toNat _ _ (by omega) _ _ (nb_k8 hok)
      | false => exact tp_lip4 hK h1 h2 hr ((g : Int) - (c : Int) / (w : Int)).toNat _ _ (by omega) _ _ (nb_k4 hok)
/-! the passes over the array -/
def kD (w g : Nat) (P : Nat → Bool) (y x : Nat) : Bool := isK w g P ((x : Int) - 1) ((y : Int) - 1)
def mnU (ch : Bool) (d : Nat → Nat → Int) (x y : Nat) : Int := if ch then min (min (d (y - 1) x) (d y (x - 1))) (min (d (y - 1) (x - 1)) (d (y - 1) (x + 1))) else min (d (y - 1) x) (d y (x - 1))
def mnV (ch : Bool) (d : Nat → Nat → Int) (x y : Nat) : Int := if ch then min (min (d (y + 1) x) (d y (x + 1))) (min (d (y + 1) (x - 1)) (d (y + 1) (x + 1))) else min (d (y + 1) x) (d y (x + 1))
theorem kD_bd {w g : Nat} {P : Nat → Bool} {y x : Nat} (h : kD w g P y x = true) : 1 ≤ x ∧ x ≤ w ∧ 1 ≤ y ∧ y ≤ g := by
  have := isK_bd h
  omega
theorem up2_at (d : Nat → Nat → Int) (y x : Nat) (v : Int) : up2 d y x v y x = v := by
  unfold up2 va_up
  rw [if_pos rfl, if_pos rfl]
theorem up2_no {d : Nat → Nat → Int} {y x : Nat} {v : Int} {y2 x2 : Nat} (h : ¬ (y2 = y ∧ x2 = x)) : up2 d y x v y2 x2 = d y2 x2 := by
  unfold up2 va_up
  by_cases e : y2 = y
  · rw [if_pos e, if_neg (fun q => h ⟨e, q⟩), e]
  · rw [if_neg e]
/-- the first pass, when it comes to the cell x of the row y -/
def P1 (w g : Nat) (P : Nat → Bool) (ch : Bool) (d : Nat → Nat → Int) (y x : Nat) : Prop :=
  (∀ y2 x2 : Nat, d y2 x2 = if kD w g P y2 x2 = true ∧ (y2 < y ∨ (y2 = y ∧ x2 < x)) then 1 + mnU ch d x2 y2 else 0) ∧ ∀ y2 x2 : Nat, 0 ≤ d y2 x2 ∧ d y2 x2 ≤ (x2 : Int)
section PS
variable {w g : Nat} {P : Nat → Bool} {ch : Bool} {d f : Nat → Nat → Int} {y x : Nat}
theorem P1_0 : P1 w g P ch (fun _ _ => 0) 1 1 := by
  refine ⟨fun y2 x2 => ?_, fun _ x2 => ⟨Int.le_refl _, by show (0 : Int) ≤ _; omega⟩⟩
  rw [if_neg (fun q => by have := kD_bd q.1; omega)]
theorem P1_no (h : P1 w g P ch d y x) (hk : kD w g P y x = false) : P1 w g P ch d y (x + 1) := by
  refine ⟨fun y2 x2 => ?_, h.2⟩
  rw [h.1 y2 x2]
  by_cases q : kD w g P y2 x2 = true ∧ (y2 < y ∨ (y2 = y ∧ x2 < x + 1))
  · rw [if_pos q, if_pos ⟨q.1, by
      rcases q.2 with a | ⟨a, b⟩
      · exact Or.inl a
      · refine Or.inr ⟨a, ?_⟩
        rcases Nat.lt_or_ge x2 x with c | c
        · exact c
        · have : x2 = x := by omega
          rw [a, this] at q
          rw [hk] at q
          cases q.1⟩]
  · rw [if_neg q, if_neg (fun z => q ⟨z.1, by rcases z.2 with a | ⟨a, b⟩; (exact Or.inl a); exact Or.inr ⟨a, by omega⟩⟩)]
theorem P1_yes (h : P1 w g P ch d y x) (hk : kD w g P y x = true) : P1 w g P ch (up2 d y x (1 + mnU ch d x y)) y (x + 1) := by
  have hb := kD_bd hk
  have hm : ∀ y2 x2 : Nat, (y2 < y ∨ (y2 = y ∧ x2 ≤ x)) → 1 ≤ x2 → 1 ≤ y2 → mnU ch (up2 d y x (1 + mnU ch d x y)) x2 y2 = mnU ch d x2 y2 := fun y2 x2 q q1 q2 => by
    unfold mnU
    rw [up2_no (y2 := y2 - 1) (x2 := x2) (by omega), up2_no (y2 := y2) (x2 := x2 - 1) (by omega), up2_no (y2 := y2 - 1) (x2 := x2 - 1) (by omega), up2_no (y2 := y2 - 1) (x2 := x2 + 1) (by omega)]
  have h0 : 0 ≤ mnU ch d x y ∧ mnU ch d x y ≤ (x : Int) - 1 := by
    have a1 := h.2 (y - 1) x
    have a2 := h.2 y (x - 1)
    have a3 := h.2 (y - 1) (x - 1)
    have a4 := h.2 (y - 1) (x + 1)
    unfold mnU
    split <;> omega
  refine ⟨fun y2 x2 => ?_, fun y2 x2 => ?_⟩
  · by_cases e : y2 = y ∧ x2 = x
    · obtain ⟨rfl, rfl⟩ := e
      rw [up2_at, if_pos ⟨hk, Or.inr ⟨rfl, by omega⟩⟩, hm y2 x2 (Or.inr ⟨rfl, Nat.le_refl _⟩) (by omega) (by omega)]
    · rw [up2_no e, h.1 y2 x2]
      by_cases q : kD w g P y2 x2 = true ∧ (y2 < y ∨ (y2 = y ∧ x2 < x))
      · have hb2 := kD_bd q.1
        rw [if_pos q, if_pos ⟨q.1, by rcases q.2 with a | ⟨a, b⟩; (exact Or.inl a); exact Or.inr ⟨a, by omega⟩⟩, hm y2 x2 (by rcases q.2 with a | ⟨a, b⟩; (exact Or.inl a); exact Or.inr ⟨a, by omega⟩) (by omega) (by omega)]
      · rw [if_neg q, if_neg (fun z => q ⟨z.1, by
          rcases z.2 with a | ⟨a, b⟩
          · exact Or.inl a
          · exact Or.inr ⟨a, by
              rcases Nat.lt_or_ge x2 x with c | c
              · exact c
              · exact absurd ⟨a, by omega⟩ e⟩⟩)]
  · by_cases e : y2 = y ∧ x2 = x
    · obtain ⟨rfl, rfl⟩ := e
      rw [up2_at]; omega
    · rw [up2_no e]; exact h.2 y2 x2
theorem P1_row (h : P1 w g P ch d y x) (hx : w < x) : P1 w g P ch d (y + 1) 1 := by
  refine ⟨fun y2 x2 => ?_, h.2⟩
  rw [h.1 y2 x2]
  by_cases q : kD w g P y2 x2 = true
  · have hb := kD_bd q
    by_cases q2 : y2 < y + 1
    · rw [if_pos ⟨q, by omega⟩, if_pos ⟨q, Or.inl q2⟩]
    · rw [if_neg (fun z => by have := z.2; omega), if_neg (fun z => by have := z.2; omega)]
  · rw [if_neg (fun z => q z.1), if_neg (fun z => q z.1)]
theorem P1_end (h : P1 w g P ch d y x) (hy : g < y) : ∀ y2 x2 : Nat, d y2 x2 = if kD w g P y2 x2 = true then 1 + mnU ch d x2 y2 else 0 := fun y2 x2 => by
  rw [h.1 y2 x2]
  by_cases q : kD w g P y2 x2 = true
  · have hb := kD_bd q
    rw [if_pos ⟨q, Or.inl (by omega)⟩, if_pos q]
  · rw [if_neg (fun z => q z.1), if_neg q]
/-- the second pass, the other way, when it comes to the cell x of the row y -/
def P2 (w g : Nat) (P : Nat → Bool) (ch : Bool) (f d : Nat → Nat → Int) (y x : Nat) : Prop :=
  (∀ y2 x2 : Nat, d y2 x2 = if kD w g P y2 x2 = true then (if y < y2 ∨ (y2 = y ∧ x < x2) then min (f y2 x2) (1 + mnV ch d x2 y2) else f y2 x2) else 0) ∧ ∀ y2 x2 : Nat, 0 ≤ d y2 x2 ∧ d y2 x2 ≤ (x2 : Int)
theorem P2_0 (h : ∀ y2 x2 : Nat, f y2 x2 = if kD w g P y2 x2 = true then 1 + mnU ch f x2 y2 else 0) (hr : ∀ y2 x2 : Nat, 0 ≤ f y2 x2 ∧ f y2 x2 ≤ (x2 : Int)) : P2 w g P ch f f g w := by
  refine ⟨fun y2 x2 => ?_, hr⟩
  by_cases q : kD w g P y2 x2 = true
  · have hb := kD_bd q
    rw [if_pos q, if_neg (by omega)]
  · rw [if_neg q]
    have := h y2 x2
    rw [if_neg q] at this
    exact this
theorem P2_no (h : P2 w g P ch f d y (x + 1)) (hk : kD w g P y (x + 1) = false) : P2 w g P ch f d y x := by
  refine ⟨fun y2 x2 => ?_, h.2⟩
  rw [h.1 y2 x2]
  by_cases q : kD w g P y2 x2 = true
  · rw [if_pos q, if_pos q]
    by_cases e : y2 = y ∧ x2 = x + 1
    · obtain ⟨rfl, rfl⟩ := e
      rw [hk] at q; cases q
    · by_cases z : y < y2 ∨ (y2 = y ∧ x + 1 < x2)
      · rw [if_pos z, if_pos (by omega)]
      · rw [if_neg z, if_neg (by omega)]
  · rw [if_neg q, if_neg q]
theorem P2_yes (h : P2 w g P ch f d y (x + 1)) (hf : ∀ y2 x2 : Nat, 0 ≤ f y2 x2 ∧ f y2 x2 ≤ (x2 : Int)) (hk : kD w g P y (x + 1) = true) : P2 w g P ch f (up2 d y (x + 1) (min (d y (x + 1)) (1 + mnV ch d (x + 1) y))) y x := by
  have hb := kD_bd hk
  have hdf : d y (x + 1) = f y (x + 1) := by rw [h.1 y (x + 1), if_pos hk, if_neg (by omega)]
  have hm : ∀ y2 x2 : Nat, (y < y2 ∨ (y2 = y ∧ x + 1 ≤ x2)) → 1 ≤ x2 → mnV ch (up2 d y (x + 1) (min (d y (x + 1)) (1 + mnV ch d (x + 1) y))) x2 y2 = mnV ch d x2 y2 := fun y2 x2 q q1 => by
    unfold mnV
    rw [up2_no (y2 := y2 + 1) (x2 := x2) (by omega), up2_no (y2 := y2) (x2 := x2 + 1) (by omega), up2_no (y2 := y2 + 1) (x2 := x2 - 1) (by omega), up2_no (y2 := y2 + 1) (x2 := x2 + 1) (by omega)]
  have h0 : 0 ≤ mnV ch d (x + 1) y := by
    have a1 := h.2 (y + 1) (x + 1)
    have a2 := h.2 y (x + 1 + 1)
    have a3 := h.2 (y + 1) (x + 1 - 1)
    have a4 := h.2 (y + 1) (x + 1 + 1)
    unfold mnV
    split <;> omega
  refine ⟨fun y2 x2 => ?_, fun y2 x2 => ?_⟩
  · by_cases e : y2 = y ∧ x2 = x + 1
    · obtain ⟨rfl, rfl⟩ := e
      rw [up2_at, if_pos hk, if_pos (Or.inr ⟨rfl, by omega⟩), hm y2 (x + 1) (Or.inr ⟨rfl, Nat.le_refl _⟩) (by omega), hdf]
    · rw [up2_no e, h.1 y2 x2]
      by_cases q : kD w g P y2 x2 = true
      · have hb2 := kD_bd q
        rw [if_pos q, if_pos q]
        by_cases z : y < y2 ∨ (y2 = y ∧ x + 1 < x2)
        · rw [if_pos z, if_pos (by omega), hm y2 x2 (by omega) (by omega)]
        · rw [if_neg z, if_neg (by omega)]
      · rw [if_neg q, if_neg q]
  · by_cases e : y2 = y ∧ x2 = x + 1
    · obtain ⟨rfl, rfl⟩ := e
      have := h.2 y2 (x + 1)
      rw [up2_at]; omega
    · rw [up2_no e]; exact h.2 y2 x2
theorem P2_row (h : P2 w g P ch f d (y + 1) 0) : P2 w g P ch f d y w := by
  refine ⟨fun y2 x2 => ?_, h.2⟩
  rw [h.1 y2 x2]
  by_cases q : kD w g P y2 x2 = true
  · have hb := kD_bd q
    rw [if_pos q, if_pos q]
    by_cases z : y < y2 ∨ (y2 = y ∧ w < x2)
    · rw [if_pos z, if_pos (by omega)]
    · rw [if_neg z, if_neg (by omega)]
  · rw [if_neg q, if_neg q]
theorem P2_end (h : P2 w g P ch f d 0 x) : ∀ y2 x2 : Nat, d y2 x2 = if kD w g P y2 x2 = true then min (f y2 x2) (1 + mnV ch d x2 y2) else 0 := fun y2 x2 => by
  rw [h.1 y2 x2]
  by_cases q : kD w g P y2 x2 = true
  · have hb := kD_bd q
    rw [if_pos q, if_pos q, if_pos (by omega)]
  · rw [if_neg q, if_neg q]
/-- when a cell is ink: its depth so far isn't 0 -/
theorem P2_pos (h1 : ∀ y2 x2 : Nat, f y2 x2 = if kD w g P y2 x2 = true then 1 + mnU ch f x2 y2 else 0) (hr : ∀ y2 x2 : Nat, 0 ≤ f y2 x2 ∧ f y2 x2 ≤ (x2 : Int)) (h : P2 w g P ch f d y x) : 0 < d y x ↔ kD w g P y x = true := by
  rw [h.1 y x]
  by_cases q : kD w g P y x = true
  · rw [if_pos q, if_neg (by omega), h1 y x, if_pos q]
    have a1 := hr (y - 1) x
    have a2 := hr y (x - 1)
    have a3 := hr (y - 1) (x - 1)
    have a4 := hr (y - 1) (x + 1)
    refine ⟨fun _ => q, fun _ => ?_⟩
    unfold mnU
    split <;> omega
  · rw [if_neg q]
    exact ⟨fun z => by omega, fun z => absurd z q⟩
/-- the depths, with a side of ground around them -/
noncomputable def dpG (w g : Nat) (P : Nat → Bool) (ch : Bool) : Nat → Nat → Int := fun y x => if kD w g P y x = true then depF w g P ch (cel w ((x : Int) - 1) ((y : Int) - 1)) else 0
theorem P2_dep (hw : 1 ≤ w) (h1 : ∀ y2 x2 : Nat, f y2 x2 = if kD w g P y2 x2 = true then 1 + mnU ch f x2 y2 else 0) (h2 : ∀ y2 x2 : Nat, d y2 x2 = if kD w g P y2 x2 = true then min (f y2 x2) (1 + mnV ch d x2 y2) else 0) : d = dpG w g P ch ∧ isDep w g P ch (depF w g P ch) := by
  have ex : ∀ a : Nat → Nat → Int, ∀ x y : Int, 0 ≤ x → 0 ≤ y → (fun x y : Int => if -1 ≤ x ∧ -1 ≤ y then a (y + 1).toNat (x + 1).toNat else 0) x y = a (y + 1).toNat (x + 1).toNat := fun a x y hx hy => if_pos (by omega)
  have hdep := tp_dep (w := w) (g := g) (P := P) (ch := ch) (f := fun x y : Int => if -1 ≤ x ∧ -1 ≤ y then f (y + 1).toNat (x + 1).toNat else 0) (r := fun x y : Int => if -1 ≤ x ∧ -1 ≤ y then d (y + 1).toNat (x + 1).toNat else 0) hw ?_ ?_
  · refine ⟨?_, Classical.epsilon_spec (p := isDep w g P ch) ⟨_, hdep⟩⟩
    funext y x
    unfold dpG
    by_cases q : kD w g P y x = true
    · rw [if_pos q]
      have hb := kD_bd q
      have hbd : 0 ≤ (x : Int) - 1 ∧ (x : Int) - 1 < w ∧ 0 ≤ (y : Int) - 1 ∧ (y : Int) - 1 < g := by omega
      have e := isDep_F hdep (cel w ((x : Int) - 1) ((y : Int) - 1)) (cel_int hbd).2
      rw [← e]
      have hd := dm_cel hbd
      show d y x = (if -1 ≤ ((cel w ((x : Int) - 1) ((y : Int) - 1) : Nat) : Int) % (w : Int) ∧ -1 ≤ ((cel w ((x : Int) - 1) ((y : Int) - 1) : Nat) : Int) / (w : Int) then _ else _)
      rw [hd.1, hd.2, if_pos (by omega), show ((y : Int) - 1 + 1).toNat = y by omega, show ((x : Int) - 1 + 1).toNat = x by omega]
    · rw [if_neg q, h2 y x, if_neg q]
  · intro x y
    show (if -1 ≤ x ∧ -1 ≤ y then f (y + 1).toNat (x + 1).toNat else 0) = _
    by_cases q : isK w g P x y = true
    · have hb := isK_bd q
      have qk : kD w g P (y + 1).toNat (x + 1).toNat = true := by
        unfold kD
        rw [show (((x + 1).toNat : Nat) : Int) - 1 = x by omega, show (((y + 1).toNat : Nat) : Int) - 1 = y by omega]
        exact q
      rw [if_pos (by omega), if_pos q, h1, if_pos qk]
      congr 1
      unfold mnU mnN
      simp only []
      rw [if_pos (show -1 ≤ x ∧ -1 ≤ y + -1 by omega), if_pos (show -1 ≤ x + -1 ∧ -1 ≤ y by omega), if_pos (show -1 ≤ x - 1 ∧ -1 ≤ y + -1 by omega), if_pos (show -1 ≤ x + 1 ∧ -1 ≤ y + -1 by omega)]
      rw [show (y + 1).toNat - 1 = (y + -1 + 1).toNat by omega, show (x + 1).toNat - 1 = (x - 1 + 1).toNat by omega, show (x + -1 + 1).toNat = (x - 1 + 1).toNat by omega, show (x + 1).toNat + 1 = (x + 1 + 1).toNat by omega]
    · rw [if_neg q]
      by_cases z : -1 ≤ x ∧ -1 ≤ y
      · rw [if_pos z, h1, if_neg]
        unfold kD
        rw [show (((x + 1).toNat : Nat) : Int) - 1 = x by omega, show (((y + 1).toNat : Nat) : Int) - 1 = y by omega]
        exact q
      · rw [if_neg z]
  · intro x y
    show (if -1 ≤ x ∧ -1 ≤ y then d (y + 1).toNat (x + 1).toNat else 0) = _
    by_cases q : isK w g P x y = true
    · have hb := isK_bd q
      have qk : kD w g P (y + 1).toNat (x + 1).toNat = true := by
        unfold kD
        rw [show (((x + 1).toNat : Nat) : Int) - 1 = x by omega, show (((y + 1).toNat : Nat) : Int) - 1 = y by omega]
        exact q
      rw [if_pos (by omega), if_pos q, h2, if_pos qk]
      rw [if_pos (show -1 ≤ x ∧ -1 ≤ y by omega)]
      congr 2
      unfold mnV mnN
      simp only []
      rw [if_pos (show -1 ≤ x ∧ -1 ≤ y + 1 by omega), if_pos (show -1 ≤ x + 1 ∧ -1 ≤ y by omega), if_pos (show -1 ≤ x - 1 ∧ -1 ≤ y + 1 by omega), if_pos (show -1 ≤ x + 1 ∧ -1 ≤ y + 1 by omega)]
      rw [show (y + 1).toNat + 1 = (y + 1 + 1).toNat by omega, show (x + 1).toNat + 1 = (x + 1 + 1).toNat by omega, show (x + 1).toNat - 1 = (x - 1 + 1).toNat by omega]
    · rw [if_neg q]
      by_cases z : -1 ≤ x ∧ -1 ≤ y
      · rw [if_pos z, h2, if_neg]
        unfold kD
        rw [show (((x + 1).toNat : Nat) : Int) - 1 = x by omega, show (((y + 1).toNat : Nat) : Int) - 1 = y by omega]
        exact q
      · rw [if_neg z]
end PS
theorem mnU_rng {ch : Bool} {d : Nat → Nat → Int} (h : ∀ y x : Nat, 0 ≤ d y x ∧ d y x ≤ (x : Int)) {x y : Nat} (hx : 1 ≤ x) : 0 ≤ mnU ch d x y ∧ mnU ch d x y ≤ (x : Int) - 1 := by
  have a1 := h (y - 1) x
  have a2 := h y (x - 1)
  have a3 := h (y - 1) (x - 1)
  have a4 := h (y - 1) (x + 1)
  unfold mnU
  split <;> omega
theorem mnV_rng {ch : Bool} {d : Nat → Nat → Int} (h : ∀ y x : Nat, 0 ≤ d y x ∧ d y x ≤ (x : Int)) {x y : Nat} : 0 ≤ mnV ch d x y ∧ mnV ch d x y ≤ (x : Int) + 1 := by
  have a1 := h (y + 1) x
  have a2 := h y (x + 1)
  have a3 := h (y + 1) (x - 1)
  have a4 := h (y + 1) (x + 1)
  unfold mnV
  split <;> omega
