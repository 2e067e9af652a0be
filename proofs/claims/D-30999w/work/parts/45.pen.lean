/-! drawing a cell, its growth -/
set_option maxRecDepth 100000
theorem setB_up (P : Nat → Bool) (i : Nat) (v : Bool) : setB P i v = va_up P i v := by
  funext j
  unfold setB va_up
  by_cases e : j = i
  · subst e
    rw [if_pos rfl]
    cases v <;> simp [ins, del]
  · rw [if_neg e]
    cases v <;> simp [ins, del, e]
/-- the words when a cell has been drawn -/
def dN (w g : Nat) (x y : Int) (z : Bool) (n : Nat) : Nat := if isBd w g x y then sN n (cel w x y) z else n
theorem sN_cost (n i : Nat) (v : Bool) : n ≤ sN n i v ∧ sC n i v ≤ sN n i v - n ∧ sS n i v ≤ 2 * (sN n i v - n) := by
  cases v
  · exact ⟨Nat.le_refl _, Nat.zero_le _, Nat.zero_le _⟩
  · show n ≤ gN n _ ∧ gC n _ ≤ gN n _ - n ∧ gS n _ ≤ 2 * (gN n _ - n)
    unfold gN gC gS
    split <;> omega
theorem drw_BB {w g : Nat} {x y : Int} {z : Bool} {P : Nat → Bool} {n : Nat} (hw : w * g ≤ 1024) (h : BB P n) : BB (drw w g x y z P) (dN w g x y z n) := by
  unfold drw dN
  by_cases q : isBd w g x y = true
  · rw [if_pos q, if_pos q, ← setB_up]
    exact BB_set h (by have := (cel_int ((isBd_t _ _ _ _).mp q)).2; omega) z
  · rw [if_neg q, if_neg q]; exact h
theorem drw_z {w g : Nat} {x y : Int} {z : Bool} {P : Nat → Bool} (h : ∀ j, w * g ≤ j → P j = false) : ∀ j, w * g ≤ j → drw w g x y z P j = false := by
  intro j hj
  unfold drw
  by_cases q : isBd w g x y = true
  · rw [if_pos q]
    unfold va_up
    have := (cel_int ((isBd_t _ _ _ _).mp q)).2
    rw [if_neg (by omega)]; exact h j hj
  · rw [if_neg q]; exact h j hj
