/-! the thinned picture as a set -/
set_option maxRecDepth 100000
theorem thK_sub (w g : Nat) : ∀ (f : Nat) (ik : Nat → Bool) (j : Nat), ik j = false → (thK w g f ik).2 j = false
  | 0, ik, j, h => by show hlf w g false (hlf w g true ik) j = false; unfold hlf hlfI; rw [h]; rfl
  | f + 1, ik, j, h => by
    have h2 : thP w g ik j = false := by show hlf w g false (hlf w g true ik) j = false; unfold hlf hlfI; rw [h]; rfl
    rw [thK]
    split
    · exact h2
    · exact thK_sub w g f _ j h2
theorem thR_sub {w g : Nat} {ik : Nat → Bool} {j : Nat} (h : ik j = false) : (thR w g ik).2 j = false := thK_sub w g _ ik j h
theorem thR_BB {w g : Nat} {P : Nat → Bool} {n : Nat} (h : BB P n) (_ : ∀ j, w * g ≤ j → P j = false) : BB (thR w g P).2 n := BB_sub h (fun _ q => thR_sub q)
