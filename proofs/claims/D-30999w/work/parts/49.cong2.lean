/-! congruence: runs, depths, joins, strokes -/
set_option maxRecDepth 100000
section CG2
variable {w g : Nat} {P Q : Nat → Bool}
theorem isF_cg (h : ∀ j, j < w * g → P j = Q j) (x y : Int) : isF w g P x y = isF w g Q x y := by unfold isF; rw [isK_cg h, isK_cg h]
theorem rnO_cg (h : ∀ j, j < w * g → P j = Q j) (y : Int) : rnO w g P y = rnO w g Q y := fb_ct_cong (fun x _ => isF_cg h _ _)
theorem rowP_cg (h : ∀ j, j < w * g → P j = Q j) (y : Int) : rowP w g P y = rowP w g Q y := by funext x; exact isK_cg h _ _
theorem rnA_cg (h : ∀ j, j < w * g → P j = Q j) : ∀ n, rnA w g P n = rnA w g Q n
  | 0 => rfl
  | n + 1 => by rw [rnA, rnA, rnA_cg h n, rnO_cg h]
theorem drw_cg (h : ∀ j, j < w * g → P j = Q j) (x y : Int) (z : Bool) : ∀ j, j < w * g → drw w g x y z P j = drw w g x y z Q j := fun j hj => by
  unfold drw
  split
  · unfold va_up; split
    · rfl
    · exact h j hj
  · exact h j hj
theorem chg_xor (P Q : Nat → Bool) (n : Nat) : fb_ct (xorB P Q) n = chg P Q n := fb_ct_cong (fun k _ => by unfold xorB; cases P k <;> cases Q k <;> rfl)
theorem xor_full (hw : w * g ≤ 1024) (hz : ∀ j, w * g ≤ j → P j = false) (hz2 : ∀ j, w * g ≤ j → Q j = false) : fb_ct (xorB P Q) 1024 = chg P Q (w * g) := by
  rw [← chg_xor]
  exact ct_ext hw (fun j hj => by unfold xorB; rw [hz j hj, hz2 j hj]; rfl)
end CG2
