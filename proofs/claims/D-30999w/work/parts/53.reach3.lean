/-! parts and holes: what has been seen -/
set_option maxRecDepth 100000
noncomputable def snI (w g : Nat) (P : Nat → Bool) (b : Bool) (i : Nat) : Nat → Bool := fun j => decide (j < w * g) && decide (0 ≤ lbI w g P b j ∧ lbI w g P b j < (i : Int))
noncomputable def pkI (w g : Nat) (P : Nat → Bool) (c : Nat) : Bool := decide (lbI w g P true c = (c : Int))
noncomputable def hkI (w g : Nat) (P : Nat → Bool) (c : Nat) : Bool := decide (lbI w g P false c = (c : Int)) && !opn w g (lbI w g P false) (c : Int)
theorem gN_cost {n : Nat} (r : Nat) (hn : 1 ≤ n) : n ≤ gN n r ∧ gC n r ≤ gN n r - n ∧ gS n r ≤ 2 * (gN n r - n) := by
  unfold gN gC gS
  split <;> omega
section SN
variable {w g : Nat} {P : Nat → Bool} {b : Bool} {c i j : Nat}
theorem lab_ok (hj : j < w * g) (hp : P j = b) : ∃ r : Nat, lbI w g P b j = (r : Int) ∧ r < w * g ∧ P r = b ∧ r ≤ j ∧ lbI w g P b r = (r : Int) := by
  have k2 : (fun i => P i == b) j = true := by show (P j == b) = true; rw [hp]; exact beq_self_eq_true b
  have hr := rep_ok (kd := fun i => P i == b) (ch := b) hj k2
  refine ⟨rep w g (fun i => P i == b) b j, by unfold lbI labF; rw [if_pos k2], hr.1, eq_of_beq hr.2.1, rep_le (kd := fun i => P i == b) hj k2, ?_⟩
  unfold lbI labF
  rw [if_pos hr.2.1]
  congr 1
  refine (rep_one (kd := fun i => P i == b) hr.1 hr.2.1 ⟨hr.1, hr.2.1, con_rf _ _ _ _ _, fun q hq hkq hcq => ?_⟩).symm
  exact hr.2.2.2 q hq hkq (con_trans hcq hr.2.2.1)
theorem lab_fix (hj : j < w * g) (h : lbI w g P b j = (c : Int)) : c < w * g ∧ P c = b ∧ lbI w g P b c = (c : Int) := by
  have hp : P j = b := by
    cases hq : decide (P j = b) with
    | true => exact of_decide_eq_true hq
    | false =>
      have := lbI_kd (w := w) (g := g).mpr (of_decide_eq_false hq)
      omega
  obtain ⟨r, h1, h2, h3, h4, h5⟩ := lab_ok hj hp
  have : r = c := by omega
  subst this
  exact ⟨h2, h3, h5⟩
theorem snI_0 : snI w g P b 0 = fun _ => false := by
  funext j
  unfold snI
  rw [decide_eq_false (p := 0 ≤ lbI w g P b j ∧ lbI w g P b j < ((0 : Nat) : Int)) (by omega), Bool.and_false]
theorem snI_z (hj : w * g ≤ j) : snI w g P b i j = false := by unfold snI; rw [decide_eq_false (by omega)]; rfl
theorem snI_skip (h : ∀ j, j < w * g → lbI w g P b j ≠ (i : Int)) : snI w g P b (i + 1) = snI w g P b i := by
  funext j
  unfold snI
  by_cases hj : j < w * g
  · have := h j hj
    congr 1
    rw [decide_eq_decide]
    omega
  · rw [decide_eq_false hj]; rfl
theorem snI_kd (h : P i ≠ b) : snI w g P b (i + 1) = snI w g P b i := snI_skip (fun _ hj e => h (lab_fix hj e).2.1)
theorem snI_out (h : w * g ≤ i) : snI w g P b (i + 1) = snI w g P b i := snI_skip (fun _ hj e => by have := (lab_fix hj e).1; omega)
theorem snI_at (hc : c < w * g) (hp : P c = b) : snI w g P b c c = !decide (lbI w g P b c = (c : Int)) := by
  obtain ⟨r, h1, h2, h3, h4, h5⟩ := lab_ok hc hp
  unfold snI
  rw [decide_eq_true hc, Bool.true_and, h1]
  by_cases e : (r : Int) = (c : Int)
  · rw [decide_eq_true e, decide_eq_false (by omega)]; rfl
  · rw [decide_eq_false e, decide_eq_true (by omega)]; rfl
theorem snI_old (hc : c < w * g) (h : lbI w g P b c ≠ (c : Int)) : snI w g P b (c + 1) = snI w g P b c := snI_skip (fun _ hj e => h (lab_fix hj e).2.2)
theorem snI_new (h : lbI w g P b c = (c : Int)) : orB (snI w g P b c) (rcS w g P b c) = snI w g P b (c + 1) := by
  funext j
  unfold orB snI rcS
  rw [h, ← Bool.and_or_distrib_left, ← Bool.decide_or]
  congr 1
  rw [decide_eq_decide]
  omega
theorem snI_ct (h : lbI w g P b c = (c : Int)) : fb_ct (snI w g P b (c + 1)) (w * g) = fb_ct (snI w g P b c) (w * g) + fb_ct (rcS w g P b c) (w * g) := by
  rw [← snI_new h]
  refine fb_ct_or (fun k hk q => ?_)
  obtain ⟨q1, q2⟩ := q
  unfold snI at q1
  unfold rcS at q2
  rw [Bool.and_eq_true, decide_eq_true_eq, decide_eq_true_eq] at q1 q2
  omega
theorem snI_le : fb_ct (snI w g P b i) (w * g) ≤ fb_ct (fun j => P j == b) (w * g) := fb_ct_sub (fun k hk h => by
  unfold snI at h
  rw [Bool.and_eq_true, decide_eq_true_eq, decide_eq_true_eq] at h
  show (P k == b) = true
  cases hq : decide (P k = b) with
  | true => rw [of_decide_eq_true hq]; exact beq_self_eq_true b
  | false =>
    have := lbI_kd (w := w) (g := g).mpr (of_decide_eq_false hq)
    omega)
theorem rcS_ct (hc : c < w * g) : 1 ≤ fb_ct (rcS w g P b c) (w * g) := fb_ct_pos.mpr ⟨c, hc, by unfold rcS; rw [decide_eq_true hc, decide_eq_true rfl]; rfl⟩
theorem snI_run (hij : i ≤ j) (hz : ∀ q, i ≤ q → q < j → P q ≠ b) : snI w g P b j = snI w g P b i := by
  induction j with
  | zero => rw [show i = 0 by omega]
  | succ j ih =>
    by_cases e : i = j + 1
    · rw [e]
    · rw [snI_kd (hz j (by omega) (by omega)), ih (by omega) (fun q h1 h2 => hz q h1 (by omega))]
theorem pk_run (hij : i ≤ j) (hz : ∀ q, i ≤ q → q < j → P q = false) : fb_ct (pkI w g P) j = fb_ct (pkI w g P) i := by
  induction j with
  | zero => rw [show i = 0 by omega]
  | succ j ih =>
    by_cases e : i = j + 1
    · rw [e]
    · have : pkI w g P j = false := decide_eq_false (fun q => by
        have h9 := lbI_kd (w := w) (g := g) (b := true).mpr (show P j ≠ true by rw [hz j (by omega) (by omega)]; decide)
        omega)
      rw [fb_ct_succ, this, ih (by omega) (fun q h1 h2 => hz q h1 (by omega))]
      rfl
theorem hk_kd (h : P c = true) : hkI w g P c = false := by
  unfold hkI
  rw [decide_eq_false (fun q => by
    have h9 := lbI_kd (w := w) (g := g) (b := false).mpr (show P c ≠ false by rw [h]; decide)
    omega)]
  rfl
theorem tch_opn (hwg : w * g ≤ 1024) (h : lbI w g P b c = (c : Int)) : tchI w g (rcS w g P b c) 1024 = opn w g (lbI w g P b) (c : Int) := by
  unfold tchI opn
  congr 1
  rw [ct_ext hwg (fun j hj => by rw [rcS_z hj]; rfl)]
  refine fb_ct_cong (fun k hk => ?_)
  unfold rcS
  rw [decide_eq_true hk, h, Bool.true_and]
theorem nxt_rc (hwg : w * g ≤ 1024) (hc : c < w * g) (hp : P c = b) : nxt (rcS w g P b c) 0 = lbI w g P b c := by
  obtain ⟨r, h1, h2, h3, h4, h5⟩ := lab_ok hc hp
  rw [h1]
  refine nxt_hit (by unfold rcS; rw [decide_eq_true h2, h5, h1, decide_eq_true rfl]; rfl) (Nat.zero_le _) (by omega) (fun q _ hq => ?_)
  cases hr : rcS w g P b c q with
  | false => rfl
  | true =>
    obtain ⟨q1, q2, q3⟩ := rcS_kd hp hr
    obtain ⟨s, e1, e2, e3, e4, -⟩ := lab_ok q1 q2
    omega
theorem rc_siz (hwg : w * g ≤ 1024) : fb_ct (rcS w g P b c) 1024 = sizN w g P b (lbI w g P b c) := by
  rw [ct_ext hwg (fun j hj => rcS_z hj)]
  exact fb_ct_cong (fun k hk => by unfold rcS; rw [decide_eq_true hk, Bool.true_and])
theorem or_fil (hz : ∀ j, w * g ≤ j → P j = false) : orB P (rcS w g P false c) = filF w g P c := by
  funext j
  unfold orB filF flw rcS
  by_cases hj : j < w * g
  · rw [if_pos hj, decide_eq_true hj, Bool.true_and]
  · rw [if_neg hj, decide_eq_false hj, hz j (by omega)]; rfl
theorem prt_eq : fb_ct (pkI w g P) (w * g) = prtN w g P := rfl
theorem hol_eq : fb_ct (hkI w g P) (w * g) = holN w g P := rfl
theorem kd_sum : fb_ct (fun j => P j == true) (w * g) + fb_ct (fun j => P j == false) (w * g) = w * g := by
  have h := fb_ct_not P (w * g)
  rw [show fb_ct (fun j => P j == true) (w * g) = fb_ct P (w * g) from fb_ct_cong (fun k _ => by cases P k <;> rfl), show fb_ct (fun j => P j == false) (w * g) = fb_ct (fun k => !P k) (w * g) from fb_ct_cong (fun k _ => by cases P k <;> rfl)]
  exact h
theorem rc_le : fb_ct (rcS w g P b c) (w * g) ≤ w * g := fb_ct_le _ _
end SN
