/-! what is reached from a cell: the queue's invariant -/
set_option maxRecDepth 100000
/-- the part of c among the cells of the kind b -/
noncomputable def rcS (w g : Nat) (P : Nat → Bool) (b : Bool) (c : Nat) : Nat → Bool := fun j => decide (j < w * g) && decide (lbI w g P b j = lbI w g P b c)
def rcI (w g : Nat) (P : Nat → Bool) (b : Bool) (c : Nat) (R : Nat → Bool) (Z : List Nat) : Prop :=
  R c = true ∧ (∀ j, R j = true → j < w * g ∧ P j = b ∧ Con w g (fun i => P i == b) b c j) ∧ (∀ z ∈ Z, R z = true) ∧
  (∀ j, R j = true → j ∉ Z → ∀ k, okk b k → nbB w g j k = true → P (nbC w j k) = b → R (nbC w j k) = true)
def rcJ (w g : Nat) (P : Nat → Bool) (b : Bool) (c : Nat) (R : Nat → Bool) (Z : List Nat) (fr : Nat) (d : Int) : Prop :=
  R c = true ∧ (∀ j, R j = true → j < w * g ∧ P j = b ∧ Con w g (fun i => P i == b) b c j) ∧ (∀ z ∈ Z, R z = true) ∧ R fr = true ∧
  (∀ j, R j = true → j ∉ Z → ∀ k, okk b k → (j = fr → k < d) → nbB w g j k = true → P (nbC w j k) = b → R (nbC w j k) = true)
section RC
variable {w g : Nat} {P R : Nat → Bool} {b : Bool} {c fr : Nat} {Z : List Nat} {d : Int}
theorem rcI_0 (hc : c < w * g) (hb : P c = b) : rcI w g P b c (ins (fun _ => false) c) [c] := by
  have e : ∀ j, ins (fun _ => false) c j = true → j = c := fun j h => by
    unfold ins at h
    simpa using h
  refine ⟨by unfold ins; simp, fun j h => ?_, fun z hz => ?_, fun j h hj => ?_⟩
  · rw [e j h]; exact ⟨hc, hb, con_rf _ _ _ _ _⟩
  · rw [List.mem_singleton.mp hz]; unfold ins; simp
  · exact absurd (List.mem_singleton.mpr (e j h)) hj
theorem rcJ_0 (h : rcI w g P b c R (fr :: Z)) : rcJ w g P b c R Z fr 0 := by
  obtain ⟨h1, h2, h3, h4⟩ := h
  refine ⟨h1, h2, fun z hz => h3 z (List.mem_cons_of_mem _ hz), h3 fr List.mem_cons_self, fun j hj hz k hok hd hb hp => ?_⟩
  by_cases e : j = fr
  · have := hd e
    have := hok.1
    omega
  · exact h4 j hj (fun q => by rcases List.mem_cons.mp q with q | q; (exact e q); exact hz q) k hok hb hp
theorem rcJ_end (h : rcJ w g P b c R Z fr d) (hd : 8 ≤ d) : rcI w g P b c R Z := by
  obtain ⟨h1, h2, h3, -, h5⟩ := h
  exact ⟨h1, h2, h3, fun j hj hz k hok hb hp => h5 j hj hz k hok (fun _ => by have := hok.2.1; omega) hb hp⟩
theorem rcJ_no (h : rcJ w g P b c R Z fr d) (hn : nbB w g fr d = true → P (nbC w fr d) = b → R (nbC w fr d) = true) : rcJ w g P b c R Z fr (d + 1) := by
  obtain ⟨h1, h2, h3, h4, h5⟩ := h
  refine ⟨h1, h2, h3, h4, fun j hj hz k hok hd hb hp => ?_⟩
  by_cases e : j = fr ∧ k = d
  · obtain ⟨rfl, rfl⟩ := e
    exact hn hb hp
  · exact h5 j hj hz k hok (fun q => by have := hd q; rcases Int.lt_or_le k d with q2 | q2; (exact q2); exact absurd ⟨q, by omega⟩ e) hb hp
theorem rcJ_add (h : rcJ w g P b c R Z fr d) (hok : okk b d) (hb : nbB w g fr d = true) (hp : P (nbC w fr d) = b) : rcJ w g P b c (ins R (nbC w fr d)) (Z ++ [nbC w fr d]) fr (d + 1) := by
  obtain ⟨h1, h2, h3, h4, h5⟩ := h
  have up : ∀ j, R j = true → ins R (nbC w fr d) j = true := fun j hj => by unfold ins; rw [hj]; rfl
  refine ⟨up c h1, fun j hj => ?_, fun z hz => ?_, up fr h4, fun j hj hz k hk hd hb2 hp2 => ?_⟩
  · unfold ins at hj
    rw [Bool.or_eq_true, decide_eq_true_eq] at hj
    rcases hj with hj | hj
    · exact h2 j hj
    · subst hj
      refine ⟨nbC_lt hb, hp, con_st (h2 fr h4).2.2 ⟨d, hok, hb, rfl, ?_⟩⟩
      show (P (nbC w fr d) == b) = true
      rw [hp]; exact beq_self_eq_true b
  · rcases List.mem_append.mp hz with q | q
    · exact up z (h3 z q)
    · rw [List.mem_singleton.mp q]; unfold ins; simp
  · have hjn : j ≠ nbC w fr d := fun q => hz (List.mem_append_right _ (List.mem_singleton.mpr q))
    have hjR : R j = true := by
      unfold ins at hj
      rw [decide_eq_false hjn, Bool.or_false] at hj
      exact hj
    by_cases e : j = fr ∧ k = d
    · obtain ⟨rfl, rfl⟩ := e
      unfold ins; simp
    · exact up _ (h5 j hjR (fun q => hz (List.mem_append_left _ q)) k hk (fun q => by have := hd q; rcases Int.lt_or_le k d with q2 | q2; (exact q2); exact absurd ⟨q, by omega⟩ e) hb2 hp2)
theorem rcJ_st {st : Int} (hst : st = if b then 1 else 2) (hd : b = false → d % 2 = 0) (h : rcJ w g P b c R Z fr (d + 1)) : rcJ w g P b c R Z fr (d + st) := by
  cases b with
  | true => rw [if_pos rfl] at hst; rw [hst]; exact h
  | false =>
    rw [if_neg (by decide)] at hst
    subst hst
    obtain ⟨h1, h2, h3, h4, h5⟩ := h
    refine ⟨h1, h2, h3, h4, fun j hj hz k hok hd2 hb hp => h5 j hj hz k hok (fun q => ?_) hb hp⟩
    have := hd2 q
    have := hd rfl
    rcases hok.2.2 with q3 | q3
    · cases q3
    · omega
theorem rc_okk (hd0 : 0 ≤ d) (hd8 : d < 8) (hd : b = false → d % 2 = 0) : okk b d := ⟨hd0, hd8, by cases b with | true => exact Or.inl rfl | false => exact Or.inr (hd rfl)⟩
theorem rcS_of (hw : 1 ≤ w) (hc : c < w * g) (hb : P c = b) {j : Nat} (hj : j < w * g) (hp : P j = b) (h : Con w g (fun i => P i == b) b c j) : rcS w g P b c j = true := by
  have k1 : (fun i => P i == b) c = true := by show (P c == b) = true; rw [hb]; exact beq_self_eq_true b
  have k2 : (fun i => P i == b) j = true := by show (P j == b) = true; rw [hp]; exact beq_self_eq_true b
  have e := (rep_con hw hc k1 hj k2).mp h
  unfold rcS
  rw [decide_eq_true hj, Bool.true_and]
  apply decide_eq_true
  unfold lbI labF
  rw [if_pos k1, if_pos k2, e]
theorem rcS_kd (hb : P c = b) {j : Nat} (h : rcS w g P b c j = true) : j < w * g ∧ P j = b ∧ lbI w g P b j = lbI w g P b c := by
  unfold rcS at h
  rw [Bool.and_eq_true, decide_eq_true_eq, decide_eq_true_eq] at h
  refine ⟨h.1, ?_, h.2⟩
  have h1 : lbI w g P b j ≠ -1 := by
    rw [h.2]
    intro q
    exact absurd hb (lbI_kd.mp q)
  cases hq : decide (P j = b) with
  | true => exact of_decide_eq_true hq
  | false => exact absurd (lbI_kd.mpr (of_decide_eq_false hq)) h1
theorem rcS_con (hw : 1 ≤ w) (hc : c < w * g) (hb : P c = b) {j : Nat} (h : rcS w g P b c j = true) : Con w g (fun i => P i == b) b c j := by
  obtain ⟨hj, hp, he⟩ := rcS_kd hb h
  have k1 : (fun i => P i == b) c = true := by show (P c == b) = true; rw [hb]; exact beq_self_eq_true b
  have k2 : (fun i => P i == b) j = true := by show (P j == b) = true; rw [hp]; exact beq_self_eq_true b
  apply (rep_con hw hc k1 hj k2).mpr
  unfold lbI labF at he
  rw [if_pos k1, if_pos k2] at he
  omega
theorem rcI_sub (hw : 1 ≤ w) (hc : c < w * g) (hb : P c = b) (h2 : ∀ j, R j = true → j < w * g ∧ P j = b ∧ Con w g (fun i => P i == b) b c j) : ∀ j, R j = true → rcS w g P b c j = true := fun j hj => by
  obtain ⟨a1, a2, a3⟩ := h2 j hj
  exact rcS_of hw hc hb a1 a2 a3
theorem rcI_end (hw : 1 ≤ w) (hc : c < w * g) (hb : P c = b) (h : rcI w g P b c R []) : R = rcS w g P b c := by
  obtain ⟨h1, h2, -, h4⟩ := h
  have cl : ∀ (n j : Nat), conN w g (fun i => P i == b) b n c j → R j = true := by
    intro n
    induction n with
    | zero => intro j hj; cases hj; exact h1
    | succ n ih =>
      intro j hj
      obtain ⟨q, hq1, k, hok, hb2, hc2, hp2⟩ := hj
      subst hc2
      exact h4 q (ih q hq1) (by simp) k hok hb2 (eq_of_beq hp2)
  funext j
  cases hr : rcS w g P b c j with
  | true =>
    obtain ⟨n, hn⟩ := rcS_con hw hc hb hr
    exact cl n j hn
  | false =>
    cases hq : R j with
    | false => rfl
    | true => rw [rcI_sub hw hc hb h2 j hq] at hr; cases hr
theorem rcS_z {j : Nat} (hj : w * g ≤ j) : rcS w g P b c j = false := by unfold rcS; rw [decide_eq_false (by omega)]; rfl
theorem rc_ct (hw : 1 ≤ w) (hc : c < w * g) (hb : P c = b) (hwg : w * g ≤ 1024) (h2 : ∀ j, R j = true → j < w * g ∧ P j = b ∧ Con w g (fun i => P i == b) b c j) : fb_ct R 1024 ≤ fb_ct (rcS w g P b c) (w * g) := by
  rw [ct_ext hwg (fun j hj => by
    cases hr : R j with
    | false => rfl
    | true => have := (h2 j hr).1; omega)]
  exact fb_ct_sub (fun k _ hk => rcI_sub hw hc hb h2 k hk)
theorem ct_ins {i : Nat} (h : R i = false) (hi : i < 1024) : fb_ct (ins R i) 1024 = fb_ct R 1024 + 1 := by
  have h1 := fb_ct_upd R true hi
  rw [h] at h1
  have e : (fun k => if k = i then true else R k) = ins R i := by
    funext k
    unfold ins
    by_cases q : k = i
    · rw [if_pos q, decide_eq_true q, Bool.or_true]
    · rw [if_neg q, decide_eq_false q, Bool.or_false]
  rw [e] at h1
  simpa using h1
theorem ct_one {i : Nat} (hi : i < 1024) : fb_ct (ins (fun _ => false) i) 1024 = 1 := by
  rw [ct_ins rfl hi, show fb_ct (fun _ => false) 1024 = 0 from fb_ct_zero.mpr (fun _ _ => rfl)]
end RC
/-! the queue's ring: its lengths, what its growth has cost -/
def chn : List Nat := [17, 36, 74, 111, 166, 249, 373, 559, 838, 1257]
def dS (n : Nat) : Nat := if n ≤ 17 then 0 else if n ≤ 36 then 36 else if n ≤ 74 then 110 else if n ≤ 111 then 221 else if n ≤ 166 then 387 else if n ≤ 249 then 636 else if n ≤ 373 then 1009 else if n ≤ 559 then 1568 else if n ≤ 838 then 2406 else 3663
def dOK (n k : Nat) : Prop := n ∈ chn ∧ dS n ≤ 9 * k
theorem chn_all : ∀ n ∈ chn, 17 ≤ n ∧ n ≤ 1257 ∧ (n ≤ 1100 → gq n ∈ chn ∧ dS (gq n) = dS n + gq n ∧ dS (gq n) ≤ 9 * n) := by decide
theorem dOK_0 : dOK 17 1 := ⟨by decide, by decide⟩
theorem dOK_rng {n k : Nat} (h : dOK n k) : 17 ≤ n ∧ n ≤ 1400 := by
  have := chn_all n h.1
  omega
theorem dOK_up {n k m : Nat} (h : dOK n k) (hk : k ≤ m) : dOK n m := ⟨h.1, by have := h.2; omega⟩
theorem dOK_add {n k len : Nat} (h : dOK n k) (hl : len ≤ k) (hk : k < 1024) : dOK (dqN n len) (k + 1) ∧ dS (dqN n len) = dS n + dqS n len ∧ dqC n len ≤ 1 := by
  obtain ⟨h1, h2⟩ := h
  have ha := chn_all n h1
  unfold dqN dqS dqC
  by_cases e : len + 1 = n
  · rw [if_pos e, if_pos e, if_pos e]
    obtain ⟨a1, a2, a3⟩ := ha.2.2 (by omega)
    exact ⟨⟨a1, by omega⟩, a2, Nat.le_refl _⟩
  · rw [if_neg e, if_neg e, if_neg e]
    exact ⟨⟨h1, by omega⟩, by omega, by omega⟩
abbrev rcL (Z : List (Nat × Nat)) : List Nat := Z.map (fun q => q.1)
abbrev rcZ (Z : List (Nat × Nat)) : List Nat := Z.map (fun q => q.2)
theorem rcL_len (Z : List (Nat × Nat)) : (rcL Z).length = Z.length := List.length_map _
theorem rcL_app (Z : List (Nat × Nat)) (q : Nat × Nat) : rcL (Z ++ [q]) = rcL Z ++ [q.1] := by simp [rcL]
theorem rcZ_app (Z : List (Nat × Nat)) (q : Nat × Nat) : rcZ (Z ++ [q]) = rcZ Z ++ [q.2] := by simp [rcZ]
theorem rcX_add {E : TE} {M N : List (Nat × Int)} {Z : List (Nat × Nat)} {r v : Nat} (h : ∀ q ∈ Z, bxv E M q.1 ((q.2 : Nat) : Int)) (h2 : bxv E N r ((v : Nat) : Int)) : ∀ q ∈ Z ++ [(r, v)], bxv E (M ++ N) q.1 ((q.2 : Nat) : Int) := fun q hq => by
  rcases List.mem_append.mp hq with h1 | h1
  · exact bxv_left (h q h1)
  · rw [List.mem_singleton.mp h1]; exact bxv_right h2
theorem rcX_all {E : TE} {M N : List (Nat × Int)} {Z : List (Nat × Nat)} {r v : Nat} (h : ∀ q ∈ Z, bxv E M q.1 ((q.2 : Nat) : Int)) (h2 : bxv E N r ((v : Nat) : Int)) : ∀ y ∈ r :: rcL Z, ∃ z, bxv E (M ++ N) y z := fun y hy => by
  rcases List.mem_cons.mp hy with h1 | h1
  · exact ⟨_, by rw [h1]; exact bxv_right h2⟩
  · obtain ⟨q, hq, rfl⟩ := List.mem_map.mp h1
    exact ⟨_, bxv_left (h q hq)⟩
/-! pools: the fixed cells alone -/
theorem tx_Psub {G : va_G} {cl : List vw_C} {H : Heap} {fx pool wr : va_W} (h : va_P G cl (fx ++ pool) H) (is : List Nat) (hR : is.map (fun i => fx[i]?) = wr.map some) : va_P G cl wr H := h.subM is (pl_F hR)
theorem tx_Dsub {A : Nat → Prop} {fx pool wr : va_W} (h : va_D A (fx ++ pool)) (is : List Nat) (hn : va_nd is = true) (hR : is.map (fun i => fx[i]?) = wr.map some) : va_D A wr := h.sub is hn (pl_F hR)
theorem pl_Pp {G : va_G} {cl : List vw_C} {H : Heap} {fx pool wr : va_W} (h : va_P G cl (fx ++ pool) H) (is : List Nat) (hR : is.map (fun i => fx[i]?) = wr.map some) : va_P G cl (wr ++ pool) H := h.subM _ (pl_R hR)
theorem pl_Dp {A : Nat → Prop} {fx pool wr : va_W} (h : va_D A (fx ++ pool)) (is : List Nat) (hn : va_nd is = true) (hR : is.map (fun i => fx[i]?) = wr.map some) : va_D A (wr ++ pool) := h.sub _ (pl_ndR hn (pl_lt hR)) (pl_R hR)
