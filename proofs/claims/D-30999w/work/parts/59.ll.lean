/-! linked lists of runs: the last run first -/
set_option maxRecDepth 100000
/-- a node's place, its run's place, the run's first column, its length -/
abbrev RR : Type := Nat × Nat × Int × Int
def llH (L : List RR) : Option Nat := L.head?.map (fun r => r.1)
def llF (L : List RR) : Option Nat := L.getLast?.map (fun r => r.1)
def llW : Option Nat → List RR → va_W
  | _, [] => []
  | nx, r :: L => (r.1, .inr (7, [.ref r.2.1, va_rf nx, va_rf (llH L)])) :: (r.2.1, .inr (8, [.int (iI r.2.2.1), .int (iI r.2.2.2)])) :: llW (some r.1) L
/-- the run with the number k -/
def llG (L : List RR) (k : Nat) : RR := L.getD (L.length - 1 - k) (0, 0, 0, 0)
def llNx (nx : Option Nat) (L : List RR) (k : Nat) : Option Nat := if k + 1 < L.length then some (llG L (k + 1)).1 else nx
def llPv (L : List RR) (k : Nat) : Option Nat := if k = 0 then none else some (llG L (k - 1)).1
theorem llG_last (r : RR) (L : List RR) : llG (r :: L) L.length = r := by
  unfold llG
  simp
theorem llG_old (r : RR) (L : List RR) {k : Nat} (h : k < L.length) : llG (r :: L) k = llG L k := by
  unfold llG
  rw [List.length_cons, show L.length + 1 - 1 - k = (L.length - 1 - k) + 1 by omega]
  rfl
theorem llH_some {L : List RR} (h : 0 < L.length) : llH L = some (llG L (L.length - 1)).1 := by
  cases L with
  | nil => exact absurd h (by decide)
  | cons r L => rw [List.length_cons, Nat.add_sub_cancel, llG_last]; rfl
theorem llF_some {L : List RR} (h : 0 < L.length) : llF L = some (llG L 0).1 := by
  unfold llF llG
  rw [Nat.sub_zero, List.getLast?_eq_getElem?, List.getElem?_eq_getElem (by omega), List.getD_eq_getElem?_getD, List.getElem?_eq_getElem (by omega)]
  rfl
theorem ll_node {L : List RR} : ∀ {nx : Option Nat} {k : Nat}, k < L.length → (((llG L k).1, Sum.inr (7, [Value.ref (llG L k).2.1, va_rf (llNx nx L k), va_rf (llPv L k)])) : Nat × va_E) ∈ llW nx L := by
  induction L with
  | nil => intro nx k h; exact absurd h (Nat.not_lt_zero _)
  | cons r L ih =>
    intro nx k h
    rw [List.length_cons] at h
    by_cases e : k = L.length
    · subst e
      rw [llG_last]
      have e1 : llNx nx (r :: L) L.length = nx := if_neg (by rw [List.length_cons]; omega)
      have e2 : llPv (r :: L) L.length = llH L := by
        unfold llPv
        by_cases z : L.length = 0
        · rw [if_pos z, List.eq_nil_of_length_eq_zero z]; rfl
        · rw [if_neg z, llH_some (by omega), llG_old r L (by omega)]
      rw [e1, e2]
      exact List.mem_cons_self
    · have hk : k < L.length := by omega
      have h1 := ih (nx := some r.1) hk
      rw [llG_old r L hk]
      have e1 : llNx nx (r :: L) k = llNx (some r.1) L k := by
        unfold llNx
        rw [List.length_cons, if_pos (by omega)]
        by_cases z : k + 1 < L.length
        · rw [if_pos z, llG_old r L z]
        · rw [if_neg z, show k + 1 = L.length by omega, llG_last]
      have e2 : llPv (r :: L) k = llPv L k := by
        unfold llPv
        by_cases z : k = 0
        · rw [if_pos z, if_pos z]
        · rw [if_neg z, if_neg z, llG_old r L (by omega)]
      rw [e1, e2]
      exact List.mem_cons_of_mem _ (List.mem_cons_of_mem _ h1)
theorem ll_run {L : List RR} : ∀ {nx : Option Nat} {k : Nat}, k < L.length → (((llG L k).2.1, Sum.inr (8, [Value.int (iI (llG L k).2.2.1), Value.int (iI (llG L k).2.2.2)])) : Nat × va_E) ∈ llW nx L := by
  induction L with
  | nil => intro nx k h; exact absurd h (Nat.not_lt_zero _)
  | cons r L ih =>
    intro nx k h
    rw [List.length_cons] at h
    by_cases e : k = L.length
    · subst e
      rw [llG_last]
      exact List.mem_cons_of_mem _ List.mem_cons_self
    · have hk : k < L.length := by omega
      rw [llG_old r L hk]
      exact List.mem_cons_of_mem _ (List.mem_cons_of_mem _ (ih (nx := some r.1) hk))
theorem pl_mem {G : va_G} {cl : List vw_C} {H : Heap} {w1 w2 : va_W} (h : ∀ q, q ∈ w2 → q ∈ w1) (hP : va_P G cl w1 H) : va_P G cl w2 H := by
  intro k q hk
  obtain ⟨j, hj⟩ := List.mem_iff_getElem?.mp (h q (List.mem_of_getElem? hk))
  exact hP j q hj
theorem pl_mem1 {G : va_G} {cl : List vw_C} {H : Heap} {w1 w2 : va_W} (h : ∀ q, q ∈ w2 → q ∈ w1) (hP : va_P G cl w1 H) : va_P G cl w2 H := pl_mem h hP
/-- two pools: put together behind the fixed cells -/
theorem pl_P2 {G : va_G} {cl : List vw_C} {H : Heap} {w1 w2 p1 p2 : va_W} (h : va_P G cl ((w1 ++ p1) ++ (w2 ++ p2)) H) : va_P G cl ((w1 ++ w2) ++ (p1 ++ p2)) H :=
  pl_mem (fun q hq => by
    simp only [List.mem_append] at hq ⊢
    rcases hq with (h | h) | (h | h)
    · exact Or.inl (Or.inl h)
    · exact Or.inr (Or.inl h)
    · exact Or.inl (Or.inr h)
    · exact Or.inr (Or.inr h)) h
theorem pl_D2 {A : Nat → Prop} {w1 w2 p1 p2 : va_W} (h : va_D A ((w1 ++ p1) ++ (w2 ++ p2))) : va_D A ((w1 ++ w2) ++ (p1 ++ p2)) := by
  rw [va_D_iff] at h ⊢
  have pm : ((w1 ++ p1) ++ (w2 ++ p2)).Perm ((w1 ++ w2) ++ (p1 ++ p2)) := by
    rw [List.append_assoc, List.append_assoc]
    refine List.Perm.append_left _ ?_
    rw [← List.append_assoc, ← List.append_assoc]
    exact List.Perm.append_right _ List.perm_append_comm
  exact ⟨(pm.map _).nodup_iff.mp h.1, fun q hq => h.2 q (pm.mem_iff.mpr hq)⟩
theorem va_D.sublist {A : Nat → Prop} {w1 w2 : va_W} (hs : w2.Sublist w1) (h : va_D A w1) : va_D A w2 := by
  rw [va_D_iff] at h ⊢
  exact ⟨(hs.map _).nodup h.1, fun q hq => h.2 q (hs.subset hq)⟩
/-! the runs of a row, column by column -/
def rnK (p : Nat → Bool) (x k : Nat) (r : RR) : Prop := ∃ s e : Nat, r.2.2.1 = (s : Int) ∧ r.2.2.2 = ((e - s : Nat) : Int) ∧ s < e ∧ e ≤ x ∧ rfst p s = true ∧ fb_ct (rfst p) s = k ∧ (∀ t, s ≤ t → t < e → p t = true) ∧ (e = x ∨ p e = false)
def llI (p : Nat → Bool) (x : Nat) (L : List RR) : Prop :=
  L.length = fb_ct (rfst p) x ∧ (∀ k, k < L.length → rnK p x k (llG L k)) ∧ (0 < x → p (x - 1) = true → ∃ r L2, L = r :: L2 ∧ r.2.2.1 + r.2.2.2 = (x : Int))
section LI
variable {p : Nat → Bool} {x : Nat} {L : List RR}
theorem llI_0 : llI p 0 [] := ⟨rfl, fun k h => absurd h (Nat.not_lt_zero _), fun h => absurd h (Nat.lt_irrefl _)⟩
theorem llI_no (h : llI p x L) (hp : p x = false) : llI p (x + 1) L := by
  obtain ⟨h1, h2, h3⟩ := h
  have hf : rfst p x = false := by unfold rfst; rw [hp]; rfl
  refine ⟨by rw [fb_ct_succ, hf, h1]; rfl, fun k hk => ?_, fun _ q => ?_⟩
  · obtain ⟨s, e, a1, a2, a3, a4, a5, a6, a7, a8⟩ := h2 k hk
    refine ⟨s, e, a1, a2, a3, by omega, a5, a6, a7, ?_⟩
    rcases a8 with a8 | a8
    · right; rw [a8]; exact hp
    · exact Or.inr a8
  · rw [Nat.add_sub_cancel, hp] at q
    cases q
theorem llI_new (h : llI p x L) (hp : p x = true) (hn : ¬ (0 < x ∧ p (x - 1) = true)) (nd ra : Nat) : llI p (x + 1) ((nd, ra, (x : Int), 1) :: L) := by
  obtain ⟨h1, h2, h3⟩ := h
  have hf : rfst p x = true := by
    unfold rfst
    rw [hp, Bool.true_and]
    by_cases q : 0 < x
    · rw [decide_eq_true q, Bool.true_and]
      cases hq : p (x - 1) with
      | true => exact absurd ⟨q, hq⟩ hn
      | false => rfl
    · rw [decide_eq_false q]; rfl
  refine ⟨by rw [List.length_cons, fb_ct_succ, hf, h1]; rfl, fun k hk => ?_, fun _ _ => ⟨_, _, rfl, by show (x : Int) + 1 = _; omega⟩⟩
  rw [List.length_cons] at hk
  by_cases e : k = L.length
  · subst e
    rw [llG_last]
    refine ⟨x, x + 1, rfl, by show (1 : Int) = _; omega, by omega, Nat.le_refl _, hf, h1.symm, fun t b1 b2 => ?_, Or.inl rfl⟩
    rw [show t = x by omega]; exact hp
  · rw [llG_old _ L (by omega)]
    obtain ⟨s, e, a1, a2, a3, a4, a5, a6, a7, a8⟩ := h2 k (by omega)
    refine ⟨s, e, a1, a2, a3, by omega, a5, a6, a7, ?_⟩
    rcases a8 with a8 | a8
    · exact absurd ⟨by omega, a7 (x - 1) (by omega) (by omega)⟩ hn
    · exact Or.inr a8
theorem llI_ext {r : RR} (h : llI p x (r :: L)) (hp : p x = true) (h0 : 0 < x) (h9 : p (x - 1) = true) : llI p (x + 1) ((r.1, r.2.1, r.2.2.1, r.2.2.2 + 1) :: L) := by
  obtain ⟨h1, h2, h3⟩ := h
  obtain ⟨r2, L2, e0, hs⟩ := h3 h0 h9
  cases e0
  have hf : rfst p x = false := by
    unfold rfst
    rw [hp, decide_eq_true h0, h9]; rfl
  have hl := h2 L.length (by rw [List.length_cons]; omega)
  rw [llG_last] at hl
  obtain ⟨s, e, a1, a2, a3, a4, a5, a6, a7, a8⟩ := hl
  have ex : e = x := by omega
  subst ex
  refine ⟨by rw [fb_ct_succ, hf, ← h1]; rfl, fun k hk => ?_, fun _ _ => ⟨_, _, rfl, by show r.2.2.1 + (r.2.2.2 + 1) = _; omega⟩⟩
  rw [List.length_cons] at hk
  by_cases ek : k = L.length
  · subst ek
    rw [llG_last]
    refine ⟨s, e + 1, a1, by show r.2.2.2 + 1 = _; omega, by omega, Nat.le_refl _, a5, a6, fun t b1 b2 => ?_, Or.inl rfl⟩
    by_cases q : t = e
    · rw [q]; exact hp
    · exact a7 t b1 (by omega)
  · rw [llG_old _ L (by omega)]
    have hk2 := h2 k (by rw [List.length_cons]; omega)
    rw [llG_old _ L (by omega)] at hk2
    obtain ⟨s2, e2, b1, b2, b3, b4, b5, b6, b7, b8⟩ := hk2
    refine ⟨s2, e2, b1, b2, b3, by omega, b5, b6, b7, ?_⟩
    rcases b8 with b8 | b8
    · exfalso
      subst b8
      have key : ∀ u v : Nat, u < v → v < e2 → rfst p v = true → (∀ t, u ≤ t → t < e2 → p t = true) → False := fun u v c1 c2 c3 c4 => by
        unfold rfst at c3
        rw [decide_eq_true (show 0 < v by omega), c4 (v - 1) (by omega) (by omega)] at c3
        simp at c3
      rcases Nat.lt_trichotomy s s2 with c | c | c
      · exact key s s2 c b3 b5 a7
      · subst c
        omega
      · exact key s2 s c a3 a5 b7
    · exact Or.inr b8
theorem llI_end (h : llI p x L) {k : Nat} (hk : k < L.length) : (llG L k).2.2.1 = ((rnX p k x : Nat) : Int) ∧ (llG L k).2.2.2 = ((rlen p (rnX p k x) x : Nat) : Int) := by
  obtain ⟨s, e, a1, a2, a3, a4, a5, a6, a7, a8⟩ := h.2.1 k hk
  have e1 := rnX_is a5 a6 x (by omega)
  rw [e1, rlen_is (by omega) a7 x a4 a8]
  exact ⟨a1, a2⟩
end LI
theorem isK_m1 {w g : Nat} {P : Nat → Bool} {x : Nat} {y : Int} : isK w g P ((x : Int) - 1) y = (decide (0 < x) && rowP w g P y (x - 1)) := by
  by_cases h : 0 < x
  · rw [decide_eq_true h, Bool.true_and]
    unfold rowP
    rw [show ((x - 1 : Nat) : Int) = (x : Int) - 1 by omega]
  · rw [decide_eq_false h, Bool.false_and]
    cases hk : isK w g P ((x : Int) - 1) y with
    | false => rfl
    | true => have := isK_bd hk; omega
/-! calls whose selected method is another class's -/
theorem lw_U {own : String} {idx : Nat} {C owner : String} {x y : MethodName} {b : ByteArray} {L : Nat} {r : Option FieldType} (h1 : Cond.methodLink own idx x ∈ lw_all) (h2 : Cond.sameMethod x.cls owner x.name x.desc ∈ lw_all) (h3 : Cond.selects C x y ∈ lw_all) (h4 : Cond.instanceMethod y ∈ lw_all) (h5 : Cond.initialized y.cls ∈ lw_all) (h6 : Cond.code y b L r ∈ lw_all) : GoodIn lw_all (va_wsU own idx C owner x y (ws_ y b L r)) :=
  lw_app (fun w hw => by
    simp only [List.mem_cons, List.not_mem_nil, or_false] at hw
    rcases hw with rfl | rfl | rfl | rfl | rfl <;> assumption) (lw_meth h6)
theorem lw_F {own : String} {idx : Nat} {C : String} {x y : MethodName} {b : ByteArray} {L : Nat} {r : Option FieldType} (h1 : Cond.methodLink own idx x ∈ lw_all) (h3 : Cond.selects C x y ∈ lw_all) (h4 : Cond.instanceMethod y ∈ lw_all) (h5 : Cond.initialized y.cls ∈ lw_all) (h6 : Cond.code y b L r ∈ lw_all) : GoodIn lw_all (va_wsF own idx C x y (ws_ y b L r)) :=
  lw_app (fun w hw => by
    simp only [List.mem_cons, List.not_mem_nil, or_false] at hw
    rcases hw with rfl | rfl | rfl | rfl <;> assumption) (lw_meth h6)
section TCU
variable {p : Program} {l : Launch} {e : Env} {R : Room} {s : State} {m : MethodId} {args : Array Value} {below : List Frame} {meth : Method} {c : Code} {H : Heap} {locs : List Loc} {cells slots : Nat} {Q : State → Prop}
variable {cc : ByteArray} {pc nL : Nat} {ls : Array Slot} {rest st0 : List Value} {D : TG} {E : TE} {A : Nat → Prop} {ret : Option FieldType} {y : MethodName}
variable {x2 y2 : MethodName} {bytes : ByteArray} {maxL index count n fr lo mc ms b : Nat} {ret2 : Option FieldType} {As : List Value} {ws wc wr : va_W} {Y : (Nat → Prop) → State → Prop} {S : Type} {post : S → Prop} {rv : S → Option Value} {wo : S → va_W} {C2 owner : String} {r : Option Value}
theorem t_callU (C : tC p s m args meth c cc nL ret y) (hM : tMet l y2 bytes maxL ret2 fr lo mc ms (.ref b :: As) D E wc Y post rv wo)
    (cw : va_CU R s args y.cls C2 owner index x2 y2 bytes maxL ret2 (ws_ y2 bytes maxL ret2) ({ frames := fr, cells := mc, slots := ms, locals := lo }) mc ms n)
    (hv : ∃ cell : Cell, H[b]? = some cell ∧ cell.vm.isStatics = false ∧ s.vm.findClass C2 = some cell.cls)
    (hK : tK D s) (hX : tX E A s s.heap) (hP : va_P D.1 clAll ws H) (hD : va_D A ws) (hS : va_S A s.heap H locs) (hA : ∀ q : Nat, s.heap.size ≤ q → A q) (isC isR : List Nat) (hC : isC.map (fun i => ws[i]?) = wc.map some) (hR : isR.map (fun i => ws[i]?) = wr.map some) (hnC : va_nd isC = true) (hnR : va_nd isR = true) (hdis : ∀ i ∈ isR, i ∉ isC) (hYb : tYb Y) (hY : ∀ U : State, U.heap = H → s.WarmedH U.vm → Y (va_A wc H.size) U)
    (hn : As.length = n) (hsz : ls.size = nL) (hst : st0 = As.reverse ++ .ref b :: rest) (hW : (rest.map fun v => v.category).sum ≤ 8) (hdg : decode cc pc = .ok (.invokevirtual index, 3)) (hf : cells + mc ≤ R.cells ∧ slots + ms ≤ R.slots)
    (kk : ∀ (u : S) (H1 : Heap) (locs1 : List Loc), post u → va_P D.1 clAll (wr ++ wo u) H1 → va_D A (wr ++ wo u) → va_S A s.heap H1 locs1 → W p l e R s m args below meth c H1 locs1 (cells + mc) (slots + ms) Q (F0 m (pc + 3) ls ((rv u).toList ++ rest))) : W p l e R s m args below meth c H locs cells slots Q (F0 m pc ls st0) := by
  obtain ⟨h1, h2, h3, h4, h5, -⟩ := C
  exact t_after rfl (va_runU (C := C2) (owner := owner) (g := F0 m pc ls st0) (rest := rest) ⟨h1, h2, h3, h4, h5⟩ (hM H.size) cw ⟨t_blind hYb, hv, fun U hU hW => ⟨rfl, t_pre hK hX hP hD hS hA isC hnC hC hY U hU hW⟩⟩ rfl hn hsz hst (lv_room hW) hdg hf) hP hD hS hA isC isR hC hR hnR hdis kk
end TCU
/-! a pool of two pieces, the callee's the last one -/
theorem pl_C2 {fx pA pB wF : va_W} {is : List Nat} (h : is.map (fun i => fx[i]?) = wF.map some) : (is ++ List.range' (fx.length + pA.length) pB.length).map (fun i => (fx ++ (pA ++ pB))[i]?) = (wF ++ pB).map some := by
  rw [← List.append_assoc, ← List.length_append]
  exact pl_R (pl_F h)
theorem pl_R2 {fx pA pB wF : va_W} {is : List Nat} (h : is.map (fun i => fx[i]?) = wF.map some) : (is ++ List.range' fx.length pA.length).map (fun i => (fx ++ (pA ++ pB))[i]?) = (wF ++ pA).map some := by
  rw [← List.append_assoc]
  exact pl_F (pl_R h)
theorem pl_nd2 {n a m : Nat} {is : List Nat} (h1 : va_nd is = true) (h2 : ∀ i ∈ is, i < n) : va_nd (is ++ List.range' (n + a) m) = true := pl_ndR h1 (fun i hi => by have := h2 i hi; omega)
theorem pl_dis1 {n m : Nat} {isR isC : List Nat} (h1 : ∀ i ∈ isR, i ∉ isC) (h2 : ∀ i ∈ isR, i < n) : ∀ i ∈ isR, i ∉ isC ++ List.range' n m := by
  intro i hi hc
  rcases List.mem_append.mp hc with h | h
  · exact h1 i hi h
  · have := h2 i hi
    rw [List.mem_range'] at h
    omega
theorem pl_dis2 {n a m : Nat} {isR isC : List Nat} (h1 : ∀ i ∈ isR, i ∉ isC) (h2 : ∀ i ∈ isR, i < n) (h3 : ∀ i ∈ isC, i < n) : ∀ i ∈ isR ++ List.range' n a, i ∉ isC ++ List.range' (n + a) m := by
  intro i hi hc
  rcases List.mem_append.mp hi with h | h <;> rcases List.mem_append.mp hc with h4 | h4
  · exact h1 i h h4
  · have := h2 i h
    rw [List.mem_range'] at h4
    omega
  · have := h3 i h4
    rw [List.mem_range'] at h
    omega
  · rw [List.mem_range'] at h h4
    omega
/-- the node that the iterator stands at -/
def llXt (L : List RR) (k : Nat) : Option Nat := if k < L.length then some (llG L k).1 else none
theorem llXt_0 (L : List RR) : llXt L 0 = llF L := by
  unfold llXt
  by_cases h : 0 < L.length
  · rw [if_pos h, llF_some h]
  · rw [if_neg h, show L = [] from List.eq_nil_of_length_eq_zero (by omega)]; rfl
theorem llF_same (r : RR) (a : Nat) (b c : Int) (L : List RR) : llF (r :: L) = llF ((r.1, a, b, c) :: L) := by
  cases L with
  | nil => rfl
  | cons x L => rfl
theorem llF_cons (r x : RR) (L : List RR) : llF (x :: r :: L) = llF (r :: L) := rfl
theorem txO_nar (r : Option Nat) (C : String) : narrow (.object C) (va_rf r) = va_rf r := by cases r <;> rfl
theorem txO_fit (r : Option Nat) (C : String) : fits (.object C) (va_rf r) = true := by cases r <;> rfl
