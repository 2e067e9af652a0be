/-! a call walked through in the caller's own proof: a class whose table names no initialisation -/
set_option maxRecDepth 100000
def tBody (l : Launch) (y : MethodName) (cc : ByteArray) (nL : Nat) (ret : Option FieldType) (fr lo mc ms : Nat) (as : List Value) (D : TG) (E : TE) (wi : va_W) (Y : (Nat → Prop) → State → Prop) {S : Type} (post : S → Prop) (rv : S → Option Value) (wo : S → va_W) : Prop :=
  ∀ (p : Program) (e : Env) (s : State) (m : MethodId) (below : List Frame) (meth : Method) (c : Code) (A : Nat → Prop) (ls : Array Slot) (args : Array Value) (Q : State → Prop), args = as.toArray → MQ below (tQ D A post rv wo) args s mc ms A = Q → tC p s m args meth c cc nL ret y → tK D s → tX E A s s.heap → Y A s → va_P D.1 clAll wi s.heap → va_D A wi → (∀ q : Nat, s.heap.size ≤ q → A q) → A = va_A wi s.heap.size → lv_has ls nL (lv_args 0 as) →
      W p l e ({ frames := fr, cells := mc, slots := ms, locals := lo }) s m args below meth c s.heap [] 0 0 Q (F0 m 0 ls [])
section INL
variable {p : Program} {l : Launch} {e : Env} {R : Room} {s : State} {m : MethodId} {args : Array Value} {below : List Frame} {meth : Method} {c : Code} {H : Heap} {locs : List Loc} {cells slots : Nat} {Q : State → Prop}
variable {cc : ByteArray} {pc nL : Nat} {ls : Array Slot} {rest st0 : List Value} {D : TG} {E : TE} {A : Nat → Prop} {ret : Option FieldType} {y : MethodName}
variable {x2 y2 : MethodName} {bytes : ByteArray} {maxL index n fr lo mc ms b : Nat} {ret2 : Option FieldType} {As : List Value} {ws wc wr : va_W} {Y : (Nat → Prop) → State → Prop} {S : Type} {post : S → Prop} {rv : S → Option Value} {wo : S → va_W} {C2 : String}
set_option maxHeartbeats 4000000 in
theorem t_callB (C : tC p s m args meth c cc nL ret y) (hM : tBody l y2 bytes maxL ret2 fr lo mc ms (.ref b :: As) D E wc Y post rv wo)
    (hpl : plainName y2.cls = true) (hnL : (lg_sl (.ref b :: As)).length ≤ maxL) (hr2 : ret2 = none)
    (hlink : Cond.methodLink y.cls index x2 ∈ lw_all) (hsame : Cond.sameMethod x2.cls x2.cls x2.name x2.desc ∈ lw_all) (hd0 : va_Decl s x2) (howner : x2.cls ≠ "java/lang/invoke/MethodHandle" ∧ x2.cls ≠ "java/lang/invoke/VarHandle")
    (hsel : Cond.selects C2 x2 y2 ∈ lw_all) (hinst : Cond.instanceMethod y2 ∈ lw_all) (hcode : Cond.code y2 bytes maxL ret2 ∈ lw_all) (hpar : (parseMethodDescriptor x2.desc).map (fun d => d.parameters.length) = some n) (hrv : ∀ u, rv u = none)
    (hRm : fr + 1 ≤ R.frames ∧ 8 + (maxL + 11) + lo ≤ R.locals)
    (hv : ∃ cell : Cell, H[b]? = some cell ∧ cell.vm.isStatics = false ∧ s.vm.findClass C2 = some cell.cls)
    (hK : tK D s) (hX : tX E A s s.heap) (hP : va_P D.1 clAll ws H) (hD : va_D A ws) (hS : va_S A s.heap H locs) (hA : ∀ q : Nat, s.heap.size ≤ q → A q) (isC isR : List Nat) (hC : isC.map (fun i => ws[i]?) = wc.map some) (hR : isR.map (fun i => ws[i]?) = wr.map some) (hnC : va_nd isC = true) (hnR : va_nd isR = true) (hdis : ∀ i ∈ isR, i ∉ isC) (hYb : tYb Y) (hY : ∀ U : State, U.heap = H → s.WarmedH U.vm → Y (va_A wc H.size) U)
    (hn : As.length = n) (hsz : ls.size = nL) (hst : st0 = As.reverse ++ .ref b :: rest) (hW : (rest.map fun v => v.category).sum ≤ 8) (hdg : decode cc pc = .ok (.invokevirtual index, 3)) (hf : cells + mc ≤ R.cells ∧ slots + ms ≤ R.slots)
    (kk : ∀ (u : S) (H1 : Heap) (locs1 : List Loc), post u → va_P D.1 clAll (wr ++ wo u) H1 → va_D A (wr ++ wo u) → va_S A s.heap H1 locs1 → W p l e R s m args below meth c H1 locs1 (cells + mc) (slots + ms) Q (F0 m (pc + 3) ls ((rv u).toList ++ rest))) : W p l e R s m args below meth c H locs cells slots Q (F0 m pc ls st0) := by
  obtain ⟨hx, hb, hml, ho, hts, -⟩ := C
  refine t_after (a := (Value.ref b :: As).toArray) rfl ?_ hP hD hS hA isC isR hC hR hnR hdis kk
  intro T hT X
  obtain ⟨r0, r, hn0, hrm, hstR, hsigR⟩ := hd0
  obtain ⟨cn, ck, r1, hcn, hck, hni, hff, hn1⟩ := Cond.sameMethod_found (hts _ hsame)
  have hn1' : s.methodNamed? x2 = some r1 := hn1
  cases hn0.symm.trans hn1'
  obtain ⟨mk, methM, hnamed, hmethM, -, habM⟩ := Cond.instanceMethod_spec (hts _ hinst)
  obtain ⟨methY, cY, hmY, hcY, hbY, hlY, hrY, hkY, -, -⟩ := Cond.code_spec hnamed (hts _ hcode)
  cases hmethM.symm.trans hmY
  obtain ⟨c2, r2, m2, q1, q2, q3, q4, kP, hkP, hkPi⟩ := Cond.selects_spec (hts _ hsel)
  obtain ⟨cellB, hcB, hoB, hclB⟩ := hv
  cases hclB.symm.trans q1
  cases hff.symm.trans q2
  cases hnamed.symm.trans q3
  have hselP : selectMethod e.platform s.vm cellB.cls r0 = .method mk := by rw [Launch.admits_selectMethod X.admits]; exact q4
  obtain ⟨vm₁, X₁, hstep₁⟩ := X.invokevirtualUp hx ho (hts _ hlink) (hts _ hsame) howner hn0 hrm hstR (a := b) (cell := cellB) (by rw [hT]; exact hcB)
    (fun z h => by rw [h] at hoB; cases hoB) hselP hmethM habM hkP hkPi (g := F0 m pc ls st0) rfl (argsL := As) (rest := rest) (by
      have h8 := hpar
      rw [hsigR] at h8
      exact hn.trans (Option.some.inj h8).symm) hst (by rw [hb]; exact hdg)
  have hW₁ : s.WarmedH vm₁ := X₁.warmed
  have hA₁ := hW₁.alike
  have hsz1 : ls.size = c.maxLocals := hsz.trans hml.symm
  obtain ⟨kY, hkYc, hkYn⟩ := className_of_methodNamed hnamed
  obtain ⟨kY2, hkY2, heY⟩ := hA₁.2.2 _ _ hkYc
  have hpM : (T.setVm vm₁).plainMethod mk := State.plainMethod.of_name (fun k' hk' => by
    have hk'' : vm₁.classes[mk.cls]? = some k' := hk'
    cases hkY2.symm.trans hk''
    rw [heY]
    show plainName kY.name = true
    rw [hkYn]; exact hpl)
  have hmk1 : (T.setVm vm₁).vm.method? mk = some methM := by show vm₁.method? mk = _; rw [hA₁.method?]; exact hmethM
  obtain ⟨Y₀, hin⟩ := X₁.into (g := F0 m pc ls rest) rfl hsz1 (show decode c.code pc = .ok (.invokevirtual index, 3) by rw [hb]; exact hdg) (.ref b :: As).toArray (R' := { frames := fr, cells := mc, slots := ms, locals := lo }) hmk1 hcY hkY hpM hRm.1
    (by rw [hlY]; show 2 * 0 + (rest.map fun v => v.category).sum + (maxL + 11) + lo ≤ R.locals; omega) hf.1 hf.2
  have hpre := t_blind (D := D) (E := E) (wi := wc) (sz := H.size) (as := .ref b :: As) hYb (.ref b :: As).toArray (T.setVm vm₁) (F0 m pc ls rest) mk ⟨rfl, t_pre hK hX hP hD hS hA isC hnC hC hY (T.setVm vm₁) hT hW₁⟩
  generalize hU : ((T.setVm vm₁).setTop (F0 m pc ls rest)).pushFrame (.java (entryFrame mk (.ref b :: As).toArray cY.maxLocals)) = U at Y₀ hin
  have hUh : U.heap = ((T.setVm vm₁).calling (F0 m pc ls rest) mk (.ref b :: As).toArray).heap := by rw [← hU]; rfl
  have hSh : ((T.setVm vm₁).calling (F0 m pc ls rest) mk (.ref b :: As).toArray).heap = H := hT
  have hWS : s.WarmedH ((T.setVm vm₁).calling (F0 m pc ls rest) mk (.ref b :: As).toArray).vm := hW₁
  generalize hSS : (T.setVm vm₁).calling (F0 m pc ls rest) mk (.ref b :: As).toArray = S1 at Y₀ hpre hUh hSh hWS
  obtain ⟨-, hsz2, hP2, hK2, hD2, hX2, hY2⟩ := hpre
  have hl := lv_entry (.ref b :: As) (n := maxL) hnL
  have hCC : tC p S1 mk (.ref b :: As).toArray methM cY bytes maxL ret2 y2 := ⟨hx, hbY, hlY, by rw [hWS.alike.findClass]; exact findClass_of_methodNamed hnamed, fun w hw => word_at hWS (lw_self w hw).2 (hts w hw), hrY, hkY, (name_of_methodNamed hnamed hmethM).1⟩
  have hA2 : va_A wc H.size = va_A wc S1.heap.size := by rw [hSh]
  rw [hA2] at hX2 hY2
  obtain ⟨t, st2, o, hrun, hend, hq, L, hFE, hL⟩ := hM p e S1 mk (.java (F0 m pc ls rest) :: below) methM cY (va_A wc S1.heap.size) ((lg_sl (Value.ref b :: As) ++ List.replicate (maxL - (lg_sl (Value.ref b :: As)).length) Slot.unset).toArray) (Value.ref b :: As).toArray (MQ (.java (F0 m pc ls rest) :: below) (tQ D (va_A wc S1.heap.size) post rv wo) (Value.ref b :: As).toArray S1 mc ms (va_A wc S1.heap.size)) rfl rfl hCC hK2 hX2 hY2 hP2 hD2.self (fun q h => Or.inr h) rfl hl U hUh Y₀
  obtain ⟨⟨v, hov⟩, hWe, hsame2⟩ := hFE
  subst hov
  have hvn : v = none := by
    obtain ⟨⟨u, h1, -⟩, -⟩ := hq
    rw [hrv u] at h1
    exact Outcome.returned.inj h1
  subst hvn
  rw [← hSS] at hWe hsame2
  obtain ⟨T', X', hW', -, ht⟩ := X₁.outOf (g := F0 m pc ls rest) rfl (show decode c.code pc = .ok (.invokevirtual index, 3) by rw [hb]; exact hdg) hend hWe hsame2
  refine ⟨none, S1, t, T', L, hSh, X', fun q h => by rw [hA2]; exact hL q h, ?_, ?_, by rw [hA2]; exact hq, fun target hh => ?_⟩
  · rw [ht]; rfl
  · rw [ht]; rfl
  have ht' : t = T'.setTop (F0 m (pc + 3) ls ((none : Option Value).toList ++ rest)) := ht
  have hfin : Steps p.tables e below (U.setTop (entryFrame mk (Value.ref b :: As).toArray cY.maxLocals)) t := by
    rw [hlY, lg_entry_eq]
    exact Steps.weaken (mid := [.java (F0 m pc ls rest)]) st2
  have hh' : Steps p.tables e below t target := by
    rw [ht']
    exact hh
  exact hstep₁ target (fun acts => by
    have hq9 := hin acts
    have h9 := hfin.trans hh'
    rw [← hq9] at h9
    exact h9)
end INL
