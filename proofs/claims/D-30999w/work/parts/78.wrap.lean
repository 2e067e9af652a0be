/-! methods with handlers: the law's own wrappers -/
set_option maxRecDepth 100000
def tMetH (l : Launch) (y : MethodName) (cc : ByteArray) (nL : Nat) (ret : Option FieldType) (hh : List (Nat × Nat × Nat × Nat)) (fr lo mc ms : Nat) (as : List Value) (D : TG) (E : TE) (wi : va_W) (Y : (Nat → Prop) → State → Prop) {S : Type} (post : S → Prop) (rv : S → Option Value) (wo : S → va_W) : Prop :=
  ∀ sz : Nat, Met l y (wsW_ y cc nL ret hh) ({ frames := fr, cells := mc, slots := ms, locals := lo }) (va_Pc as (tPre D E wi sz Y)) (tQ D (va_A wi sz) post rv wo) mc ms (va_A wi sz)
theorem met_of_vx {l : Launch} {y : MethodName} {ws : List Cond} {rm : Room} {Pc : Array Value → State → Prop} {Qc : Array Value → State → Outcome → State → Prop} {mc ms : Nat} {free : Addr → Prop} (h : vx_Met l y ws rm Pc Qc (fun _ _ _ => False) mc ms free) : Met l y ws rm Pc Qc mc ms free := by
  intro p e ha hc hk s m args below hf happ hP hK
  obtain ⟨n, o, h1, h2, h3, h4⟩ := h p e ha hc hk s m args below hf happ hP hK
  refine ⟨n, o, h1, h2, h3, ?_⟩
  rcases h4 with h4 | ⟨q, -, E, ce, L, hx, -⟩
  · exact h4
  · exact hx.elim
theorem tu_metH {l : Launch} {y : MethodName} {cc : ByteArray} {nL : Nat} {ret : Option FieldType} {hh : List (Nat × Nat × Nat × Nat)} {fr lo mc ms : Nat} {as : List Value} {D : TG} {E : TE} {wi : va_W} {Y : (Nat → Prop) → State → Prop} {S : Type} {post : S → Prop} {rv : S → Option Value} {wo : S → va_W}
    (hy : plainName y.cls = true) (hn : (lg_sl as).length ≤ nL)
    (body : ∀ (p : Program) (e : Env) (s : State) (m : MethodId) (below : List Frame) (meth : Method) (c : Code) (A : Nat → Prop) (ls : Array Slot) (args : Array Value) (Q : State → Prop), args = as.toArray → MQ below (tQ D A post rv wo) args s mc ms A = Q → tC p s m args meth c cc nL ret y → c.exceptionTable.toList = tableOf hh → tK D s → tX E A s s.heap → Y A s → va_P D.1 clAll wi s.heap → va_D A wi → (∀ q : Nat, s.heap.size ≤ q → A q) → A = va_A wi s.heap.size → lv_has ls nL (lv_args 0 as) →
      W p l e ({ frames := fr, cells := mc, slots := ms, locals := lo }) s m args below meth c s.heap [] 0 0 Q (F0 m 0 ls [])) : tMetH l y cc nL ret hh fr lo mc ms as D E wi Y post rv wo := by
  intro sz
  refine met_of_vx (vx_ofWH (cc := cc) (maxL := nL) (ret := ret) (hh := hh) hy rfl ?_)
  intro p e s m args below meth c s₁ B hml hv
  obtain ⟨rfl, hsz, hP, hK, hD0, hX, hY⟩ := hv
  subst hsz
  have hts := atoms_spec (ws := wsW_ y cc nL ret hh) B.pre
  have hl := lv_entry as (n := nL) hn
  rw [lg_entry_eq]
  exact vx_ret (body p e s m below meth c (va_A wi s.heap.size) _ _ _ rfl rfl ⟨B.exec, B.bytes, hml, findClass_of_methodNamed B.named, fun w h => hts w (List.mem_cons_of_mem _ h), B.returns, B.notSynchronized, (name_of_methodNamed B.named B.method).1⟩ (vx_table (x := y) B (hts _ List.mem_cons_self)) hK hX hY hP hD0.self (fun q h => Or.inr h) rfl hl)
section WRP
variable {p : Program} {l : Launch} {e : Env} {R : Room} {s : State} {m : MethodId} {args : Array Value} {below : List Frame} {meth : Method} {c : Code} {H : Heap} {locs : List Loc} {cells slots : Nat} {Q : State → Prop}
variable {cc : ByteArray} {pc nL : Nat} {ls : Array Slot} {rest st0 : List Value} {D : TG} {E : TE} {A : Nat → Prop} {ret : Option FieldType} {y : MethodName} {x : String}
variable {y2 : MethodName} {bytes : ByteArray} {maxL index n fr lo mc ms b : Nat} {ret2 : Option FieldType} {As : List Value} {ws wc wr : va_W} {C2 : String}
/-- a call in a try: what it throws is caught here -/
theorem u_tryV (C : tC p s m args meth c cc nL ret y) {nm : String} (pre : List ExceptionTableEntry) (xe : ExceptionTableEntry) (suf : List ExceptionTableEntry) (hsplit : c.exceptionTable.toList = pre ++ xe :: suf)
    (hpass : ∀ z ∈ pre, covers z pc = false ∨ (z.catchType ≠ 0 ∧ ∃ nm : String, (Cond.classLink y.cls z.catchType nm).before args s = true ∧ va_Nc x nm s)) (hcov : covers xe pc = true) (h0 : xe.catchType ≠ 0)
    (hlk : (Cond.classLink y.cls xe.catchType nm).before args s = true) (hcast : (Cond.castable x nm).before args s = true)
    (hM : uThr l y2 bytes maxL ret2 fr lo mc ms (.ref b :: As) D E wc x)
    (cw : CallW R s args y.cls C2 index y2 bytes maxL ret2 (ws_ y2 bytes maxL ret2) ({ frames := fr, cells := mc, slots := ms, locals := lo }) mc ms n)
    (hv : ∃ cell : Cell, H[b]? = some cell ∧ cell.vm.isStatics = false ∧ s.vm.findClass C2 = some cell.cls)
    (hK : tK D s) (hX : tX E A s s.heap) (hP : va_P D.1 clAll ws H) (hD : va_D A ws) (hS : va_S A s.heap H locs) (hA : ∀ q : Nat, s.heap.size ≤ q → A q) (isC isR : List Nat) (hC : isC.map (fun i => ws[i]?) = wc.map some) (hR : isR.map (fun i => ws[i]?) = wr.map some) (hnC : va_nd isC = true) (hnR : va_nd isR = true) (hdis : ∀ i ∈ isR, i ∉ isC)
    (hn : As.length = n) (hsz : ls.size = nL) (hst : st0 = As.reverse ++ .ref b :: rest) (hW : (rest.map fun v => v.category).sum ≤ 8) (hdg : decode cc pc = .ok (.invokevirtual index, 3)) (hf : cells + mc ≤ R.cells ∧ slots + ms ≤ R.slots)
    (kk : ∀ (q : Nat) (H1 : Heap) (locs1 : List Loc), va_P D.1 clAll (wr ++ wc) H1 → va_D A (wr ++ wc) → va_S A s.heap H1 locs1 → W p l e R s m args below meth c H1 locs1 (cells + mc) (slots + ms) Q (F0 m xe.handlerPc ls [.ref q])) : W p l e R s m args below meth c H locs cells slots Q (F0 m pc ls st0) := by
  obtain ⟨h1, h2, h3, h4, h5, h6, h7, h8⟩ := C
  have hr := vx_runV (l := l) (R := R) (e := e) (below := below) (meth := meth) (locs := locs) (H := H) (cells := cells) (slots := slots) (g := F0 m pc ls st0) (rest := rest) (C := C2) ⟨h1, h2, h3, h4, h5⟩ (hM H.size) cw ⟨t_blind tYb_0, hv, fun U hU hW => ⟨rfl, t_pre hK hX hP hD hS hA isC hnC hC (fun _ _ _ => trivial) U hU hW⟩⟩ rfl hn hsz hst (lv_room hW) hdg hf
  intro T hT X
  rcases hr T hT X with ⟨v, st₀, t, T', L, -, -, -, -, -, hf, -⟩ | ⟨q, st₀, t, T', L, E2, ce, e0, X', hL, e1, e2, ⟨hx, hPo, hz, hk⟩, hce, hcv, hcl, st⟩
  · exact hf.elim
  · subst hx
    rw [e0] at hz hk
    have hF := va_free (wc := wc) hD hS hA isC hC
    have hDc : va_D (va_A wc H.size) wc := by
      have hdd : va_D A wc := va_D.sub hD isC hnC hC
      exact ⟨hdd.1, fun k q hq => Or.inl ⟨k, q.2, hq⟩⟩
    obtain ⟨hP1, hD1⟩ := va_join (wr := wr) (w1 := wc) hP hD isC isR hC hR hnR hdis (H1 := T'.heap) (fun q h1 h2 => by rw [e1]; exact hk q h1 h2) hF (by rw [e1]; exact hPo) hDc
    have hS1 : va_S A s.heap T'.heap (locs ++ L) := ⟨Nat.le_trans hS.1 (by rw [e1]; exact hz), fun q h1 h2 => by rw [e1, hk q (Nat.lt_of_lt_of_le h1 hS.1) (fun z => h2 (hF q z))]; exact hS.2.1 q h1 h2, fun q hq => by
      rcases List.mem_append.mp hq with h | h
      · exact hS.2.2 q h
      · exact hF _ (hL q h)⟩
    have hw := vx_catch (l := l) (R := R) (p := p) (e := e) (below := below) (meth := meth) (cells := cells + mc) (slots := slots + ms) (locs := locs ++ L) (H := T'.heap) (ls := ls) (rest := rest) (pc := pc) (Q := Q) (E := E2) (ce := ce) (q := q) h4 pre xe suf hsplit hpass hcov h0 hlk hcast (by rw [e1]; exact hce) hcv hcl (kk q T'.heap (locs ++ L) hP1 hD1 hS1)
    obtain ⟨t2, a1, b1⟩ := hw T' rfl X'
    exact ⟨t2, st.trans a1, b1⟩
end WRP
def tYnc : (Nat → Prop) → State → Prop := fun _ U => va_Nc "java/util/NoSuchElementException" "java/lang/IndexOutOfBoundsException" U
theorem tYb_nc : tYb tYnc := fun _ U g mk a h => va_Nc.moved (u := U) (U := U.calling g mk a) (Vm.Alike.refl U.vm) h
section WRS
variable {p : Program} {l : Launch} {e : Env} {R : Room} {s : State} {m : MethodId} {args : Array Value} {below : List Frame} {meth : Method} {c : Code} {H : Heap} {locs : List Loc} {cells slots : Nat} {Q : State → Prop}
variable {cc : ByteArray} {pc nL : Nat} {ls : Array Slot} {rest st0 : List Value} {D : TG} {E : TE} {A : Nat → Prop} {ret : Option FieldType} {y : MethodName}
variable {y2 : MethodName} {bytes : ByteArray} {maxL index n fr lo mc ms b : Nat} {ret2 : Option FieldType} {hh : List (Nat × Nat × Nat × Nat)} {As : List Value} {ws wc wr : va_W} {Y : (Nat → Prop) → State → Prop} {S : Type} {post : S → Prop} {rv : S → Option Value} {wo : S → va_W}
theorem t_callSH (C : tC p s m args meth c cc nL ret y) (hM : tMetH l y2 bytes maxL ret2 hh fr lo mc ms As D E wc Y post rv wo)
    (cw : vx_CSW R s args y.cls index y2 bytes maxL ret2 hh (wsW_ y2 bytes maxL ret2 hh) ({ frames := fr, cells := mc, slots := ms, locals := lo }) mc ms n)
    (hK : tK D s) (hX : tX E A s s.heap) (hP : va_P D.1 clAll ws H) (hD : va_D A ws) (hS : va_S A s.heap H locs) (hA : ∀ q : Nat, s.heap.size ≤ q → A q) (isC isR : List Nat) (hC : isC.map (fun i => ws[i]?) = wc.map some) (hR : isR.map (fun i => ws[i]?) = wr.map some) (hnC : va_nd isC = true) (hnR : va_nd isR = true) (hdis : ∀ i ∈ isR, i ∉ isC) (hYb : tYb Y) (hY : ∀ U : State, U.heap = H → s.WarmedH U.vm → Y (va_A wc H.size) U)
    (hn : As.length = n) (hsz : ls.size = nL) (hst : st0 = As.reverse ++ rest) (hW : (rest.map fun v => v.category).sum ≤ 8) (hdg : decode cc pc = .ok (.invokestatic index, 3)) (hf : cells + mc ≤ R.cells ∧ slots + ms ≤ R.slots)
    (kk : ∀ (u : S) (H1 : Heap) (locs1 : List Loc), post u → va_P D.1 clAll (wr ++ wo u) H1 → va_D A (wr ++ wo u) → va_S A s.heap H1 locs1 → W p l e R s m args below meth c H1 locs1 (cells + mc) (slots + ms) Q (F0 m (pc + 3) ls ((rv u).toList ++ rest))) : W p l e R s m args below meth c H locs cells slots Q (F0 m pc ls st0) := by
  obtain ⟨h1, h2, h3, h4, h5, -⟩ := C
  exact t_after rfl (vx_runSW (g := F0 m pc ls st0) (rest := rest) ⟨h1, h2, h3, h4, h5⟩ (hM H.size) cw ⟨t_blind hYb, fun U hU hW => ⟨rfl, t_pre hK hX hP hD hS hA isC hnC hC hY U hU hW⟩⟩ rfl hn hsz hst (lv_room hW) hdg hf) hP hD hS hA isC isR hC hR hnR hdis kk
end WRS
