/-! methods that throw: the world stays as it was -/
set_option maxRecDepth 100000
def uXC (D : TG) (wi : va_W) (A : Nat → Prop) (x : String) : String → State → State → Prop := fun c st t => c = x ∧ va_P D.1 clAll wi t.heap ∧ va_F A st t
def uThr (l : Launch) (y : MethodName) (cc : ByteArray) (nL : Nat) (ret : Option FieldType) (fr lo mc ms : Nat) (as : List Value) (D : TG) (E : TE) (wi : va_W) (x : String) : Prop :=
  ∀ sz : Nat, vx_Met l y (ws_ y cc nL ret) ({ frames := fr, cells := mc, slots := ms, locals := lo }) (va_Pc as (tPre D E wi sz tY0)) (fun _ _ _ _ => False) (uXC D wi (va_A wi sz) x) mc ms (va_A wi sz)
theorem uu_thr {l : Launch} {y : MethodName} {cc : ByteArray} {nL : Nat} {ret : Option FieldType} {fr lo mc ms : Nat} {as : List Value} {D : TG} {E : TE} {wi : va_W} {x : String}
    (hy : plainName y.cls = true) (hn : (lg_sl as).length ≤ nL)
    (body : ∀ (p : Program) (e : Env) (s : State) (m : MethodId) (below : List Frame) (meth : Method) (c : Code) (A : Nat → Prop) (ls : Array Slot) (args : Array Value) (Q : State → Prop), args = as.toArray → vx_MQ below (fun _ _ _ _ => False) (uXC D wi A x) args s mc ms A = Q → tC p s m args meth c cc nL ret y → (∀ x ∈ c.exceptionTable.toList, False) → tK D s → tX E A s s.heap → va_P D.1 clAll wi s.heap → va_D A wi → (∀ q : Nat, s.heap.size ≤ q → A q) → A = va_A wi s.heap.size → lv_has ls nL (lv_args 0 as) →
      W p l e ({ frames := fr, cells := mc, slots := ms, locals := lo }) s m args below meth c s.heap [] 0 0 Q (F0 m 0 ls [])) : uThr l y cc nL ret fr lo mc ms as D E wi x := by
  intro sz
  refine vx_ofW (cc := cc) (maxL := nL) (ret := ret) hy rfl ?_
  intro p e s m args below meth c s₁ B hml ht hv
  obtain ⟨rfl, hsz, hP, hK, hD0, hX, hY⟩ := hv
  subst hsz
  have hts := atoms_spec (ws := ws_ y cc nL ret) B.pre
  have hl := lv_entry as (n := nL) hn
  rw [lg_entry_eq]
  exact body p e s m below meth c (va_A wi s.heap.size) _ _ _ rfl rfl ⟨B.exec, B.bytes, hml, findClass_of_methodNamed B.named, fun w h => hts w (List.mem_cons_of_mem _ h), B.returns, B.notSynchronized, (name_of_methodNamed B.named B.method).1⟩ ht hK hX hP hD0.self (fun q h => Or.inr h) rfl hl
section UTH
variable {p : Program} {l : Launch} {e : Env} {R : Room} {s : State} {m : MethodId} {args : Array Value} {below : List Frame} {meth : Method} {c : Code} {H : Heap} {locs : List Loc} {cells slots : Nat}
variable {cc : ByteArray} {pc nL : Nat} {ls : Array Slot} {rest st0 : List Value} {D : TG} {E : TE} {A : Nat → Prop} {ret : Option FieldType} {y : MethodName} {x : String} {mc2 ms2 : Nat} {wi : va_W}
variable {y2 : MethodName} {bytes : ByteArray} {maxL index n fr lo mc ms b : Nat} {ret2 : Option FieldType} {As : List Value} {ws wc wr : va_W} {C2 : String}
/-- 'throw new X()' -/
theorem u_throw {ik ic : Nat} {names : List String} (C : tC p s m args meth c cc nL ret y) (ht : ∀ x ∈ c.exceptionTable.toList, False) (hfl : l.stackTraces = false) (hX : tX E A s s.heap) (hP : va_P D.1 clAll wi s.heap) (hsz : ls.size = nL)
    (hcls : Bundle.fit x = true) (hnames : ∀ n ∈ names, Bundle.fit n = true) (hk : (Cond.classLink y.cls ik x).before args s = true) (hini : (Cond.initialized x).before args s = true) (hat : ∀ w ∈ vx_at0 y.cls ic x names, w.before args s = true)
    (hgood : ∀ w ∈ Cond.classLink y.cls ik x :: Cond.initialized x :: vx_at0 y.cls ic x names, vx_ot w = true)
    (d0 : decode cc pc = .ok (.new ik, 3)) (d3 : decode cc (pc + 3) = .ok (.dup, 1)) (d4 : decode cc (pc + 4) = .ok (.invokespecial ic, 3)) (d7 : decode cc (pc + 7) = .ok (.athrow, 1))
    (hRf : names.length + 3 < R.frames) (hRl : 13 * (names.length + 1) + 42 ≤ R.locals) (hRc : 1 ≤ R.cells ∧ 6 ≤ R.slots) (hc : 1 ≤ mc2 ∧ 6 ≤ ms2) :
    W p l e R s m args below meth c s.heap [] 0 0 (vx_MQ below (fun _ _ _ _ => False) (uXC D wi A x) args s mc2 ms2 A) (F0 m pc ls []) := by
  obtain ⟨h1, h2, h3, h4, h5, h6, h7, h8⟩ := C
  refine vx_throw0 (A := A) h1 h2 hfl h4 hcls hnames hk hini hat hgood hX.2.2.2.2.2.2.2.2.2.2.2.1 hX.2.2.2.2.2.2.2.2.2.2.2.2.1 (va_S.rf) (hsz.trans h3.symm) d0 d3 d4 d7 (fun z hz => (ht z hz).elim) hRf (by show 0 + _ ≤ _; omega) (by omega) (by omega) h7 ?_ (fun z hz => nomatch hz) (by omega) (by omega)
  intro t _ hz hk'
  exact ⟨rfl, hP.kept (fun k q hq => hk' q.1 (hP k q hq).lt), hz, fun q hq _ => hk' q hq⟩
theorem u_run (hlk : meth.locks = false) (ht : ∀ x ∈ c.exceptionTable.toList, False) (hr : vx_Run p l e R s m args below meth c H locs cells slots mc ms (F0 m pc ls st0) rest (fun _ _ _ => False) (uXC D wc (va_A wc H.size) x) (va_A wc H.size))
    (hP : va_P D.1 clAll ws H) (hD : va_D A ws) (hS : va_S A s.heap H locs) (hA : ∀ q : Nat, s.heap.size ≤ q → A q) (isC isR : List Nat) (hC : isC.map (fun i => ws[i]?) = wc.map some) (hR : isR.map (fun i => ws[i]?) = wr.map some) (hnC : va_nd isC = true) (hnR : va_nd isR = true) (hdis : ∀ i ∈ isR, i ∉ isC) (isO : List Nat) (hO : isO.map (fun i => (wr ++ wc)[i]?) = wi.map some) (hc : cells + mc ≤ mc2 ∧ slots + ms ≤ ms2) :
    W p l e R s m args below meth c H locs cells slots (vx_MQ below (fun _ _ _ _ => False) (uXC D wi A x) args s mc2 ms2 A) (F0 m pc ls st0) := by
  intro T hT X
  rcases hr T hT X with ⟨v, st₀, t, T', L, -, -, -, -, -, hf, -⟩ | ⟨q, st₀, t, T', L, E2, ce, h0, X', hL, e1, e2, ⟨hx, hPo, hz, hk⟩, hce, hcv, hcl, st⟩
  · exact hf.elim
  · subst hx
    rw [h0] at hz hk
    have hF := va_free (wc := wc) hD hS hA isC hC
    have hDc : va_D (va_A wc H.size) wc := by
      have hdd : va_D A wc := va_D.sub hD isC hnC hC
      exact ⟨hdd.1, fun k q hq => Or.inl ⟨k, q.2, hq⟩⟩
    obtain ⟨hP1, -⟩ := va_join (wr := wr) (w1 := wc) hP hD isC isR hC hR hnR hdis (H1 := T'.heap) (fun q h1 h2 => by rw [e1]; exact hk q h1 h2) hF (by rw [e1]; exact hPo) hDc
    have hS1 : va_S A s.heap T'.heap (locs ++ L) := ⟨Nat.le_trans hS.1 (by rw [e1]; exact hz), fun q h1 h2 => by rw [e1, hk q (Nat.lt_of_lt_of_le h1 hS.1) (fun z => h2 (hF q z))]; exact hS.2.1 q h1 h2, fun q hq => by
      rcases List.mem_append.mp hq with h | h
      · exact hS.2.2 q h
      · exact hF _ (hL q h)⟩
    obtain ⟨t2, a1, b1⟩ := vx_out (l := l) (R := R) (p := p) (e := e) (m := m) (args := args) (below := below) (Qc := fun _ _ _ _ => False) (XC := uXC D wi A E2) (mc := mc2) (ms := ms2) (free := A) (pc := pc) (ls := ls) (rest := rest) (E := E2) (ce := ce) (q := q) (H := T'.heap) (locs := locs ++ L) (cells := cells + mc) (slots := slots + ms) (s := s) (meth := meth) (c := c) (fun z hz => (ht z hz).elim) hlk (by rw [e1]; exact hce) hcv hcl
      (fun t' ht' _ => ⟨rfl, by rw [ht']; exact hP1.subM isO hO, hS1.F ht'⟩) hS1.2.2 hc.1 hc.2 T' rfl X'
    exact ⟨t2, st.trans a1, b1⟩
theorem u_callS (C : tC p s m args meth c cc nL ret y) (ht : ∀ x ∈ c.exceptionTable.toList, False) (hM : uThr l y2 bytes maxL ret2 fr lo mc ms As D E wc x)
    (cw : CallB R s args y.cls index y2 bytes maxL ret2 (ws_ y2 bytes maxL ret2) ({ frames := fr, cells := mc, slots := ms, locals := lo }) mc ms n ∧ (Cond.static y2).before args s = true)
    (hK : tK D s) (hX : tX E A s s.heap) (hP : va_P D.1 clAll ws H) (hD : va_D A ws) (hS : va_S A s.heap H locs) (hA : ∀ q : Nat, s.heap.size ≤ q → A q) (isC isR : List Nat) (hC : isC.map (fun i => ws[i]?) = wc.map some) (hR : isR.map (fun i => ws[i]?) = wr.map some) (hnC : va_nd isC = true) (hnR : va_nd isR = true) (hdis : ∀ i ∈ isR, i ∉ isC) (isO : List Nat) (hO : isO.map (fun i => (wr ++ wc)[i]?) = wi.map some)
    (hn : As.length = n) (hsz : ls.size = nL) (hst : st0 = As.reverse ++ rest) (hW : (rest.map fun v => v.category).sum ≤ 8) (hdg : decode cc pc = .ok (.invokestatic index, 3)) (hf : cells + mc ≤ R.cells ∧ slots + ms ≤ R.slots) (hc : cells + mc ≤ mc2 ∧ slots + ms ≤ ms2) :
    W p l e R s m args below meth c H locs cells slots (vx_MQ below (fun _ _ _ _ => False) (uXC D wi A x) args s mc2 ms2 A) (F0 m pc ls st0) := by
  obtain ⟨h1, h2, h3, h4, h5, h6, h7, h8⟩ := C
  exact u_run h7 ht (vx_runS (g := F0 m pc ls st0) (rest := rest) ⟨h1, h2, h3, h4, h5⟩ (hM H.size) cw ⟨t_blind tYb_0, fun U hU hW => ⟨rfl, t_pre hK hX hP hD hS hA isC hnC hC (fun _ _ _ => trivial) U hU hW⟩⟩ rfl hn hsz hst (lv_room hW) hdg hf) hP hD hS hA isC isR hC hR hnC hnR hdis isO hO hc
theorem u_callV (C : tC p s m args meth c cc nL ret y) (ht : ∀ x ∈ c.exceptionTable.toList, False) (hM : uThr l y2 bytes maxL ret2 fr lo mc ms (.ref b :: As) D E wc x)
    (cw : CallW R s args y.cls C2 index y2 bytes maxL ret2 (ws_ y2 bytes maxL ret2) ({ frames := fr, cells := mc, slots := ms, locals := lo }) mc ms n)
    (hv : ∃ cell : Cell, H[b]? = some cell ∧ cell.vm.isStatics = false ∧ s.vm.findClass C2 = some cell.cls)
    (hK : tK D s) (hX : tX E A s s.heap) (hP : va_P D.1 clAll ws H) (hD : va_D A ws) (hS : va_S A s.heap H locs) (hA : ∀ q : Nat, s.heap.size ≤ q → A q) (isC isR : List Nat) (hC : isC.map (fun i => ws[i]?) = wc.map some) (hR : isR.map (fun i => ws[i]?) = wr.map some) (hnC : va_nd isC = true) (hnR : va_nd isR = true) (hdis : ∀ i ∈ isR, i ∉ isC) (isO : List Nat) (hO : isO.map (fun i => (wr ++ wc)[i]?) = wi.map some)
    (hn : As.length = n) (hsz : ls.size = nL) (hst : st0 = As.reverse ++ .ref b :: rest) (hW : (rest.map fun v => v.category).sum ≤ 8) (hdg : decode cc pc = .ok (.invokevirtual index, 3)) (hf : cells + mc ≤ R.cells ∧ slots + ms ≤ R.slots) (hc : cells + mc ≤ mc2 ∧ slots + ms ≤ ms2) :
    W p l e R s m args below meth c H locs cells slots (vx_MQ below (fun _ _ _ _ => False) (uXC D wi A x) args s mc2 ms2 A) (F0 m pc ls st0) := by
  obtain ⟨h1, h2, h3, h4, h5, h6, h7, h8⟩ := C
  exact u_run h7 ht (vx_runV (g := F0 m pc ls st0) (rest := rest) ⟨h1, h2, h3, h4, h5⟩ (hM H.size) cw ⟨t_blind tYb_0, hv, fun U hU hW => ⟨rfl, t_pre hK hX hP hD hS hA isC hnC hC (fun _ _ _ => trivial) U hU hW⟩⟩ rfl hn hsz hst (lv_room hW) hdg hf) hP hD hS hA isC isR hC hR hnC hnR hdis isO hO hc
end UTH
