/-! calls of nest mates -/
set_option maxRecDepth 100000
section TB5
variable {p : Program} {l : Launch} {e : Env} {R : Room} {s : State} {m : MethodId} {args : Array Value} {below : List Frame} {meth : Method} {c : Code} {H : Heap} {locs : List Loc} {cells slots : Nat} {Q : State → Prop}
variable {D : TG} {E : TE} {ws wc wr : va_W} {A : Nat → Prop} {cc bytes : ByteArray} {nL maxL fr lo mc ms n index b : Nat} {ret ret2 : Option FieldType} {y y2 : MethodName} {As rest : List Value} {S : Type} {post : S → Prop} {rv : S → Option Value} {wo : S → va_W} {r : Option Value} {Y : (Nat → Prop) → State → Prop} {pc : Nat} {ls : Array Slot} {st0 : List Value} {C2 host : String}
theorem t_callSN (C : tC p s m args meth c cc nL ret y) (hM : tMet l y2 bytes maxL ret2 fr lo mc ms As D E wc Y post rv wo)
    (cw : va_CN R s args y.cls index y2 host bytes maxL ret2 (ws_ y2 bytes maxL ret2) ({ frames := fr, cells := mc, slots := ms, locals := lo }) mc ms n ∧ (Cond.static y2).before args s = true ∧ True)
    (hK : tK D s) (hX : tX E A s s.heap) (hP : va_P D.1 clAll ws H) (hD : va_D A ws) (hS : va_S A s.heap H locs) (hA : ∀ q : Nat, s.heap.size ≤ q → A q) (isC isR : List Nat) (hC : isC.map (fun i => ws[i]?) = wc.map some) (hR : isR.map (fun i => ws[i]?) = wr.map some) (hnC : va_nd isC = true) (hnR : va_nd isR = true) (hdis : ∀ i ∈ isR, i ∉ isC) (hYb : tYb Y) (hY : ∀ U : State, U.heap = H → s.WarmedH U.vm → Y (va_A wc H.size) U)
    (hn : As.length = n) (hsz : ls.size = nL) (hst : st0 = As.reverse ++ rest) (hW : (rest.map fun v => v.category).sum ≤ 8) (hdg : decode cc pc = .ok (.invokestatic index, 3)) (hf : cells + mc ≤ R.cells ∧ slots + ms ≤ R.slots)
    (kk : ∀ (u : S) (H1 : Heap) (locs1 : List Loc), post u → va_P D.1 clAll (wr ++ wo u) H1 → va_D A (wr ++ wo u) → va_S A s.heap H1 locs1 → W p l e R s m args below meth c H1 locs1 (cells + mc) (slots + ms) Q (F0 m (pc + 3) ls ((rv u).toList ++ rest))) : W p l e R s m args below meth c H locs cells slots Q (F0 m pc ls st0) := by
  obtain ⟨h1, h2, h3, h4, h5, -⟩ := C
  exact t_after rfl (va_runSN (g := F0 m pc ls st0) (rest := rest) ⟨h1, h2, h3, h4, h5⟩ (hM H.size) cw ⟨t_blind hYb, fun U hU hW => ⟨rfl, t_pre hK hX hP hD hS hA isC hnC hC hY U hU hW⟩⟩ rfl hn hsz hst (lv_room hW) hdg hf) hP hD hS hA isC isR hC hR hnR hdis kk
theorem t_callVN (C : tC p s m args meth c cc nL ret y) (hM : tMet l y2 bytes maxL ret2 fr lo mc ms (.ref b :: As) D E wc Y post rv wo)
    (cw : va_CN R s args y.cls index y2 host bytes maxL ret2 (ws_ y2 bytes maxL ret2) ({ frames := fr, cells := mc, slots := ms, locals := lo }) mc ms n ∧ (Cond.instanceMethod y2).before args s = true ∧ (Cond.selects C2 y2 y2).before args s = true)
    (hv : ∃ cell : Cell, H[b]? = some cell ∧ cell.vm.isStatics = false ∧ s.vm.findClass C2 = some cell.cls)
    (hK : tK D s) (hX : tX E A s s.heap) (hP : va_P D.1 clAll ws H) (hD : va_D A ws) (hS : va_S A s.heap H locs) (hA : ∀ q : Nat, s.heap.size ≤ q → A q) (isC isR : List Nat) (hC : isC.map (fun i => ws[i]?) = wc.map some) (hR : isR.map (fun i => ws[i]?) = wr.map some) (hnC : va_nd isC = true) (hnR : va_nd isR = true) (hdis : ∀ i ∈ isR, i ∉ isC) (hYb : tYb Y) (hY : ∀ U : State, U.heap = H → s.WarmedH U.vm → Y (va_A wc H.size) U)
    (hn : As.length = n) (hsz : ls.size = nL) (hst : st0 = As.reverse ++ .ref b :: rest) (hW : (rest.map fun v => v.category).sum ≤ 8) (hdg : decode cc pc = .ok (.invokevirtual index, 3)) (hf : cells + mc ≤ R.cells ∧ slots + ms ≤ R.slots)
    (kk : ∀ (u : S) (H1 : Heap) (locs1 : List Loc), post u → va_P D.1 clAll (wr ++ wo u) H1 → va_D A (wr ++ wo u) → va_S A s.heap H1 locs1 → W p l e R s m args below meth c H1 locs1 (cells + mc) (slots + ms) Q (F0 m (pc + 3) ls ((rv u).toList ++ rest))) : W p l e R s m args below meth c H locs cells slots Q (F0 m pc ls st0) := by
  obtain ⟨h1, h2, h3, h4, h5, -⟩ := C
  exact t_after rfl (va_runVN (C := C2) (g := F0 m pc ls st0) (rest := rest) ⟨h1, h2, h3, h4, h5⟩ (hM H.size) cw ⟨t_blind hYb, hv, fun U hU hW => ⟨rfl, t_pre hK hX hP hD hS hA isC hnC hC hY U hU hW⟩⟩ rfl hn hsz hst (lv_room hW) hdg hf) hP hD hS hA isC isR hC hR hnR hdis kk
theorem t_callRSN (C : tC p s m args meth c cc nL ret y) (hM : tRd l y2 bytes maxL ret2 fr lo As D E wc Y r)
    (cw : va_CN R s args y.cls index y2 host bytes maxL ret2 (ws_ y2 bytes maxL ret2) ({ frames := fr, cells := 0, slots := 0, locals := lo }) 0 0 n ∧ (Cond.static y2).before args s = true ∧ True)
    (hK : tK D s) (hX : tX E A s s.heap) (hP : va_P D.1 clAll ws H) (hD : va_D A ws) (hS : va_S A s.heap H locs) (hA : ∀ q : Nat, s.heap.size ≤ q → A q) (isC : List Nat) (hC : isC.map (fun i => ws[i]?) = wc.map some) (hnC : va_nd isC = true) (hYb : tYb Y) (hY : ∀ U : State, U.heap = H → s.WarmedH U.vm → Y (va_A wc H.size) U)
    (hn : As.length = n) (hsz : ls.size = nL) (hst : st0 = As.reverse ++ rest) (hW : (rest.map fun v => v.category).sum ≤ 8) (hdg : decode cc pc = .ok (.invokestatic index, 3)) (hf : cells ≤ R.cells ∧ slots ≤ R.slots)
    (kk : W p l e R s m args below meth c H locs cells slots Q (F0 m (pc + 3) ls (r.toList ++ rest))) : W p l e R s m args below meth c H locs cells slots Q (F0 m pc ls st0) := by
  obtain ⟨h1, h2, h3, h4, h5, -⟩ := C
  exact t_afterR rfl (va_runSN (g := F0 m pc ls st0) (rest := rest) ⟨h1, h2, h3, h4, h5⟩ (hM H.size) cw ⟨t_blind hYb, fun U hU hW => ⟨rfl, t_pre hK hX hP hD hS hA isC hnC hC hY U hU hW⟩⟩ rfl hn hsz hst (lv_room hW) hdg hf) kk
theorem cnS {own : String} (n : Nat) (ht : ∀ w ∈ lw_all, w.before args s = true) (hG : GoodIn lw_all (ws_ y2 bytes maxL ret2)) (hl : va_Nw (.methodLinkNest own index y2 host) s) (hini : (Cond.initialized y2.cls).before args s = true)
    (hd : y2.cls ≠ "java/lang/invoke/MethodHandle" ∧ y2.cls ≠ "java/lang/invoke/VarHandle" ∧ (parseMethodDescriptor y2.desc).map (fun d => d.parameters.length) = some n) (hR : fr + 1 ≤ R.frames ∧ 8 + (maxL + 11) + lo ≤ R.locals) : va_CN R s args own index y2 host bytes maxL ret2 (ws_ y2 bytes maxL ret2) ({ frames := fr, cells := mc, slots := ms, locals := lo }) mc ms n :=
  va_cnB n ht hG rfl rfl rfl hl hini hd hR
end TB5
