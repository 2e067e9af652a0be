/-! calls through an interface -/
set_option maxRecDepth 100000
section TF
variable {p : Program} {l : Launch} {e : Env} {R : Room} {s : State} {m : MethodId} {args : Array Value} {below : List Frame} {meth : Method} {c : Code} {H : Heap} {locs : List Loc} {cells slots : Nat} {Q : State → Prop}
variable {cc : ByteArray} {pc nL : Nat} {ls : Array Slot} {rest st0 : List Value} {D : TG} {E : TE} {A : Nat → Prop} {ret : Option FieldType} {y : MethodName}
variable {x2 y2 : MethodName} {bytes : ByteArray} {maxL index count n fr lo mc ms b : Nat} {ret2 : Option FieldType} {As : List Value} {ws wc wr : va_W} {Y : (Nat → Prop) → State → Prop} {S : Type} {post : S → Prop} {rv : S → Option Value} {wo : S → va_W} {C2 : String} {cC : ClassId} {r : Option Value}
theorem t_after5 {g : JFrame} {a : Array Value} (hg : g = F0 m pc ls st0) (hr : va_Run5 p l e R s m args below meth c H locs cells slots mc ms g rest (tQ D (va_A wc H.size) post rv wo a) (va_A wc H.size)) (hP : va_P D.1 clAll ws H) (hD : va_D A ws) (hS : va_S A s.heap H locs) (hA : ∀ q : Nat, s.heap.size ≤ q → A q) (isC isR : List Nat) (hC : isC.map (fun i => ws[i]?) = wc.map some) (hR : isR.map (fun i => ws[i]?) = wr.map some) (hn : va_nd isR = true) (hdis : ∀ i ∈ isR, i ∉ isC)
    (kk : ∀ (u : S) (H1 : Heap) (locs1 : List Loc), post u → va_P D.1 clAll (wr ++ wo u) H1 → va_D A (wr ++ wo u) → va_S A s.heap H1 locs1 → W p l e R s m args below meth c H1 locs1 (cells + mc) (slots + ms) Q (F0 m (pc + 5) ls ((rv u).toList ++ rest))) : W p l e R s m args below meth c H locs cells slots Q (F0 m pc ls st0) := by
  subst hg
  intro T hT X
  obtain ⟨v, st₀, t, T', L, h0, X', hL, e1, e2, ⟨⟨u, hv, hp, hPo, hDo⟩, hz, hk⟩, st⟩ := hr T hT X
  cases hv
  rw [h0] at hz hk
  have hF := va_free (wc := wc) hD hS hA isC hC
  obtain ⟨hP1, hD1⟩ := va_join (wr := wr) (w1 := wo u) hP hD isC isR hC hR hn hdis (H1 := T'.heap) (fun q h1 h2 => by rw [e1]; exact hk q h1 h2) hF (by rw [e1]; exact hPo) hDo
  obtain ⟨t2, a1, b1⟩ := kk u T'.heap (locs ++ L) hp hP1 hD1 ⟨Nat.le_trans hS.1 (by rw [e1]; exact hz), fun q h1 h2 => by rw [e1, hk q (Nat.lt_of_lt_of_le h1 hS.1) (fun z => h2 (hF q z))]; exact hS.2.1 q h1 h2, fun q hq => by
      rcases List.mem_append.mp hq with h | h
      · exact hS.2.2 q h
      · exact hF _ (hL q h)⟩ T' rfl X'
  exact ⟨t2, st t2 a1, b1⟩
theorem t_afterR5 {g : JFrame} {a : Array Value} (hg : g = F0 m pc ls st0) (hr : va_Run5 p l e R s m args below meth c H locs cells slots 0 0 g rest (tQr r a) (fun _ => False))
    (kk : W p l e R s m args below meth c H locs cells slots Q (F0 m (pc + 5) ls (r.toList ++ rest))) : W p l e R s m args below meth c H locs cells slots Q (F0 m pc ls st0) := by
  subst hg
  intro T hT X
  obtain ⟨v, st₀, t, T', L, h0, X', hL, e1, e2, ⟨hv, hh⟩, st⟩ := hr T hT X
  cases hv
  obtain ⟨t2, a1, b1⟩ := kk T' (by rw [e1, hh, h0]) (Stand.forget X' (fun q h => (hL q h).elim))
  exact ⟨t2, st t2 a1, b1⟩
theorem t_callF (hat : ClassAt s C2 cC) (C : tC p s m args meth c cc nL ret y) (hM : tMet l y2 bytes maxL ret2 fr lo mc ms (.ref b :: As) D E wc Y post rv wo)
    (cw : va_CI R s args y.cls C2 index x2 y2 bytes maxL ret2 (ws_ y2 bytes maxL ret2) ({ frames := fr, cells := mc, slots := ms, locals := lo }) mc ms n)
    (hv : ∃ cell : Cell, H[b]? = some cell ∧ cell.vm.isStatics = false ∧ s.vm.findClass C2 = some cell.cls)
    (hK : tK D s) (hX : tX E A s s.heap) (hP : va_P D.1 clAll ws H) (hD : va_D A ws) (hS : va_S A s.heap H locs) (hA : ∀ q : Nat, s.heap.size ≤ q → A q) (isC isR : List Nat) (hC : isC.map (fun i => ws[i]?) = wc.map some) (hR : isR.map (fun i => ws[i]?) = wr.map some) (hnC : va_nd isC = true) (hnR : va_nd isR = true) (hdis : ∀ i ∈ isR, i ∉ isC) (hYb : tYb Y) (hY : ∀ U : State, U.heap = H → s.WarmedH U.vm → Y (va_A wc H.size) U)
    (hn : As.length = n) (hsz : ls.size = nL) (hst : st0 = As.reverse ++ .ref b :: rest) (hW : (rest.map fun v => v.category).sum ≤ 8) (hdg : decode cc pc = .ok (.invokeinterface index count, 5)) (hf : cells + mc ≤ R.cells ∧ slots + ms ≤ R.slots)
    (kk : ∀ (u : S) (H1 : Heap) (locs1 : List Loc), post u → va_P D.1 clAll (wr ++ wo u) H1 → va_D A (wr ++ wo u) → va_S A s.heap H1 locs1 → W p l e R s m args below meth c H1 locs1 (cells + mc) (slots + ms) Q (F0 m (pc + 5) ls ((rv u).toList ++ rest))) : W p l e R s m args below meth c H locs cells slots Q (F0 m pc ls st0) := by
  obtain ⟨h1, h2, h3, h4, h5, -⟩ := C
  exact t_after5 rfl (va_runF hat (g := F0 m pc ls st0) (rest := rest) ⟨h1, h2, h3, h4, h5⟩ (hM H.size) cw ⟨t_blind hYb, hv, fun U hU hW => ⟨rfl, t_pre hK hX hP hD hS hA isC hnC hC hY U hU hW⟩⟩ rfl hn hsz hst (lv_room hW) hdg hf) hP hD hS hA isC isR hC hR hnR hdis kk
theorem t_callRF (hat : ClassAt s C2 cC) (C : tC p s m args meth c cc nL ret y) (hM : tRd l y2 bytes maxL ret2 fr lo (.ref b :: As) D E wc Y r)
    (cw : va_CI R s args y.cls C2 index x2 y2 bytes maxL ret2 (ws_ y2 bytes maxL ret2) ({ frames := fr, cells := 0, slots := 0, locals := lo }) 0 0 n)
    (hv : ∃ cell : Cell, H[b]? = some cell ∧ cell.vm.isStatics = false ∧ s.vm.findClass C2 = some cell.cls)
    (hK : tK D s) (hX : tX E A s s.heap) (hP : va_P D.1 clAll ws H) (hD : va_D A ws) (hS : va_S A s.heap H locs) (hA : ∀ q : Nat, s.heap.size ≤ q → A q) (isC : List Nat) (hC : isC.map (fun i => ws[i]?) = wc.map some) (hnC : va_nd isC = true) (hYb : tYb Y) (hY : ∀ U : State, U.heap = H → s.WarmedH U.vm → Y (va_A wc H.size) U)
    (hn : As.length = n) (hsz : ls.size = nL) (hst : st0 = As.reverse ++ .ref b :: rest) (hW : (rest.map fun v => v.category).sum ≤ 8) (hdg : decode cc pc = .ok (.invokeinterface index count, 5)) (hf : cells ≤ R.cells ∧ slots ≤ R.slots)
    (kk : W p l e R s m args below meth c H locs cells slots Q (F0 m (pc + 5) ls (r.toList ++ rest))) : W p l e R s m args below meth c H locs cells slots Q (F0 m pc ls st0) := by
  obtain ⟨h1, h2, h3, h4, h5, -⟩ := C
  exact t_afterR5 rfl (va_runF hat (g := F0 m pc ls st0) (rest := rest) ⟨h1, h2, h3, h4, h5⟩ (hM H.size) cw ⟨t_blind hYb, hv, fun U hU hW => ⟨rfl, t_pre hK hX hP hD hS hA isC hnC hC hY U hU hW⟩⟩ rfl hn hsz hst (lv_room hW) hdg hf) kk
end TF
theorem i2l_1 : (iI 1).toInt64 = (1 : Int64) := by decide
theorem i2l_0 : (iI 0).toInt64 = (0 : Int64) := by decide
theorem va_D.dropl {A : Nat → Prop} {fx p1 p2 : va_W} (h : va_D A (fx ++ (p1 ++ p2))) : va_D A (fx ++ p1) := h.sublist (List.Sublist.append_left (List.sublist_append_left p1 p2) fx)
theorem va_P.dropl {G : va_G} {cl : List vw_C} {H : Heap} {fx p1 p2 : va_W} (h : va_P G cl (fx ++ (p1 ++ p2)) H) : va_P G cl (fx ++ p1) H := pl_mem (fun _ hq => (List.Sublist.append_left (List.sublist_append_left p1 p2) fx).subset hq) h
