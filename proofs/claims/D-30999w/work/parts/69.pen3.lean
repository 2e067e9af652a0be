/-! making the pen, and what is said of it -/
set_option maxRecDepth 100000
def penCell (c : ClassId) (a : Nat) (z : Bool) : Cell := { cls := c, slots := #[.ref a, .int (zI z)], vm := .none }
def penQ (c : ClassId) (a : Nat) (z : Bool) : Array Value → State → Outcome → State → Prop := fun _ st oc t => oc = .returned (some (.ref st.heap.size)) ∧ t.heap = st.heap.push (penCell c a z)
def tYpen (E : TE) (a : Nat) (z : Bool) (q : Nat) : (Nat → Prop) → State → Prop := fun A U => U.heap[q]? = some (penCell E.2.2.2.2.2 a z) ∧ ¬ A q
theorem tYb_pen (E : TE) (a : Nat) (z : Bool) (q : Nat) : tYb (tYpen E a z q) := fun _ _ _ _ _ h => h
theorem mk_inv {α : Type} {x : Array Nat} {f : Nat → Nat → Nat → Option α} {r : α} (h : Lambda.shapeOf?.match_15 (fun _ => Option α) x f (fun _ => none) = some r) : ∃ a0 a1 a2, f a0 a1 a2 = some r := by
  rcases x with ⟨L⟩
  match L, h with
  | [], h => cases h
  | [_], h => cases h
  | [_, _], h => cases h
  | [a, b, c], h => exact ⟨a, b, c, h⟩
  | _ :: _ :: _ :: _ :: _, h => cases h
theorem mk_site {cf : Jvm.ClassFile.ClassFile} {index : Nat} {σ : Lambda.Shape} (h : Lambda.shapeOf? cf index = some σ) :
    ∃ (b nt : Nat) (desc : String) (site : MethodDescriptor), cf.constantPool[index]? = some (.invokeDynamic b nt) ∧ cf.constantPool.nameAndType? nt = some (σ.name, desc) ∧ parseMethodDescriptor desc = some site ∧ site.parameters = σ.captured := by
  unfold Lambda.shapeOf? at h
  split at h
  · next b nt hc =>
    obtain ⟨entries, -, h⟩ := Option.bind_eq_some_iff.mp h
    obtain ⟨bm, -, h⟩ := Option.bind_eq_some_iff.mp h
    split at h
    · obtain ⟨_, -, h⟩ := Option.bind_eq_some_iff.mp h
      obtain ⟨a0, a1, a2, h⟩ := mk_inv h
      split at h
      · split at h
        · split at h
          · obtain ⟨⟨name, desc⟩, hnt, h⟩ := Option.bind_eq_some_iff.mp h
            obtain ⟨site, hsite, h⟩ := Option.bind_eq_some_iff.mp h
            dsimp only at h
            split at h
            · obtain ⟨⟨implClass, implName, implDesc, implItf⟩, -, h⟩ := Option.bind_eq_some_iff.mp h
              obtain ⟨x1, -, h⟩ := Option.bind_eq_some_iff.mp h
              obtain ⟨x2, -, h⟩ := Option.bind_eq_some_iff.mp h
              obtain ⟨x3, -, h⟩ := Option.bind_eq_some_iff.mp h
              obtain ⟨x4, -, h⟩ := Option.bind_eq_some_iff.mp h
              obtain ⟨x5, -, h⟩ := Option.bind_eq_some_iff.mp h
              cases h
              exact ⟨b, nt, desc, site, hc, hnt, hsite, rfl⟩
            · cases h
          · cases h
        · cases h
      · cases h
    · cases h
  · cases h
theorem mk_kind {e : Setting} {vm : Vm} {d c : ClassId} (h : Lambda.isMade e vm d tSh c = true) : ∃ k, vm.classes[c]? = some k ∧ k.kind = .ordinary := by
  obtain ⟨dk', k, ok, tk, file, cf, object, iface, t, lay, methods, target, found, h1, h2, h3, h4, h5, h6, h7, h8, h9, h10, h11, h12, h13, ⟨-, hkind, -⟩, -⟩ := Lambda.isMade_spec h
  exact ⟨k, h2, hkind⟩
theorem met_X2_pen (l : Launch) (D : TG) (E : TE) (a : Nat) (z : Bool) (sz : Nat) : Met l yX2_pen (ws_ yX2_pen cX2_pen 2 (some (.object "TufaSteps$Pen"))) ({ frames := 0, cells := 1, slots := 2, locals := 3100 }) (va_Pc [.ref a, .int (zI z)] (tPre D E [] sz tY0)) (penQ E.2.2.2.2.2 a z) 1 2 (fun _ => False) := by
  refine Met.ofW (cc := cX2_pen) (maxL := 2) (ret := some (.object "TufaSteps$Pen")) (by decide +kernel) rfl ?_
  intro p e s m args below meth c s₁ B hml hv
  obtain ⟨rfl, hsz, hP, hK, hD0, hX, hY⟩ := hv
  subst hsz
  have hts0 := atoms_spec (ws := ws_ yX2_pen cX2_pen 2 (some (.object "TufaSteps$Pen"))) B.pre
  have hts : ∀ w ∈ lw_all, w.before #[.ref a, .int (zI z)] s = true := fun w h => hts0 w (List.mem_cons_of_mem _ h)
  have hl := lv_entry [.ref a, .int (zI z)] (n := 2) (Nat.le_refl 2)
  rw [lg_entry_eq]
  have hl : lv_has (entryFrame m #[.ref a, .int (zI z)] 2).locals 2 [(0, .ref a), (1, .int (zI z))] := hl
  have kx := B.exec
  have kb := B.bytes
  refine lv_aload_n kx kb dX2_pen_0 rfl (lv_at hl 0 rfl) ?_
  refine lv_iload_n kx kb dX2_pen_1 rfl (lv_at hl 1 rfl) ?_
  have hlam : tLam E.2.2.2.2.2 s := hX.2.2.2.2.2.2.2.2.2.2.2.2.2.2.1
  obtain ⟨m', kS, cfS, i0, p0, lk, hm', hkS, hcfS, hshape, -, hfind, hmade, hcan, hlk⟩ := State.lambdaAt?_spec hlam
  cases B.named.symm.trans hm'
  obtain ⟨rfl, -, -⟩ : lk = .makes E.2.2.2.2.2 ∧ (none : Option Addr) = none ∧ tSh.captured ≠ [] := by
    rcases hlk with ⟨a, cell, -, h, -⟩ | h
    · cases h
    · exact h
  obtain ⟨kS', hkS', hnameS⟩ := className_of_methodNamed B.named
  cases hkS.symm.trans hkS'
  obtain ⟨bsm, nt, desc, site, hc, hnt, hsite, hpar⟩ := mk_site hshape
  obtain ⟨kK, -, -, -, -, -, -, -, -, hkK, -, -, -, htyK, -⟩ := mk_facts hkS hnameS hmade (mk_O hts)
  obtain ⟨kK', hkK', hkindK⟩ := mk_kind hmade
  cases hkK.symm.trans hkK'
  have hslotsE : ((kK.instanceTypes.toList.zip [Value.ref a, Value.int (zI z)]).map fun (t, v) => narrow t v) = [Value.ref a, Value.int (zI z)] := by
    rw [htyK]
    cases z <;> rfl
  intro T hT X
  obtain ⟨X₁, st1⟩ := X.lambdaMakes kx (g := F0 m 2 (entryFrame m #[.ref a, .int (zI z)] 2).locals [.int (zI z), .ref a]) rfl (hl.1.trans hml.symm) (by rw [kb]; exact dX2_pen_2) (vals := [Value.ref a, Value.int (zI z)]) (rest := [])
    hkS hfind hcfS hc hnt (parseLong_of_parse hsite) (by rw [hpar]; rfl) rfl hkK
    (by rw [B.admits.platform]; show 2 * 0 + (1 + (1 + 0)) + 3072 ≤ 3100; omega) (by show 0 + 1 ≤ 1; omega) (by rw [hslotsE]; show 0 + 2 ≤ 2; omega)
    (fun i v hv => by
      rw [hslotsE] at hv
      match i with
      | 0 => simp at hv; subst hv; simp [State.fitsSlot, State.slotType?, hkK, hkindK, htyK, fits]
      | 1 => simp at hv; subst hv; cases z <;> simp [State.fitsSlot, State.slotType?, hkK, hkindK, htyK, zI, fits]
      | j + 2 => simp at hv)
  rw [hslotsE] at X₁ st1
  have hend : W p l e ({ frames := 0, cells := 1, slots := 2, locals := 3100 }) s m #[.ref a, .int (zI z)] below meth c (s.heap.push (penCell E.2.2.2.2.2 a z)) [] 1 2 (MQ below (penQ E.2.2.2.2.2 a z) #[.ref a, .int (zI z)] s 1 2 (fun _ => False)) (F0 m 7 (entryFrame m #[.ref a, .int (zI z)] 2).locals [.ref s.heap.size]) :=
    W.aret kx kb B.returns (Or.inl ⟨_, rfl⟩) (Or.inr ⟨_, rfl⟩) (fun t ht hW => ⟨rfl, ht⟩) (fun q h => by cases h) dX2_pen_7 B.notSynchronized
  obtain ⟨t, a1, b1⟩ := hend (T.pushCell { cls := E.2.2.2.2.2, slots := [Value.ref a, Value.int (zI z)].toArray, vm := .none }) (by rw [← hT]; rfl) X₁
  rw [← hT] at a1
  exact ⟨t, st1 t a1, b1⟩
section TPEN
variable {p : Program} {l : Launch} {e : Env} {R : Room} {s : State} {m : MethodId} {args : Array Value} {below : List Frame} {meth : Method} {c : Code} {H : Heap} {locs : List Loc} {cells slots : Nat} {Q : State → Prop}
variable {cc : ByteArray} {pc nL : Nat} {ls : Array Slot} {rest st0 : List Value} {D : TG} {E : TE} {A : Nat → Prop} {ret : Option FieldType} {y : MethodName} {host : String} {index a : Nat} {z : Bool} {ws : va_W}
theorem t_callPen (C : tC p s m args meth c cc nL ret y)
    (cw : va_CN R s args y.cls index yX2_pen host cX2_pen 2 (some (.object "TufaSteps$Pen")) (ws_ yX2_pen cX2_pen 2 (some (.object "TufaSteps$Pen"))) ({ frames := 0, cells := 1, slots := 2, locals := 3100 }) 1 2 1 ∧ (Cond.instanceMethod yX2_pen).before args s = true ∧ (Cond.selects "TufaSteps$Picture" yX2_pen yX2_pen).before args s = true)
    (hv : ∃ cell : Cell, H[a]? = some cell ∧ cell.vm.isStatics = false ∧ s.vm.findClass "TufaSteps$Picture" = some cell.cls)
    (hK : tK D s) (hX : tX E A s s.heap) (hP : va_P D.1 clAll ws H) (hD : va_D A ws) (hS : va_S A s.heap H locs) (hA : ∀ q : Nat, s.heap.size ≤ q → A q)
    (hsz : ls.size = nL) (hst : st0 = .int (zI z) :: .ref a :: rest) (hW : (rest.map fun v => v.category).sum ≤ 8) (hdg : decode cc pc = .ok (.invokevirtual index, 3)) (hf : cells + 1 ≤ R.cells ∧ slots + 2 ≤ R.slots)
    (kk : ∀ H1 : Heap, va_P D.1 clAll ws H1 → va_S A s.heap H1 locs → H1[H.size]? = some (penCell E.2.2.2.2.2 a z) → H1.size = H.size + 1 → (∀ (k : Nat) (x : Nat × va_E), ws[k]? = some x → x.1 < H.size) → W p l e R s m args below meth c H1 locs (cells + 1) (slots + 2) Q (F0 m (pc + 3) ls (.ref H.size :: rest))) : W p l e R s m args below meth c H locs cells slots Q (F0 m pc ls st0) := by
  obtain ⟨h1, h2, h3, h4, h5, -⟩ := C
  subst hst
  intro T hT X
  obtain ⟨v, st₀, t, T', L, h0, X', hL, e1, e2, hq, st⟩ := va_runVN (C := "TufaSteps$Picture") (g := F0 m pc ls (.int (zI z) :: .ref a :: rest)) (rest := rest) (As := [.int (zI z)]) ⟨h1, h2, h3, h4, h5⟩ (met_X2_pen l D E a z H.size) cw ⟨t_blind tYb_0, hv, fun U hU hW => ⟨rfl, t_pre hK hX hP hD hS hA [] rfl rfl (fun _ _ _ => trivial) U hU hW⟩⟩ rfl rfl hsz rfl (lv_room hW) hdg hf T hT X
  obtain ⟨hv, hh⟩ := hq
  cases hv
  have eH : T'.heap = H.push (penCell E.2.2.2.2.2 a z) := by rw [e1, hh, h0]
  have hlt : ∀ (k : Nat) (x : Nat × va_E), ws[k]? = some x → x.1 < H.size := fun k x hx => (hP k x hx).lt
  have hold : ∀ q : Nat, q < H.size → T'.heap[q]? = H[q]? := fun q hq => by rw [eH, Array.getElem?_push, if_neg (by omega)]
  have hL0 : L = [] := by
    cases L with
    | nil => rfl
    | cons x L => exact (hL x List.mem_cons_self).elim
  subst hL0
  rw [List.append_nil] at X'
  obtain ⟨t2, a1, b1⟩ := kk T'.heap (hP.kept (fun k x hx => hold _ (hlt k x hx))) ⟨Nat.le_trans hS.1 (by rw [eH, Array.size_push]; omega), fun q h1 h2 => (hold q (Nat.lt_of_lt_of_le h1 hS.1)).trans (hS.2.1 q h1 h2), hS.2.2⟩ (by rw [eH, Array.getElem?_push, if_pos rfl]) (by rw [eH, Array.size_push]) hlt T' rfl X'
  rw [h0] at st
  exact ⟨t2, st t2 a1, b1⟩
theorem tYpen_new {q : Nat} {H1 : Heap} {wc : va_W} (h : H1[q]? = some (penCell E.2.2.2.2.2 a z)) (hlt : ∀ (k : Nat) (x : Nat × va_E), ws[k]? = some x → x.1 < q) (hs : H1.size = q + 1) (isC : List Nat) (hC : isC.map (fun i => ws[i]?) = wc.map some) : ∀ U : State, U.heap = H1 → s.WarmedH U.vm → tYpen E a z q (va_A wc H1.size) U := by
  intro U hU _
  refine ⟨by rw [hU]; exact h, fun hq => ?_⟩
  rcases hq with ⟨k, x, hk⟩ | hq
  · have h1 : (isC.map (fun i => ws[i]?))[k]? = some (some (q, x)) := by rw [hC, List.getElem?_map, hk]; rfl
    rw [List.getElem?_map] at h1
    cases hi : isC[k]? with
    | none => rw [hi] at h1; cases h1
    | some i =>
      rw [hi] at h1
      have := hlt i (q, x) (Option.some.inj h1)
      exact Nat.lt_irrefl _ this
  · omega
variable {fr lo mc ms q : Nat} {x1 y1 : Int32} {wc wr : va_W} {S : Type} {post : S → Prop} {rv : S → Option Value} {wo : S → va_W} {count : Nat}
theorem t_callDraw (C : tC p s m args meth c cc nL ret y) (hY : tYpen E a z q A s) (hlink : Cond.methodLink y.cls index tPenD ∈ lw_all)
    (hM : tMet l yX2_lambda_pen_0 cX2_lambda_pen_0 4 none fr lo mc ms [.ref a, .int (zI z), .int x1, .int y1] D E wc tY0 post rv wo) (hrv : ∀ u, rv u = none) (hR : fr + 2 ≤ R.frames ∧ 60 + lo ≤ R.locals)
    (hv : ∃ cell : Cell, H[a]? = some cell ∧ cell.vm.isStatics = false ∧ s.vm.findClass "TufaSteps$Picture" = some cell.cls)
    (hK : tK D s) (hX : tX E A s s.heap) (hP : va_P D.1 clAll ws H) (hD : va_D A ws) (hS : va_S A s.heap H locs) (hA : ∀ q : Nat, s.heap.size ≤ q → A q) (isC isR : List Nat) (hC : isC.map (fun i => ws[i]?) = wc.map some) (hR' : isR.map (fun i => ws[i]?) = wr.map some) (hnC : va_nd isC = true) (hnR : va_nd isR = true) (hdis : ∀ i ∈ isR, i ∉ isC)
    (hsz : ls.size = nL) (hst : st0 = .int y1 :: .int x1 :: .ref q :: rest) (hW : (rest.map fun v => v.category).sum ≤ 8) (hdg : decode cc pc = .ok (.invokeinterface index count, 5)) (hf : cells + mc ≤ R.cells ∧ slots + ms ≤ R.slots)
    (kk : ∀ (u : S) (H1 : Heap) (locs1 : List Loc), post u → va_P D.1 clAll (wr ++ wo u) H1 → va_D A (wr ++ wo u) → va_S A s.heap H1 locs1 → W p l e R s m args below meth c H1 locs1 (cells + mc) (slots + ms) Q (F0 m (pc + 5) ls rest)) : W p l e R s m args below meth c H locs cells slots Q (F0 m pc ls st0) := by
  have hCC := C
  obtain ⟨h1, h2, h3, h4, h5, -⟩ := C
  have hq : H[q]? = some (penCell E.2.2.2.2.2 a z) := by
    rw [hS.2.1 q (Array.getElem?_eq_some_iff.mp hY.1).1 hY.2]; exact hY.1
  refine t_after5 rfl (va_runLam (g := F0 m pc ls st0) (rest := rest) (x := x1) (y := y1) (z := zI z) (q := q) (a := a) ⟨h1, h2, h3, h4, h5⟩ hlink hX.2.2.2.2.2.2.2.2.2.2.2.2.2.2.1 hX.2.2.2.2.2.2.2.2.2.2.2.2.2.2.2.2.2.2 hq hv (hM H.size) (t_blind tYb_0) (fun U hU hW => ⟨rfl, t_pre hK hX hP hD hS hA isC hnC hC (fun _ _ _ => trivial) U hU hW⟩)
    (fun a' st o t h => by obtain ⟨⟨u, ho, -⟩, -⟩ := h; rw [ho, hrv]) ⟨rfl, rfl, hR.1, hR.2⟩ rfl hsz hst (lv_room hW) hdg hf) hP hD hS hA isC isR hC hR' hnR hdis ?_
  intro u H1 locs1 hp hP1 hD1 hS1
  rw [hrv u]
  exact kk u H1 locs1 hp hP1 hD1 hS1
end TPEN
