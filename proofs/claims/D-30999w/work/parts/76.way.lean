/-! the ways: values() -/
set_option maxRecDepth 100000
theorem w_name : "[" ++ (FieldType.object "TufaSteps$Way").toString = "[LTufaSteps$Way;" := by decide +kernel
theorem met_X4_values (l : Launch) (D : TG) (E : TE) : tMet l yX4_values cX4_values 0 (some (.array (.object "TufaSteps$Way"))) 1 60 (1) (4) [] D E [] tY0 (S := Nat) (fun u_ => True) (fun u_ => some (.ref u_)) (fun u_ => [(u_, .inl (D.2 6, 4, .inr (.inr (.inr (.inr (fun k => some (E.2.1 k)))))))]) := by
  refine tu_met (by decide +kernel) (Nat.le_of_ble_eq_true rfl) ?_
  intro p0 e0 s0 m0 below meth c0 A ls args Q hag hQ C hK hX hY hP hD hA hAe hl
  obtain ⟨kx, kb, hml, hown, hts, -⟩ := id C
  have hS : va_S A s0.heap s0.heap [] := va_S.rf
  have hl : lv_has ls 0 [] := hl
  refine va_gets (v := .ref E.2.2.2.1) kx kb hX.2.2.2.2.2.2.1 hS hown (hts _ q1283) (fun _ h9 => h9) dX4_values_0 ?_
  obtain ⟨cell, w1, w2, w3, w4, w5, w6, w7⟩ := hX.2.2.2.2.2.2.2.1
  obtain ⟨c9, t9, f1, f2, f3⟩ := Cond.castable_spec (va_Nw.use (A := args) rfl (hX.1 _ q1288 rfl))
  cases w4.symm.trans f1
  have hRA := (hK.2 6 (D.2 6, .object "TufaSteps$Way") rfl).2
  obtain ⟨kA, comp, g1, g2, g3, g4⟩ := hRA
  have hcD : cell.cls = D.2 6 := by
    rw [w_name] at g4
    exact Option.some.inj (w4.symm.trans g4)
  obtain ⟨n1, kS, hkS, compS, hkindS⟩ := w2
  have hsl : cell.slots = (arrV (D.2 6) 4 (fun k => .ref (E.2.1 k))).slots := Array.ext_getElem? fun i => by
    by_cases hi : i < 4
    · rw [w6 i hi, arrV_read _ _ hi]
    · rw [Array.getElem?_eq_none (by omega), Array.getElem?_eq_none (by rw [arrV_size]; omega)]
  have hnew : ({ cls := cell.cls, slots := cell.slots } : Cell) = vp_cell (D.2 6) (4, .inr (.inr (.inr (.inr (fun k => some (E.2.1 k)))))) := by
    rw [hcD, hsl]; rfl
  have kk : ∀ (q : Nat) (H1 : Heap), va_P D.1 clAll [(q, .inl (D.2 6, 4, .inr (.inr (.inr (.inr (fun k => some (E.2.1 k)))))))] H1 → va_D A [(q, .inl (D.2 6, 4, .inr (.inr (.inr (.inr (fun k => some (E.2.1 k)))))))] → va_S A s0.heap H1 [] → W p0 l e0 ({ frames := 1, cells := 1, slots := 4, locals := 60 } : Room) s0 m0 args below meth c0 H1 [] 1 4 Q (F0 m0 6 ls [.ref q]) := by
    intro q H1 hP hD hS
    refine va_castA kx kb hown (hts _ q1290) hP 0 rfl (by rw [w_name] at g4; exact g4) dX4_values_6 ?_
    subst hQ
    exact tm_aret C q trivial hP hD hS (Nat.le_refl 1) (Nat.le_refl 4) rfl rfl (Or.inr ⟨_, rfl⟩) (Or.inr ⟨_, rfl⟩) dX4_values_9
  intro T hT X
  have hT3 : T.heap[E.2.2.2.1]? = some cell := by rw [hT]; exact w1
  obtain ⟨vm', X', st⟩ := X.cloneArray kx hown (hts _ q1285) (hts _ q1286) (hts _ q284) (hts _ q285) (hts _ q1287) (a := E.2.2.2.1) (cell := cell) hT3 n1 w3 w4 f2 f3
    (fun i v hv => by
      obtain ⟨k', hk', he⟩ := X.warmed.alike.2.2 _ _ hkS
      have hkd : k'.kind = .array compS (.object "TufaSteps$Way") := by rw [he]; exact hkindS
      have hi : i < 4 := by
        have := (Array.getElem?_eq_some_iff.mp hv).1
        omega
      rw [w6 i hi] at hv
      cases hv
      simp [State.fitsSlot, State.slotType?, hk', hkd, fits])
    (g := F0 m0 3 ls [.ref E.2.2.2.1]) rfl (by show ls.size = c0.maxLocals; rw [hl.1, hml]) rfl (by rw [kb]; exact dX4_values_3) (Nat.le_refl 1) (by show 2 * 0 + _ + 14 ≤ _; decide) (by show 0 + 1 ≤ 1; decide) (by rw [w5]; show 0 + 4 ≤ 4; decide) (hloader := Vm.clonesLoader_of_array hkS hkindS)
  rw [hnew, w5] at X'
  generalize hH1 : s0.heap.push (vp_cell (D.2 6) (4, .inr (.inr (.inr (.inr (fun k => some (E.2.1 k))))))) = H1
  have e1 : H1[s0.heap.size]? = some (vp_cell (D.2 6) (4, .inr (.inr (.inr (.inr (fun k => some (E.2.1 k))))))) := by rw [← hH1, Array.getElem?_push_size]
  have o1 : ∀ q : Nat, q < s0.heap.size → H1[q]? = s0.heap[q]? := fun q hq => by rw [← hH1, Array.getElem?_push, if_neg (Nat.ne_of_lt hq)]
  obtain ⟨t, b1, b2⟩ := kk s0.heap.size H1 (fun k x hx => by
      have hz : k < 1 := (List.getElem?_eq_some_iff.mp hx).1
      rw [show k = 0 by omega] at hx
      cases hx
      exact e1) ⟨fun i j p q hi hj _ => by
        have h1 : i < 1 := (List.getElem?_eq_some_iff.mp hi).1
        have h2 : j < 1 := (List.getElem?_eq_some_iff.mp hj).1
        omega, fun k q hq => by
        have hz : k < 1 := (List.getElem?_eq_some_iff.mp hq).1
        rw [show k = 0 by omega] at hq
        cases hq
        exact hA _ (Nat.le_refl _)⟩ ⟨by rw [← hH1, Array.size_push]; omega, fun y h1 _ => o1 y h1, fun z hz => nomatch hz⟩
    ((T.setVm vm').pushCell (vp_cell (D.2 6) (4, .inr (.inr (.inr (.inr (fun k => some (E.2.1 k)))))))) (by rw [← hH1, ← hT]; rfl) X'
  refine ⟨t, st t ?_, b2⟩
  rw [hnew, hT]
  exact b1
section TW
variable {p : Program} {l : Launch} {e : Env} {R : Room} {s : State} {m : MethodId} {args : Array Value} {below : List Frame} {meth : Method} {c : Code} {H : Heap} {locs : List Loc} {cells slots : Nat} {Q : State → Prop}
variable {cc : ByteArray} {pc nL : Nat} {ls : Array Slot} {rest : List Value} {D : TG} {E : TE} {A : Nat → Prop} {ret : Option FieldType} {y : MethodName} {ws : va_W} {H0 : Heap} {a n : Nat} {z : Int}
theorem ta_wald (C : tC p s m args meth c cc nL ret y) (hK : tK D s) (hP : va_P D.1 clAll ws H) (q0 : Nat) {f : Nat → Option Nat} (ha : ws[q0]? = some (a, .inl (D.2 6, n, .inr (.inr (.inr (.inr f)))))) (k : Nat) (h : z = (k : Int) ∧ k < n ∧ n < 2147483648) (hdg : decode cc pc = .ok (.aaload, 1)) (kk : W p l e R s m args below meth c H locs cells slots Q (F0 m (pc + 1) ls (va_rf (f k) :: rest))) : W p l e R s m args below meth c H locs cells slots Q (F0 m pc ls (.int (iI z) :: .ref a :: rest)) :=
  va_aldq C.1 C.2.1 hK hP q0 6 ha rfl (iI_in h.1 h.2.1 h.2.2) hdg (by rw [iI_clamp h.1 (by omega)]; exact kk)
theorem tw_at {k : Nat} (hX : tX E A s s.heap) (hS : va_S A s.heap H locs) (hk : k < 4) : ∃ cell : Cell, H[E.2.1 k]? = some cell ∧ cell.vm.isStatics = false ∧ s.vm.findClass (tWay k) = some cell.cls := by
  obtain ⟨cell, h1, h2, h3, -⟩ := (hX.2.2.2.2.2.2.2.2.1 k hk).kept hS.2.1
  exact ⟨cell, h1, h2, h3⟩
end TW
