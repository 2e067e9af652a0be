/-! arrays of arrays of shorts: made at once; their rows, a pool -/
set_option maxRecDepth 100000
/-- the rows: n of m shorts each, at q + 1, q + 2 .. -/
def rwP (D : TG) (q n m : Nat) (d : Nat → Nat → Int) : va_W := (List.range n).map (fun k => (q + 1 + k, .inl (D.2 3, m, .inl (fun x_ => iI (d k x_)))))
def up2 (d : Nat → Nat → Int) (y x : Nat) (v : Int) : Nat → Nat → Int := fun k => if k = y then va_up (d y) x v else d k
theorem rw_len (D : TG) (q n m : Nat) (d : Nat → Nat → Int) : (rwP D q n m d).length = n := by simp [rwP]
theorem rw_get (D : TG) (q m : Nat) (d : Nat → Nat → Int) {n k : Nat} (h : k < n) : (rwP D q n m d)[k]? = some (q + 1 + k, .inl (D.2 3, m, .inl (fun x_ => iI (d k x_)))) := by
  rw [rwP, List.getElem?_map, List.getElem?_range h]
  rfl
theorem rw_at (D : TG) (fx : va_W) (q m : Nat) (d : Nat → Nat → Int) {n k : Nat} (h : k < n) : (fx ++ rwP D q n m d)[fx.length + k]? = some (q + 1 + k, .inl (D.2 3, m, .inl (fun x_ => iI (d k x_)))) := by
  rw [List.getElem?_append_right (by omega), show fx.length + k - fx.length = k by omega, rw_get D q m d h]
theorem rw_set (D : TG) (fx : va_W) (q m : Nat) (d : Nat → Nat → Int) {n k : Nat} (h : k < n) (x : Nat) (v : Int) : (fx ++ rwP D q n m d).set (fx.length + k) (q + 1 + k, .inl (D.2 3, m, .inl (fun x_ => iI (va_up (d k) x v x_)))) = fx ++ rwP D q n m (up2 d k x v) := by
  rw [List.set_append_right _ _ (by omega), show fx.length + k - fx.length = k by omega]
  congr 1
  refine List.ext_getElem? (fun i => ?_)
  by_cases e : i = k
  · subst e
    rw [List.getElem?_set_self (by rw [rw_len]; exact h), rw_get D q m (up2 d i x v) h, show up2 d i x v i = va_up (d i) x v from if_pos rfl]
  · rw [List.getElem?_set_ne (fun q => e q.symm)]
    by_cases hi : i < n
    · rw [rw_get D q m d hi, rw_get D q m (up2 d k x v) hi, show up2 d k x v i = d i from if_neg e]
    · rw [List.getElem?_eq_none (by rw [rw_len]; omega), List.getElem?_eq_none (by rw [rw_len]; omega)]
theorem rw_cell {cA : ClassId} {n : Nat} {f : Nat → Value} {c : Cell} (h1 : c.cls = cA) (h2 : c.vm = .none) (h3 : c.slots.size = n) (h4 : ∀ j, j < n → c.slots[j]? = some (f j)) (h5 : c.monitor = {}) (h6 : c.hash = none) : c = arrV cA n f := by
  cases c
  simp only at h1 h2 h3 h4 h5 h6
  subst h1 h2 h5 h6
  unfold arrV
  congr 1
  refine Array.ext_getElem? (fun j => ?_)
  by_cases hj : j < n
  · rw [h4 j hj, Array.getElem?_ofFn, dif_pos hj]
  · rw [Array.getElem?_eq_none (by omega), Array.getElem?_eq_none (by rw [Array.size_ofFn]; omega)]
theorem rw_outer (c : ClassId) (N h0 : Nat) : ∀ i, (Jvm.Free.Multi.outerC c N h0 i).monitor = {} ∧ (Jvm.Free.Multi.outerC c N h0 i).hash = none
  | 0 => ⟨rfl, rfl⟩
  | i + 1 => by
    obtain ⟨a, b⟩ := rw_outer c N h0 i
    exact ⟨by simp [Jvm.Free.Multi.outerC, Cell.setSlot, a], by simp [Jvm.Free.Multi.outerC, Cell.setSlot, b]⟩
section RW
variable {p : Program} {l : Launch} {e : Env} {R : Room} {s : State} {m : MethodId} {args : Array Value} {below : List Frame} {meth : Method} {c : Code} {H : Heap} {locs : List Loc} {cells slots : Nat} {Q : State → Prop}
variable {cc : ByteArray} {pc nL : Nat} {ls : Array Slot} {rest : List Value} {D : TG} {E : TE} {A : Nat → Prop} {ret : Option FieldType} {y : MethodName} {ws fx : va_W} {H0 : Heap} {a n q nR mR : Nat} {z : Int} {d : Nat → Nat → Int}
theorem ta_rald (C : tC p s m args meth c cc nL ret y) (hK : tK D s) (hP : va_P D.1 clAll ws H) (q0 : Nat) {f : Nat → Option Nat} (ha : ws[q0]? = some (a, .inl (D.2 4, n, .inr (.inr (.inr (.inr f)))))) (k : Nat) (h : z = (k : Int) ∧ k < n ∧ n < 2147483648) (hdg : decode cc pc = .ok (.aaload, 1)) (kk : W p l e R s m args below meth c H locs cells slots Q (F0 m (pc + 1) ls (va_rf (f k) :: rest))) : W p l e R s m args below meth c H locs cells slots Q (F0 m pc ls (.int (iI z) :: .ref a :: rest)) := by
  have hin : vp_in (iI z) n := iI_in h.1 h.2.1 h.2.2
  have hc := iI_clamp h.1 (Nat.lt_trans h.2.1 h.2.2)
  exact W.aald (v := va_rf (f k)) (ty := .array .short) C.1 C.2.1 (hP q0 _ ha) ((hK.2 4 _ rfl).1 n (fun j => va_rf (f j))) rfl (fun q => by cases q) (by show ¬ (iI z < 0 ∨ (arrV _ _ _).slots.size ≤ _); rw [arrV_size]; exact hin) (by show (arrV _ _ _).slots[_]? = _; rw [hc, arrV_read _ _ h.2.1]) rfl rfl hdg kk
theorem ta_rsald (C : tC p s m args meth c cc nL ret y) (hK : tK D s) (hP : va_P D.1 clAll (fx ++ rwP D q nR mR d) H) (k x : Nat) (h : z = (x : Int) ∧ x < mR ∧ mR < 2147483648 ∧ k < nR) (hdg : decode cc pc = .ok (.saload, 1)) (kk : W p l e R s m args below meth c H locs cells slots Q (F0 m (pc + 1) ls (.int (iI (d k x)) :: rest))) : W p l e R s m args below meth c H locs cells slots Q (F0 m pc ls (.int (iI z) :: .ref (q + 1 + k) :: rest)) :=
  ta_sald C hK hP (fx.length + k) (rw_at D fx q mR d h.2.2.2) x ⟨h.1, h.2.1, h.2.2.1⟩ hdg kk
theorem ta_rsast (C : tC p s m args meth c cc nL ret y) (hK : tK D s) (hP : va_P D.1 clAll (fx ++ rwP D q nR mR d) H) (hD : va_D A (fx ++ rwP D q nR mR d)) (hS : va_S A H0 H locs) (k x : Nat) {v : Int} (h : z = (x : Int) ∧ x < mR ∧ mR < 2147483648 ∧ k < nR) (hr : -32768 ≤ v ∧ v < 32768) (hdg : decode cc pc = .ok (.sastore, 1))
    (kk : ∀ (H1 : Heap) (locs1 : List Loc), va_P D.1 clAll (fx ++ rwP D q nR mR (up2 d k x v)) H1 → va_D A (fx ++ rwP D q nR mR (up2 d k x v)) → va_S A H0 H1 locs1 → W p l e R s m args below meth c H1 locs1 cells slots Q (F0 m (pc + 1) ls rest)) : W p l e R s m args below meth c H locs cells slots Q (F0 m pc ls (.int (iI v) :: .int (iI z) :: .ref (q + 1 + k) :: rest)) := by
  refine ta_sast C hK hP hD hS (fx.length + k) (rw_at D fx q mR d h.2.2.2) x ⟨h.1, h.2.1, h.2.2.1⟩ hr hdg (fun H1 locs1 hP hD hS => ?_)
  rw [rw_set D fx q mR d h.2.2.2] at hP hD
  exact kk H1 locs1 hP hD hS
theorem ta_ralen (C : tC p s m args meth c cc nL ret y) (hK : tK D s) (hP : va_P D.1 clAll (fx ++ rwP D q nR mR d) H) (k : Nat) (h : k < nR) (hdg : decode cc pc = .ok (.arraylength, 1)) (kk : W p l e R s m args below meth c H locs cells slots Q (F0 m (pc + 1) ls (.int (iI ((mR : Nat) : Int)) :: rest))) : W p l e R s m args below meth c H locs cells slots Q (F0 m pc ls (.ref (q + 1 + k) :: rest)) :=
  va_alen (v := iI ((mR : Nat) : Int)) C.1 C.2.1 hK hP (fx.length + k) 3 (rw_at D fx q mR d h) rfl (tx_ofNat _) hdg kk
theorem ta_multi (C : tC p s m args meth c cc nL ret y) {own : String} {index : Nat} (hown : s.vm.findClass own = some m.cls) (hcl : (Cond.classLink own index "[[S").before args s = true) (harr : (Cond.arrayClass .short).before args s = true) (hX : tX E A s s.heap) (hK : tK D s) (hP : va_P D.1 clAll ws H) (hD : va_D A ws) (hS : va_S A s.heap H locs) (hA : ∀ q : Nat, s.heap.size ≤ q → A q) (nR mR : Nat) {zn zk : Int} (h : zn = (nR : Int) ∧ zk = (mR : Int) ∧ nR < 1000 ∧ mR < 1000) (hc : cells + (1 + nR) ≤ R.cells ∧ slots + (nR + nR * mR) ≤ R.slots) (hdg : decode cc pc = .ok (.multianewarray index 2, 4))
    (kk : ∀ (q : Nat) (H1 : Heap), va_P D.1 clAll ((ws ++ [(q, .inl (D.2 4, nR, .inr (.inr (.inr (.inr (fun j_ => some (q + 1 + j_)))))))]) ++ rwP D q nR mR (fun _ _ => 0)) H1 → va_D A ((ws ++ [(q, .inl (D.2 4, nR, .inr (.inr (.inr (.inr (fun j_ => some (q + 1 + j_)))))))]) ++ rwP D q nR mR (fun _ _ => 0)) → va_S A s.heap H1 locs → W p l e R s m args below meth c H1 locs (cells + 1 + nR) (slots + nR + nR * mR) Q (F0 m (pc + 4) ls (.ref q :: rest))) : W p l e R s m args below meth c H locs cells slots Q (F0 m pc ls (.int (iI zk) :: .int (iI zn) :: rest)) := by
  obtain ⟨rfl, rfl, hn, hk⟩ := h
  have c1 : (iI (nR : Int)).toNatClampNeg = nR := iI_clamp rfl (by omega)
  have c2 : (iI (mR : Int)).toNatClampNeg = mR := iI_clamp rfl (by omega)
  have hn0 : ¬ iI (nR : Int) < 0 := by rw [iI_0, iI_lt ⟨by omega, by omega, by omega, by omega⟩]; omega
  have hk0 : ¬ iI (mR : Int) < 0 := by rw [iI_0, iI_lt ⟨by omega, by omega, by omega, by omega⟩]; omega
  intro T hT X
  have hover : (Cond.arrayOver (.array .short)).before args s = true := hX.2.2.2.2.2.2.2.2.2.2.2.2.2.2.2.2.2.1
  obtain ⟨vm1, cA, comp, hW, hfA, hfC, -, -, X1, step⟩ := X.multianewarray2F C.1 (own := own) (index := index) (ty := .short) hown hcl hover harr (g := F0 m pc ls (.int (iI (mR : Int)) :: .int (iI (nR : Int)) :: rest)) rfl (by rw [C.2.1]; exact hdg) (n := iI (nR : Int)) (k := iI (mR : Int)) (rest := rest) rfl hn0 hk0 (by rw [c1]; omega) (by rw [c2]; show mR * 2 ≤ _; omega) (by rw [c2]; omega) rfl rfl (by rw [c1]; exact hc.1) (by rw [c1, c2]; exact hc.2)
  rw [c1, c2] at X1 step
  have e4 : cA = D.2 4 := Option.some.inj (hfA.symm.trans (hK.2 4 _ rfl).2)
  have e3 : comp = D.2 3 := Option.some.inj (hfC.symm.trans (hK.2 3 _ rfl).2)
  subst e4 e3
  generalize hF : Jvm.Free.Multi.fill (T.setVm vm1) (D.2 4) (D.2 3) nR mR (defaultValue FieldType.short) nR = F at X1 step
  have f1 := Jvm.Free.Multi.fill_facts (T.setVm vm1) (D.2 4) (D.2 3) nR mR (defaultValue FieldType.short) nR
  have f2 := fun {x : Addr} (hx : x < (T.setVm vm1).heap.size) => Jvm.Free.Multi.fill_old (T.setVm vm1) (D.2 4) (D.2 3) nR mR (defaultValue FieldType.short) hx nR
  have f3 := Jvm.Free.Multi.fill_inner (T.setVm vm1) (D.2 4) (D.2 3) nR mR (defaultValue FieldType.short) nR
  have fo := Jvm.Free.Multi.outerC_facts (D.2 4) nR T.heap.size nR
  have fs := Jvm.Free.Multi.outerC_slot (D.2 4) nR T.heap.size nR
  rw [hF] at f1 f2 f3
  have hh : (T.setVm vm1).heap = H := hT
  have hTh : T.heap.size = H.size := by rw [hT]
  rw [hh] at f1 f2 f3
  obtain ⟨z1, z2, -, -⟩ := f1
  have hall : ∀ (k : Nat) (x : Nat × va_E), ws[k]? = some x → F.heap[x.1]? = H[x.1]? := fun k x hx => f2 ((hP k x hx).lt)
  have hPw : va_P D.1 clAll ws F.heap := hP.kept hall
  have hPo : va_P D.1 clAll [(H.size, .inl (D.2 4, nR, .inr (.inr (.inr (.inr (fun j_ => some (H.size + 1 + j_)))))))] F.heap := by
    intro k x hx
    cases k with
    | zero =>
      cases hx
      show F.heap[H.size]? = some (vp_cell (D.2 4) (nR, .inr (.inr (.inr (.inr (fun j_ => some (H.size + 1 + j_)))))))
      rw [z2]
      congr 1
      rw [hTh] at fo fs
      exact rw_cell (f := fun j => va_rf (some (H.size + 1 + j))) fo.1 fo.2.1 fo.2.2 (fun j hj => by rw [fs j hj, if_pos hj]; rfl) (rw_outer _ _ _ _).1 (rw_outer _ _ _ _).2
    | succ k => cases hx
  have hPr : va_P D.1 clAll (rwP D H.size nR mR (fun _ _ => 0)) F.heap := by
    intro k x hx
    have hk2 : k < nR := by
      have := (List.getElem?_eq_some_iff.mp hx).1
      rw [rw_len] at this
      exact this
    rw [rw_get D H.size mR (fun _ _ => 0) hk2] at hx
    cases hx
    show F.heap[H.size + 1 + k]? = some (vp_cell (D.2 3) (mR, .inl (fun x_ => iI 0)))
    rw [f3 k hk2]
    congr 1
    refine rw_cell (f := fun j => .int (iI 0)) rfl rfl (by simp [Jvm.Free.Multi.innerC]) (fun j hj => ?_) rfl rfl
    simp only [Jvm.Free.Multi.innerC, Array.getElem?_replicate]
    rw [if_pos hj]
    rfl
  have hDn : va_D A ((ws ++ [(H.size, .inl (D.2 4, nR, .inr (.inr (.inr (.inr (fun j_ => some (H.size + 1 + j_)))))))]) ++ rwP D H.size nR mR (fun _ _ => 0)) := by
    rw [va_D_iff] at hD ⊢
    have hlt : ∀ x ∈ ws, x.1 < H.size := fun x hx => by
      obtain ⟨k, hk9⟩ := List.mem_iff_getElem?.mp hx
      exact (hP k x hk9).lt
    have hge : ∀ x ∈ rwP D H.size nR mR (fun _ _ => 0), ∃ k, k < nR ∧ x.1 = H.size + 1 + k := fun x hx => by
      unfold rwP at hx
      obtain ⟨k, hk9, rfl⟩ := List.mem_map.mp hx
      exact ⟨k, List.mem_range.mp hk9, rfl⟩
    refine ⟨?_, fun x hx => ?_⟩
    · rw [List.map_append, List.map_append, List.nodup_append, List.nodup_append]
      refine ⟨⟨hD.1, by simp, ?_⟩, ?_, ?_⟩
      · intro u hu v hv e9
        obtain ⟨x, hx, rfl⟩ := List.mem_map.mp hu
        simp only [List.map_cons, List.map_nil, List.mem_singleton] at hv
        have := hlt x hx
        omega
      · have e9 : (rwP D H.size nR mR (fun _ _ => 0)).map (fun q => q.1) = (List.range nR).map (fun k => H.size + 1 + k) := by
          unfold rwP
          rw [List.map_map]
          rfl
        rw [e9, List.Nodup, List.pairwise_map]
        exact List.Pairwise.imp (fun h9 => by omega) (List.nodup_range (n := nR))
      · intro u hu v hv e9
        obtain ⟨x, hx, rfl⟩ := List.mem_map.mp hv
        obtain ⟨k, -, hk9⟩ := hge x hx
        rcases List.mem_append.mp hu with h9 | h9
        · obtain ⟨x2, hx2, rfl⟩ := List.mem_map.mp h9
          have := hlt x2 hx2
          omega
        · simp only [List.map_cons, List.map_nil, List.mem_singleton] at h9
          omega
    · have hz := hS.1
      rcases List.mem_append.mp hx with h9 | h9
      · rcases List.mem_append.mp h9 with h8 | h8
        · exact hD.2 x h8
        · rw [List.mem_singleton.mp h8]; exact hA _ hz
      · obtain ⟨k, -, hk9⟩ := hge x h9
        rw [hk9]; exact hA _ (by omega)
  have hSn : va_S A s.heap F.heap locs := ⟨Nat.le_trans hS.1 (by omega), fun x h1 h2 => (f2 (Nat.lt_of_lt_of_le h1 hS.1)).trans (hS.2.1 x h1 h2), hS.2.2⟩
  obtain ⟨t, a1, b1⟩ := kk H.size F.heap ((hPw.app hPo).app hPr) hDn hSn F rfl X1
  refine ⟨t, step t ?_, b1⟩
  rw [hTh]
  exact a1
end RW
