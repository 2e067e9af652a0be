/-! arrays of references to boxes; what callers say of boxes -/
set_option maxRecDepth 100000
/-- each of these is an Integer that the method doesn't own -/
def tYO (L : List Nat) : (Nat → Prop) → State → Prop := fun A U => ∀ y ∈ L, va_O "java/lang/Integer" y A U U.heap
theorem tYb_O (L : List Nat) : tYb (tYO L) := fun _ U g mk a h y hy => va_O.moved (u := U) (U := U.calling g mk a) (Vm.Alike.refl U.vm) (h y hy)
theorem tYO_at {L : List Nat} {A : Nat → Prop} {s : State} {H : Heap} {locs : List Loc} (hY : tYO L A s) (hS : va_S A s.heap H locs) {y : Nat} (hy : y ∈ L) : ∃ cell : Cell, H[y]? = some cell ∧ cell.vm.isStatics = false ∧ s.vm.findClass "java/lang/Integer" = some cell.cls := by
  obtain ⟨cell, h1, h2, h3, -⟩ := (hY y hy).kept hS.2.1
  exact ⟨cell, h1, h2, h3⟩
/-- handing on what is said of boxes to a callee that owns some of the method's cells -/
theorem tYO_pass {L L2 : List Nat} {A : Nat → Prop} {s : State} {H : Heap} {locs : List Loc} {ws wc : va_W} (hY : tYO L A s) (hS : va_S A s.heap H locs) (hD : va_D A ws) (hA : ∀ q : Nat, s.heap.size ≤ q → A q) (hsub : ∀ y ∈ L2, y ∈ L) (isC : List Nat) (hC : isC.map (fun i => ws[i]?) = wc.map some) : ∀ U : State, U.heap = H → s.WarmedH U.vm → tYO L2 (va_A wc H.size) U := by
  intro U hU hW y hy
  obtain ⟨cell, h1, h2, h3, h4⟩ := (hY y (hsub y hy)).kept hS.2.1
  exact va_O.moved hW.alike ⟨cell, by rw [hU]; exact h1, h2, h3, fun hq => h4 (va_free hD hS hA isC hC y hq)⟩
section TB6
variable {p : Program} {l : Launch} {e : Env} {R : Room} {s : State} {m : MethodId} {args : Array Value} {below : List Frame} {meth : Method} {c : Code} {H : Heap} {locs : List Loc} {cells slots : Nat} {Q : State → Prop}
variable {cc : ByteArray} {pc nL : Nat} {ls : Array Slot} {rest : List Value} {D : TG} {E : TE} {A : Nat → Prop} {ret : Option FieldType} {y : MethodName} {ws : va_W} {H0 : Heap} {a n : Nat} {z : Int}
theorem ta_oald (C : tC p s m args meth c cc nL ret y) (hK : tK D s) (hP : va_P D.1 clAll ws H) (q0 : Nat) {f : Nat → Option Nat} (ha : ws[q0]? = some (a, .inl (D.2 5, n, .inr (.inr (.inr (.inr f)))))) (k : Nat) (h : z = (k : Int) ∧ k < n ∧ n < 2147483648) (hdg : decode cc pc = .ok (.aaload, 1)) (kk : W p l e R s m args below meth c H locs cells slots Q (F0 m (pc + 1) ls (va_rf (f k) :: rest))) : W p l e R s m args below meth c H locs cells slots Q (F0 m pc ls (.int (iI z) :: .ref a :: rest)) :=
  va_aldq C.1 C.2.1 hK hP q0 5 ha rfl (iI_in h.1 h.2.1 h.2.2) hdg (by rw [iI_clamp h.1 (by omega)]; exact kk)
theorem ta_oast (C : tC p s m args meth c cc nL ret y) (hX : tX E A s s.heap) (hK : tK D s) (hP : va_P D.1 clAll ws H) (hD : va_D A ws) (hS : va_S A H0 H locs) (q0 : Nat) {f : Nat → Option Nat} (ha : ws[q0]? = some (a, .inl (D.2 5, n, .inr (.inr (.inr (.inr f)))))) (k : Nat) {v : Nat} (h : z = (k : Int) ∧ k < n ∧ n < 2147483648) (hr : ∃ cell : Cell, H[v]? = some cell ∧ cell.vm.isStatics = false ∧ s.vm.findClass "java/lang/Integer" = some cell.cls) (hdg : decode cc pc = .ok (.aastore, 1))
    (kk : ∀ (H1 : Heap) (locs1 : List Loc), va_P D.1 clAll (ws.set q0 (a, .inl (D.2 5, n, .inr (.inr (.inr (.inr (va_up f k (some v)))))))) H1 → va_D A (ws.set q0 (a, .inl (D.2 5, n, .inr (.inr (.inr (.inr (va_up f k (some v)))))))) → va_S A H0 H1 locs1 → W p l e R s m args below meth c H1 locs1 cells slots Q (F0 m (pc + 1) ls rest)) : W p l e R s m args below meth c H locs cells slots Q (F0 m pc ls (.ref v :: .int (iI z) :: .ref a :: rest)) := by
  refine vb_astq C.1 C.2.1 hK hP hD hS q0 5 ha rfl hr (vb_asgC (hX.1 _ q1703 rfl)) (iI_in h.1 h.2.1 h.2.2) hdg (fun H1 locs1 hP hD hS => ?_)
  rw [iI_clamp h.1 (Nat.lt_trans h.2.1 h.2.2)] at hP hD
  exact kk H1 locs1 hP hD hS
theorem ta_oastN (C : tC p s m args meth c cc nL ret y) (hK : tK D s) (hP : va_P D.1 clAll ws H) (hD : va_D A ws) (hS : va_S A H0 H locs) (q0 : Nat) {f : Nat → Option Nat} (ha : ws[q0]? = some (a, .inl (D.2 5, n, .inr (.inr (.inr (.inr f)))))) (k : Nat) (h : z = (k : Int) ∧ k < n ∧ n < 2147483648) (hdg : decode cc pc = .ok (.aastore, 1))
    (kk : ∀ (H1 : Heap) (locs1 : List Loc), va_P D.1 clAll (ws.set q0 (a, .inl (D.2 5, n, .inr (.inr (.inr (.inr (va_up f k none))))))) H1 → va_D A (ws.set q0 (a, .inl (D.2 5, n, .inr (.inr (.inr (.inr (va_up f k none))))))) → va_S A H0 H1 locs1 → W p l e R s m args below meth c H1 locs1 cells slots Q (F0 m (pc + 1) ls rest)) : W p l e R s m args below meth c H locs cells slots Q (F0 m pc ls (.null :: .int (iI z) :: .ref a :: rest)) := by
  refine va_astqN C.1 C.2.1 hK hP hD hS q0 5 ha rfl (iI_in h.1 h.2.1 h.2.2) hdg (fun H1 locs1 hP hD hS => ?_)
  rw [iI_clamp h.1 (Nat.lt_trans h.2.1 h.2.2)] at hP hD
  exact kk H1 locs1 hP hD hS
theorem t_cAO {cA : ClassId} {C : String} {tys : List (ClassId × FieldType)} {cl : List vw_C} {G : va_G} (hK : va_K G cl tys s) (t0 : Nat) {cB : ClassId} (ht : tys[t0]? = some (cB, .object C)) (hn : va_K G cl (tys ++ [(cA, .object C)]) s) : cA = cB := by
  have h1 := (hK.2 t0 _ ht).2
  have h2 := (hn.2 tys.length (cA, .object C) (by rw [List.getElem?_append_right (Nat.le_refl _), Nat.sub_self]; rfl)).2
  obtain ⟨-, -, -, -, -, e1⟩ := h1
  obtain ⟨-, -, -, -, -, e2⟩ := h2
  exact Option.some.inj (e2.symm.trans e1)
theorem ta_newO (C : tC p s m args meth c cc nL ret y) {own : String} {index : Nat} (hown : s.vm.findClass own = some m.cls) (hcl : (Cond.classLink own index "java/lang/Object").before args s = true) (hX : tX E A s s.heap) (hK : tK D s) (hP : va_P D.1 clAll ws H) (hD : va_D A ws) (hS : va_S A H0 H locs) (hA : ∀ q : Nat, H0.size ≤ q → A q) (k : Nat) (h : z = (k : Int) ∧ k < 60000000) (hc : cells + 1 ≤ R.cells ∧ slots + k ≤ R.slots) (hdg : decode cc pc = .ok (.anewarray index, 3))
    (kk : ∀ (q : Nat) (H1 : Heap), va_P D.1 clAll (ws ++ [(q, .inl (D.2 5, k, .inr (.inr (.inr (.inr (fun _ => none))))))]) H1 → va_D A (ws ++ [(q, .inl (D.2 5, k, .inr (.inr (.inr (.inr (fun _ => none))))))]) → va_S A H0 H1 locs → W p l e R s m args below meth c H1 locs (cells + 1) (slots + k) Q (F0 m (pc + 3) ls (.ref q :: rest))) : W p l e R s m args below meth c H locs cells slots Q (F0 m pc ls (.int (iI z) :: rest)) := by
  refine va_newq C.1 C.2.1 hown hcl hX.2.2.2.2.2.2.2.2.2.1 hK hP hD hS hA (N' := k) ?_ (iI_clamp h.1 (by omega)) (by omega) hc.1 hc.2 hdg (fun q cA H1 hK1 hP1 hD1 hS1 => ?_)
  · rw [iI_0, iI_lt ⟨by omega, by omega, by omega, by omega⟩]; omega
  · have e := t_cAO hK 5 rfl hK1
    subst e
    exact kk q H1 hP1 hD1 hS1
theorem ta_copyq (hx : p.tables.exec = Jvm.exec) (hb : c.code = cc) (hml : c.maxLocals = ls.size) {own : String} {index : Nat} (hown : s.vm.findClass own = some m.cls) (hlink : (Cond.methodLink own index arraycopyName).before args s = true) (hnat : (Cond.native arraycopyName).before args s = true) (hstat : (Cond.static arraycopyName).before args s = true) (hini : (Cond.initialized "java/lang/System").before args s = true) (hX : tX E A s s.heap)
    (hK : tK D s) (hP : va_P D.1 clAll ws H) (hD : va_D A ws) (hS : va_S A H0 H locs) (q0 q1 : Nat) {a0 : Nat} {n0 n1 : Nat} {f g : Nat → Option Nat} (ha0 : ws[q0]? = some (a0, .inl (D.2 5, n0, .inr (.inr (.inr (.inr f)))))) (ha1 : ws[q1]? = some (a, .inl (D.2 5, n1, .inr (.inr (.inr (.inr g))))))
    (sp dp n : Nat) {zs zd zn : Int} (h : zs = (sp : Int) ∧ zd = (dp : Int) ∧ zn = (n : Int) ∧ sp + n ≤ n0 ∧ dp + n ≤ n1 ∧ n0 < 2147483648 ∧ n1 < 2147483648) (hel : ∀ i : Nat, i < n → ∀ y : Nat, f (sp + i) = some y → ∃ cell : Cell, H[y]? = some cell ∧ cell.vm.isStatics = false ∧ s.vm.findClass "java/lang/Integer" = some cell.cls)
    (hframes : 1 ≤ R.frames) (hlocals : (rest.map fun v => v.category).sum + (nativeFrameWords "java/lang/System" "arraycopy" 5 + 11) ≤ R.locals) (hdg : decode cc pc = .ok (.invokestatic index, 3))
    (kk : ∀ (H1 : Heap) (locs1 : List Loc), va_P D.1 clAll (ws.set q1 (a, .inl (D.2 5, n1, .inr (.inr (.inr (.inr (va_cpy f g sp dp n))))))) H1 → va_D A (ws.set q1 (a, .inl (D.2 5, n1, .inr (.inr (.inr (.inr (va_cpy f g sp dp n))))))) → va_S A H0 H1 locs1 → W p l e R s m args below meth c H1 locs1 cells slots Q (F0 m (pc + 3) ls rest)) : W p l e R s m args below meth c H locs cells slots Q (F0 m pc ls (.int (iI zn) :: .int (iI zd) :: .ref a :: .int (iI zs) :: .ref a0 :: rest)) := by
  obtain ⟨e1, e2, e3, h4, h5, h6, h7⟩ := h
  have c1 := iI_clamp e1 (by omega)
  have c2 := iI_clamp e2 (by omega)
  have c3 := iI_clamp e3 (by omega)
  refine va_copyq (C := "java/lang/Integer") hx hb hml hown hlink hnat hstat hini hK hP hD hS q0 q1 5 5 ha0 ha1 rfl rfl ?_ ?_ ?_ (by rw [c1, c3]; exact h4) (by rw [c2, c3]; exact h5) (fun i hi y hy => hel i (by rw [c3] at hi; exact hi) y (by rw [c1] at hy; exact hy)) (vb_asgC (hX.1 _ q1703 rfl)) hframes hlocals hdg (fun H1 locs1 hP hD hS => ?_)
  · rw [iI_0, iI_lt ⟨by omega, by omega, by omega, by omega⟩]; omega
  · rw [iI_0, iI_lt ⟨by omega, by omega, by omega, by omega⟩]; omega
  · rw [iI_0, iI_lt ⟨by omega, by omega, by omega, by omega⟩]; omega
  · rw [c1, c2, c3] at hP hD
    exact kk H1 locs1 hP hD hS
end TB6
