/-! pools: owned cells in another order; a box read -/
set_option maxRecDepth 100000
theorem va_D_iff {A : Nat → Prop} {ws : va_W} : va_D A ws ↔ (ws.map (fun q => q.1)).Nodup ∧ ∀ q ∈ ws, A q.1 := by
  constructor
  · intro h
    refine ⟨?_, fun q hq => ?_⟩
    · rw [List.Nodup, List.pairwise_map, List.pairwise_iff_getElem]
      intro i j hi hj hij e
      have := h.1 i j _ _ (List.getElem?_eq_getElem hi) (List.getElem?_eq_getElem hj) e
      omega
    · obtain ⟨k, hk⟩ := List.mem_iff_getElem?.mp hq
      exact h.2 k q hk
  · intro ⟨h1, h2⟩
    refine ⟨fun i j p q hp hq e => ?_, fun k q hk => h2 q (List.mem_of_getElem? hk)⟩
    rw [List.Nodup, List.pairwise_map, List.pairwise_iff_getElem] at h1
    obtain ⟨hi, e1⟩ := List.getElem?_eq_some_iff.mp hp
    obtain ⟨hj, e2⟩ := List.getElem?_eq_some_iff.mp hq
    rcases Nat.lt_trichotomy i j with c | c | c
    · exact absurd (by rw [e1, e2]; exact e) (h1 i j hi hj c)
    · exact c
    · exact absurd (by rw [e1, e2]; exact e.symm) (h1 j i hj hi c)
theorem pl_D {A : Nat → Prop} {w1 w2 pool : va_W} (h : va_D A ((w1 ++ pool) ++ w2)) : va_D A ((w1 ++ w2) ++ pool) := by
  rw [va_D_iff] at h ⊢
  have pm : ((w1 ++ pool) ++ w2).Perm ((w1 ++ w2) ++ pool) := by
    rw [List.append_assoc, List.append_assoc]
    exact List.Perm.append_left _ List.perm_append_comm
  exact ⟨(pm.map _).nodup_iff.mp h.1, fun q hq => h.2 q (pm.mem_iff.mpr hq)⟩
theorem bx_mem {M : List (Nat × Int)} {r : Nat} {z : Int} (h : (r, z) ∈ M) (X : va_W) : ∃ k : Nat, (X ++ bxp M)[k]? = some ((r, Sum.inr (5, [Value.int (iI z)])) : Nat × va_E) := by
  have : ((r, Sum.inr (5, [Value.int (iI z)])) : Nat × va_E) ∈ X ++ bxp M := List.mem_append_right _ (List.mem_map.mpr ⟨(r, z), h, rfl⟩)
  exact List.mem_iff_getElem?.mp this
theorem bx_c {k : Nat} (h : k < 256) : vb_c k = iI ((k : Int) - 128) := by
  have : ∀ k : Nat, k < 256 → vb_c k = iI ((k : Int) - 128) := by decide +kernel
  exact this k h
section TB8
variable {p : Program} {l : Launch} {e : Env} {R : Room} {s : State} {m : MethodId} {args : Array Value} {below : List Frame} {meth : Method} {c : Code} {H : Heap} {locs : List Loc} {cells slots : Nat} {Q : State → Prop}
variable {cc : ByteArray} {pc nL : Nat} {ls : Array Slot} {rest : List Value} {D : TG} {E : TE} {A : Nat → Prop} {H0 : Heap} {X : va_W}
/-- a box, as a receiver -/
theorem bx_recv {M : List (Nat × Int)} {r : Nat} {z : Int} (hx : bxv E M r z) (hX : tX E A s s.heap) (hK : tK D s) (hS : va_S A s.heap H locs) (hP : va_P D.1 clAll (X ++ bxp M) H) : ∃ cell : Cell, H[r]? = some cell ∧ cell.vm.isStatics = false ∧ s.vm.findClass "java/lang/Integer" = some cell.cls := by
  rcases hx with h | ⟨k, hk, rfl, -⟩
  · obtain ⟨k, hk⟩ := bx_mem h X
    exact va_recv hK hP (ci := 5) (q0 := k) rfl hk
  · obtain ⟨cell, h1, h2, h3, -⟩ := (hX.2.1.1 k hk).kept hS.2.1
    exact ⟨cell, h1, h2, h3⟩
/-- what a caller says of its boxes to a callee that doesn't own them -/
theorem bx_pass {M : List (Nat × Int)} {L : List Nat} (hL : ∀ y ∈ L, ∃ z, bxv E M y z) (hX : tX E A s s.heap) (hK : tK D s) (hS : va_S A s.heap H locs) (hA : ∀ q : Nat, s.heap.size ≤ q → A q) (hP : va_P D.1 clAll (X ++ bxp M) H) (hD : va_D A (X ++ bxp M)) {wc : va_W} (isC : List Nat) (hC : isC.map (fun i => X[i]?) = wc.map some) : ∀ U : State, U.heap = H → s.WarmedH U.vm → tYO L (va_A wc H.size) U := by
  intro U hU hW y hy
  obtain ⟨z, hz⟩ := hL y hy
  obtain ⟨cell, h1, h2, h3⟩ := bx_recv hz hX hK hS hP
  refine va_O.moved hW.alike ⟨cell, by rw [hU]; exact h1, h2, h3, fun hq => ?_⟩
  rcases hq with ⟨j, e, hj⟩ | hq
  · -- y is a cell of wc, so among X
    have hm : (y, e) ∈ X := by
      have h9 : some (y, e) ∈ isC.map (fun i => X[i]?) := by rw [hC]; exact List.mem_map_of_mem (List.mem_of_getElem? hj)
      obtain ⟨i, -, hi⟩ := List.mem_map.mp h9
      exact List.mem_of_getElem? hi
    obtain ⟨i, hi⟩ := List.mem_iff_getElem?.mp hm
    have hi2 : (X ++ bxp M)[i]? = some (y, e) := by rw [List.getElem?_append_left (List.getElem?_eq_some_iff.mp hi).1]; exact hi
    rcases hz with h | ⟨k, hk, rfl, -⟩
    · have hp : ((y, Sum.inr (5, [Value.int (iI z)])) : Nat × va_E) ∈ bxp M := List.mem_map.mpr ⟨(y, z), h, rfl⟩
      obtain ⟨j2, hj2⟩ := List.mem_iff_getElem?.mp hp
      have hj3 : (X ++ bxp M)[X.length + j2]? = some ((y, Sum.inr (5, [Value.int (iI z)])) : Nat × va_E) := by rw [List.getElem?_append_right (by omega), show X.length + j2 - X.length = j2 by omega]; exact hj2
      have h4 := hD.1 i (X.length + j2) _ _ hi2 hj3 rfl
      have h5 := (List.getElem?_eq_some_iff.mp hi).1
      omega
    · exact (hX.2.1.1 k hk).elim (fun _ q => q.2.2.2 (hD.2 i _ hi2))
  · have := (Array.getElem?_eq_some_iff.mp h1).1
    omega
end TB8
