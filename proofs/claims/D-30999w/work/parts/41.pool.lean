/-! a pool of cells at the end of a world: places of the fixed cells, places of the pool -/
set_option maxRecDepth 100000
theorem nd_iff : ∀ l : List Nat, va_nd l = true ↔ l.Nodup
  | [] => by simp [va_nd]
  | a :: l => by rw [va_nd, Bool.and_eq_true, decide_eq_true_eq, List.nodup_cons, nd_iff l]
theorem pl_nd (a n : Nat) : va_nd (List.range' a n) = true := (nd_iff _).mpr List.nodup_range'
theorem pl_C (fx pool : va_W) : (List.range' fx.length pool.length).map (fun i => (fx ++ pool)[i]?) = pool.map some := by
  refine List.ext_getElem? (fun k => ?_)
  rw [List.getElem?_map, List.getElem?_map]
  by_cases h : k < pool.length
  · rw [List.getElem?_range' h, List.getElem?_eq_getElem h]
    simp only [Option.map_some, Nat.one_mul]
    rw [List.getElem?_append_right (by omega), show fx.length + k - fx.length = k by omega, List.getElem?_eq_getElem h]
  · rw [List.getElem?_eq_none (by simp; omega), List.getElem?_eq_none (by omega)]; rfl
theorem pl_lt {fx wr : va_W} {is : List Nat} (hR : is.map (fun i => fx[i]?) = wr.map some) : ∀ i ∈ is, i < fx.length := by
  intro i hi
  have h1 : fx[i]? ∈ is.map (fun i => fx[i]?) := List.mem_map_of_mem hi
  rw [hR] at h1
  obtain ⟨q, -, e⟩ := List.mem_map.mp h1
  exact (List.getElem?_eq_some_iff.mp e.symm).1
theorem pl_F {fx wr pool : va_W} {is : List Nat} (hR : is.map (fun i => fx[i]?) = wr.map some) : is.map (fun i => (fx ++ pool)[i]?) = wr.map some := by
  rw [← hR]
  exact List.map_congr_left (fun i hi => List.getElem?_append_left (pl_lt hR i hi))
theorem pl_R {fx wr pool : va_W} {is : List Nat} (hR : is.map (fun i => fx[i]?) = wr.map some) : (is ++ List.range' fx.length pool.length).map (fun i => (fx ++ pool)[i]?) = (wr ++ pool).map some := by
  rw [List.map_append, List.map_append, pl_F hR, pl_C]
theorem pl_ndR {n m : Nat} {is : List Nat} (h1 : va_nd is = true) (h2 : ∀ i ∈ is, i < n) : va_nd (is ++ List.range' n m) = true := by
  rw [nd_iff, List.nodup_append]
  refine ⟨(nd_iff _).mp h1, List.nodup_range', fun a ha b hb e => ?_⟩
  have := h2 a ha
  rw [List.mem_range'] at hb
  omega
theorem pl_dis {n m : Nat} {isR isC : List Nat} (h1 : ∀ i ∈ isR, i ∉ isC) (h2 : ∀ i ∈ isC, i < n) : ∀ i ∈ isR ++ List.range' n m, i ∉ isC := by
  intro i hi hc
  rcases List.mem_append.mp hi with h | h
  · exact h1 i h hc
  · have := h2 i hc
    rw [List.mem_range'] at h
    omega
/-- the fixed cells' order changed, the pool put last -/
theorem pl_P {G : va_G} {cl : List vw_C} {H : Heap} {w1 w2 pool : va_W} (h : va_P G cl ((w1 ++ pool) ++ w2) H) : va_P G cl ((w1 ++ w2) ++ pool) H := by
  have key : ∀ q, q ∈ (w1 ++ w2) ++ pool → q ∈ (w1 ++ pool) ++ w2 := fun q hq => by
    simp only [List.mem_append] at hq ⊢
    rcases hq with (h | h) | h
    · exact Or.inl (Or.inl h)
    · exact Or.inr h
    · exact Or.inl (Or.inr h)
  intro k q hk
  obtain ⟨j, hj⟩ := List.mem_iff_getElem?.mp (key q (List.mem_of_getElem? hk))
  exact h j q hj
