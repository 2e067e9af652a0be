/-! adding to a ring, growing it: what the steps leave -/
set_option maxRecDepth 100000
theorem DQ_mem {n h t : Nat} {f : Nat → Option Nat} {L : List Nat} (h1 : DQ n h t f L) : ∀ i y, i < n → f i = some y → y ∈ L := by
  intro i y hi hy
  obtain ⟨a1, a2, a3, a4, a5, a6⟩ := h1
  have key : ∀ j, j < n → wr n (h + j) = i → y ∈ L := fun j hj e => by
    by_cases q : j < L.length
    · have := a5 j q
      rw [e, hy] at this
      exact List.mem_of_getElem? this.symm
    · have := a6 j (by omega) hj
      rw [e, hy] at this
      cases this
  by_cases q : h ≤ i
  · exact key (i - h) (by omega) (by unfold wr; split <;> omega)
  · exact key (i + n - h) (by omega) (by unfold wr; split <;> omega)
theorem DQ_addf {n h t : Nat} {f : Nat → Option Nat} {e : Nat} {L : List Nat} (h1 : DQ n h t f L) (h2 : L.length + 1 = n) : ∀ i, i < n → va_up f t (some e) (wr n (h + i)) = (L ++ [e])[i]? := by
  obtain ⟨a1, a2, a3, a4, a5, a6⟩ := h1
  intro i hi
  unfold va_up
  by_cases q : i = L.length
  · subst q
    rw [if_pos a4.symm]; simp
  · rw [if_neg (by rw [a4]; unfold wr; split <;> split <;> omega), a5 i (by omega), List.getElem?_append_left (by omega)]
theorem DQ_addm {n h t : Nat} {f : Nat → Option Nat} {e : Nat} {L : List Nat} (h1 : DQ n h t f L) : ∀ i y, i < n → va_up f t (some e) i = some y → y ∈ L ++ [e] := by
  intro i y hi hy
  unfold va_up at hy
  split at hy
  · cases hy; simp
  · exact List.mem_append_left _ (DQ_mem h1 i y hi hy)
theorem gr_cpy {n n2 h : Nat} (f : Nat → Option Nat) (hn : n < n2) (hh : h < n) : ∀ k, k < n2 → va_cpy (va_cpy f (fun _ => none) 0 0 n) (va_cpy f (fun _ => none) 0 0 n) h (h + (n2 - n)) (n - h) k = if h + (n2 - n) ≤ k then f (k - (n2 - n)) else if k < n then f k else none := by
  have e : ∀ j, va_cpy f (fun _ => none) 0 0 n j = if j < n then f j else none := fun j => by
    unfold va_cpy
    by_cases q : j < n
    · rw [if_pos (by omega), if_pos q]; congr 1; omega
    · rw [if_neg (by omega), if_neg q]
  intro k hk
  rw [va_cpy, e, e]
  by_cases q : h + (n2 - n) ≤ k
  · rw [if_pos ⟨q, by omega⟩, if_pos q, if_pos (by omega)]; congr 1; omega
  · rw [if_neg (by omega), if_neg q]
