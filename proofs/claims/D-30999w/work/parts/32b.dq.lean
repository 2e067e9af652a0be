/-! a queue in a ring of n places -/
set_option maxRecDepth 100000
def wr (n k : Nat) : Nat := if k < n then k else k - n
theorem wr_lt {n k : Nat} (h : k < 2 * n) : wr n k < n := by unfold wr; split <;> omega
/-- places h .. t of the ring hold L, all others nothing -/
def DQ (n h t : Nat) (f : Nat → Option Nat) (L : List Nat) : Prop :=
  h < n ∧ n ≤ 3000 ∧ L.length < n ∧ t = wr n (h + L.length) ∧ (∀ i, i < L.length → f (wr n (h + i)) = L[i]?) ∧ (∀ i, L.length ≤ i → i < n → f (wr n (h + i)) = none)
theorem DQ_t {n h t : Nat} {f : Nat → Option Nat} {L : List Nat} (h1 : DQ n h t f L) : t < n := by
  obtain ⟨a1, a2, a3, a4, -⟩ := h1
  rw [a4]; exact wr_lt (by omega)
theorem DQ_init : DQ 17 0 0 (fun _ => none) [] := ⟨by decide, by decide, by decide, rfl, fun i hi => absurd hi (Nat.not_lt_zero i), fun _ _ _ => rfl⟩
theorem DQ_emp {n h t : Nat} {f : Nat → Option Nat} {L : List Nat} (h1 : DQ n h t f L) : h = t ↔ L = [] := by
  obtain ⟨a1, a2, a3, a4, -⟩ := h1
  constructor
  · intro e
    cases L with
    | nil => rfl
    | cons y L =>
      simp only [List.length_cons] at a3 a4
      unfold wr at a4
      split at a4 <;> omega
  · intro e
    subst e
    rw [a4]; unfold wr; simp; omega
theorem DQ_hd {n h t : Nat} {f : Nat → Option Nat} {y : Nat} {L : List Nat} (h1 : DQ n h t f (y :: L)) : f h = some y := by
  obtain ⟨a1, a2, a3, a4, a5, -⟩ := h1
  have := a5 0 (by simp)
  rw [show wr n (h + 0) = h by unfold wr; simp; omega] at this
  exact this
theorem DQ_poll {n h t : Nat} {f : Nat → Option Nat} {y : Nat} {L : List Nat} (h1 : DQ n h t f (y :: L)) : DQ n (wr n (h + 1)) t (va_up f h none) L := by
  obtain ⟨a1, a2, a3, a4, a5, a6⟩ := h1
  simp only [List.length_cons] at a3 a4 a5 a6
  refine ⟨wr_lt (by omega), a2, by omega, ?_, fun i hi => ?_, fun i h1 h2 => ?_⟩
  · rw [a4]; unfold wr; split <;> split <;> split <;> omega
  · have := a5 (i + 1) (by omega)
    rw [List.getElem?_cons_succ] at this
    rw [← this, show wr n (wr n (h + 1) + i) = wr n (h + (i + 1)) by unfold wr; split <;> split <;> split <;> omega]
    unfold va_up
    rw [if_neg (by unfold wr; split <;> omega)]
  · unfold va_up
    by_cases e : i + 1 < n
    · rw [if_neg (by unfold wr; split <;> split <;> omega), show wr n (wr n (h + 1) + i) = wr n (h + (i + 1)) by unfold wr; split <;> split <;> split <;> omega]
      exact a6 (i + 1) (by omega) e
    · rw [if_pos (by unfold wr; split <;> split <;> omega)]
theorem DQ_add {n h t : Nat} {f : Nat → Option Nat} {e : Nat} {L : List Nat} (h1 : DQ n h t f L) (h2 : L.length + 1 < n) : DQ n h (wr n (t + 1)) (va_up f t (some e)) (L ++ [e]) := by
  have ht := DQ_t h1
  obtain ⟨a1, a2, a3, a4, a5, a6⟩ := h1
  refine ⟨a1, a2, by simp; omega, ?_, fun i hi => ?_, fun i h1 h2 => ?_⟩
  · simp only [List.length_append, List.length_singleton]
    rw [a4]; unfold wr; split <;> split <;> (try split) <;> omega
  · simp only [List.length_append, List.length_singleton] at hi
    unfold va_up
    by_cases e : i = L.length
    · subst e
      rw [if_pos a4.symm]; simp
    · rw [if_neg (by rw [a4]; unfold wr; split <;> split <;> omega), a5 i (by omega), List.getElem?_append_left (by omega)]
  · simp only [List.length_append, List.length_singleton] at h1
    unfold va_up
    rw [if_neg (by rw [a4]; unfold wr; split <;> split <;> omega)]
    exact a6 i (by omega) h2
/-- full with one more -/
theorem DQ_full {n h t : Nat} {f : Nat → Option Nat} {L : List Nat} (h1 : DQ n h t f L) : wr n (t + 1) = h ↔ L.length + 1 = n := by
  obtain ⟨a1, a2, a3, a4, -⟩ := h1
  rw [a4]
  unfold wr
  constructor
  · intro q; split at q <;> split at q <;> omega
  · intro q; split <;> split <;> omega
