/-! lists of cells drawn in another order; numbers that are places -/
def cqL (cx cy u v : Int) : Nat → List (Int × Int)
  | 0 => []
  | k + 1 => cqL cx cy u v k ++ [ei1 cx cy u v k, ei1 cx cy u v (k + 4)]
theorem drwL_mem (w g : Nat) (b : Bool) {L M : List (Int × Int)} (h : ∀ q, q ∈ L ↔ q ∈ M) (ik : Nat → Bool) : drwL w g b L ik = drwL w g b M ik := by
  funext j
  rw [drwL_at, drwL_at]
  have e : (L.any fun q => isBd w g q.1 q.2 && cel w q.1 q.2 == j) = (M.any fun q => isBd w g q.1 q.2 && cel w q.1 q.2 == j) := by
    rw [Bool.eq_iff_iff, List.any_eq_true, List.any_eq_true]
    exact ⟨fun ⟨x, h1, h2⟩ => ⟨x, (h x).mp h1, h2⟩, fun ⟨x, h1, h2⟩ => ⟨x, (h x).mpr h1, h2⟩⟩
  rw [e]
theorem drwL_cq (w g : Nat) (b : Bool) (cx cy u v : Int) (ik : Nat → Bool) : drwL w g b (cqL cx cy u v 4) ik = drwL w g b (eiL cx cy u v 8) ik := by
  apply drwL_mem
  intro q
  simp only [cqL, eiL, List.mem_append, List.mem_cons, List.not_mem_nil, or_false, false_or]
  constructor
  · intro h
    simp only [or_assoc] at h ⊢
    rcases h with h | h | h | h | h | h | h | h <;> (rw [h]; simp)
  · intro h
    simp only [or_assoc] at h ⊢
    rcases h with h | h | h | h | h | h | h | h <;> (rw [h]; simp)
theorem dN_cost (w g : Nat) (x y : Int) (z : Bool) (n : Nat) : n ≤ dN w g x y z n := by
  unfold dN
  split
  · exact (sN_cost n (cel w x y) z).1
  · exact Nat.le_refl _
def plA (f : Nat → Int) : Nat → Bool
  | 0 => true
  | k + 1 => plA f k && decide (-40 ≤ f k ∧ f k ≤ 72)
theorem plA_t {f : Nat → Int} {n : Nat} : plA f n = true ↔ ∀ k, k < n → -40 ≤ f k ∧ f k ≤ 72 := by
  induction n with
  | zero => simp [plA]
  | succ n ih =>
    rw [plA, Bool.and_eq_true, ih, decide_eq_true_eq]
    constructor
    · intro ⟨h1, h2⟩ k hk
      rcases Nat.lt_or_ge k n with q | q
      · exact h1 k q
      · rw [show k = n by omega]; exact h2
    · intro h
      exact ⟨fun k hk => h k (by omega), h n (by omega)⟩
theorem tsg_left {z : Int} {a : Nat} (h : a ≤ z.natAbs) : -(z.natAbs : Int) ≤ z - tsg z * (a : Int) ∧ z - tsg z * (a : Int) ≤ (z.natAbs : Int) := by
  unfold tsg
  split
  · omega
  · split <;> omega
