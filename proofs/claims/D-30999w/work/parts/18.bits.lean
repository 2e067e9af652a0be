/-! WORDS AS SETS OF BITS: wd P k is the word k of a set P of numbers; the words of a BitSet, told by its set -/
set_option maxRecDepth 100000
def wbt (x : Int64) (i : Nat) : Bool := x.toBitVec.getLsbD i
theorem wbt_ext {x y : Int64} (h : ∀ i, i < 64 → wbt x i = wbt y i) : x = y := Int64.toBitVec_inj.mp (BitVec.eq_of_getLsbD_eq (fun i hi => h i hi))
theorem wbt_or (x y : Int64) (i : Nat) : wbt (x ||| y) i = (wbt x i || wbt y i) := by unfold wbt; rw [Int64.toBitVec_or, BitVec.getLsbD_or]
theorem wbt_and (x y : Int64) (i : Nat) : wbt (x &&& y) i = (wbt x i && wbt y i) := by unfold wbt; rw [Int64.toBitVec_and, BitVec.getLsbD_and]
theorem wbt_xor (x y : Int64) (i : Nat) : wbt (x ^^^ y) i = (wbt x i ^^ wbt y i) := by unfold wbt; rw [Int64.toBitVec_xor, BitVec.getLsbD_xor]
theorem wbt_m1 : ∀ i, i < 64 → wbt (-1) i = true := by decide +kernel
theorem wbt_0 (i : Nat) : wbt 0 i = false := BitVec.getLsbD_zero
def wdn (P : Nat → Bool) (k : Nat) : Nat → BitVec 64
  | 0 => 0#64
  | i + 1 => wdn P k i ||| (if P (64 * k + i) then BitVec.twoPow 64 i else 0#64)
def wd (P : Nat → Bool) (k : Nat) : Int64 := Int64.ofBitVec (wdn P k 64)
theorem wdn_bit (P : Nat → Bool) (k i : Nat) : ∀ n, n ≤ 64 → (wdn P k n).getLsbD i = (decide (i < n) && P (64 * k + i)) := by
  intro n
  induction n with
  | zero => intro _; simp [wdn]
  | succ n ih =>
    intro hn
    rw [wdn, BitVec.getLsbD_or, ih (by omega)]
    by_cases h : i = n
    · subst h
      cases hp : P (64 * k + i) <;> simp [BitVec.getLsbD_twoPow]
      omega
    · have e : (if P (64 * k + n) then BitVec.twoPow 64 n else 0#64).getLsbD i = false := by
        split
        · rw [BitVec.getLsbD_twoPow]; simp; omega
        · exact BitVec.getLsbD_zero
      rw [e, Bool.or_false]
      congr 1
      rw [decide_eq_decide]
      omega
theorem wd_bit (P : Nat → Bool) (k : Nat) {i : Nat} (h : i < 64) : wbt (wd P k) i = P (64 * k + i) := by
  unfold wbt wd
  show (wdn P k 64).getLsbD i = _
  rw [wdn_bit P k i 64 (Nat.le_refl _), decide_eq_true h, Bool.true_and]
theorem wd_eq {x : Int64} {P : Nat → Bool} {k : Nat} (h : ∀ i, i < 64 → wbt x i = P (64 * k + i)) : x = wd P k := wbt_ext (fun i hi => by rw [h i hi, wd_bit P k hi])
theorem wd_congr {P Q : Nat → Bool} {k : Nat} (h : ∀ i, i < 64 → P (64 * k + i) = Q (64 * k + i)) : wd P k = wd Q k := wd_eq (fun i hi => by rw [wd_bit P k hi, h i hi])
theorem wd_zero {P : Nat → Bool} {k : Nat} (h : ∀ i, i < 64 → P (64 * k + i) = false) : wd P k = 0 := (wd_eq (fun i hi => by rw [h i hi, wbt_0])).symm
theorem wd_zero_iff (P : Nat → Bool) (k : Nat) : wd P k = 0 ↔ ∀ i, i < 64 → P (64 * k + i) = false := ⟨fun h i hi => by rw [← wd_bit P k hi, h, wbt_0], wd_zero⟩
theorem wd_none : wd (fun _ => false) = fun _ => 0 := by funext k; exact wd_zero (fun _ _ => rfl)
theorem wd_or (P Q : Nat → Bool) (k : Nat) : wd P k ||| wd Q k = wd (fun j => P j || Q j) k := wd_eq (fun i hi => by rw [wbt_or, wd_bit P k hi, wd_bit Q k hi])
theorem wd_and (P Q : Nat → Bool) (k : Nat) : wd P k &&& wd Q k = wd (fun j => P j && Q j) k := wd_eq (fun i hi => by rw [wbt_and, wd_bit P k hi, wd_bit Q k hi])
theorem wd_xor (P Q : Nat → Bool) (k : Nat) : wd P k ^^^ wd Q k = wd (fun j => P j ^^ Q j) k := wd_eq (fun i hi => by rw [wbt_xor, wd_bit P k hi, wd_bit Q k hi])
theorem wd_anot (P Q : Nat → Bool) (k : Nat) : wd P k &&& (wd Q k ^^^ (-1)) = wd (fun j => P j && !Q j) k := wd_eq (fun i hi => by rw [wbt_and, wbt_xor, wbt_m1 i hi, wd_bit P k hi, wd_bit Q k hi, Bool.xor_true])
/-! the shifts by an index -/
theorem w_s6 : ∀ i : Nat, i < 2048 → (iI (i : Int) >>> (iI 6 &&& 31)) = iI ((i / 64 : Nat) : Int) := by decide +kernel
theorem w_sm (i : Nat) (h : i < 2048) : ((iI (i : Int)).toInt64 &&& 63) = Int64.ofNat (i % 64) := by
  have : ∀ i : Nat, i < 2048 → ((iI (i : Int)).toInt64 &&& 63) = Int64.ofNat (i % 64) := by decide +kernel
  exact this i h
theorem w_1s : ∀ i : Nat, i < 64 → ∀ j : Nat, j < 64 → wbt ((1 : Int64) <<< Int64.ofNat i) j = decide (j = i) := by decide +kernel
theorem w_m1s : ∀ i : Nat, i < 64 → ∀ j : Nat, j < 64 → wbt ((-1 : Int64) <<< Int64.ofNat i) j = decide (i ≤ j) := by decide +kernel
theorem w_um : ∀ i : Nat, i < 1025 → ((-(iI (i : Int))).toInt64.toUInt64 &&& Int64.toUInt64 63) = UInt64.ofNat ((64 - i % 64) % 64) := by decide +kernel
theorem w_m1u : ∀ i : Nat, i < 64 → ∀ j : Nat, j < 64 → wbt (((-1 : Int64).toUInt64 >>> UInt64.ofNat i).toInt64) j = decide (j + i < 64) := by decide +kernel
/-- one bit more -/
def ins (P : Nat → Bool) (i : Nat) : Nat → Bool := fun j => P j || decide (j = i)
/-- one bit less -/
def del (P : Nat → Bool) (i : Nat) : Nat → Bool := fun j => P j && !decide (j = i)
theorem wd_up {P R : Nat → Bool} {k : Nat} {x : Int64} (h1 : ∀ i, i < 64 → wbt x i = R (64 * k + i)) (h2 : ∀ j, j / 64 ≠ k → P j = R j) : va_up (wd P) k x = wd R := by
  funext q
  unfold va_up
  by_cases h : q = k
  · subst h; rw [if_pos rfl]; exact wd_eq h1
  · rw [if_neg h]; exact wd_congr (fun i hi => h2 _ (by omega))
theorem wd_ins (P : Nat → Bool) {i : Nat} (h : i < 2048) : va_up (wd P) (i / 64) (wd P (i / 64) ||| ((1 : Int64) <<< ((iI (i : Int)).toInt64 &&& 63))) = wd (ins P i) := by
  refine wd_up (fun j hj => ?_) (fun j hj => ?_)
  · rw [w_sm i h, wbt_or, wd_bit P _ hj, w_1s _ (Nat.mod_lt _ (by decide)) j hj, ins]
    congr 1
    rw [decide_eq_decide]
    omega
  · rw [ins, decide_eq_false (by intro e; subst e; exact hj rfl), Bool.or_false]
theorem wd_del (P : Nat → Bool) {i : Nat} (h : i < 2048) : va_up (wd P) (i / 64) (wd P (i / 64) &&& (((1 : Int64) <<< ((iI (i : Int)).toInt64 &&& 63)) ^^^ (-1))) = wd (del P i) := by
  refine wd_up (fun j hj => ?_) (fun j hj => ?_)
  · rw [w_sm i h, wbt_and, wbt_xor, wbt_m1 j hj, wd_bit P _ hj, w_1s _ (Nat.mod_lt _ (by decide)) j hj, Bool.xor_true, del]
    congr 2
    rw [decide_eq_decide]
    omega
  · rw [del, decide_eq_false (by intro e; subst e; exact hj rfl), Bool.not_false, Bool.and_true]
theorem wd_get (P : Nat → Bool) {i : Nat} (h : i < 2048) : (wd P (i / 64) &&& ((1 : Int64) <<< ((iI (i : Int)).toInt64 &&& 63))) = 0 ↔ P i = false := by
  have e : ∀ j, j < 64 → wbt (wd P (i / 64) &&& ((1 : Int64) <<< ((iI (i : Int)).toInt64 &&& 63))) j = (P (64 * (i / 64) + j) && decide (j = i % 64)) := fun j hj => by
    rw [w_sm i h, wbt_and, wd_bit P _ hj, w_1s _ (Nat.mod_lt _ (by decide)) j hj]
  constructor
  · intro z
    have h1 := e (i % 64) (Nat.mod_lt _ (by decide))
    rw [z, wbt_0, decide_eq_true rfl, Bool.and_true, show 64 * (i / 64) + i % 64 = i from Nat.div_add_mod i 64] at h1
    exact h1.symm
  · intro z
    refine wbt_ext (fun j hj => ?_)
    rw [e j hj, wbt_0]
    by_cases q : j = i % 64
    · subst q; rw [show 64 * (i / 64) + i % 64 = i from Nat.div_add_mod i 64, z, Bool.false_and]
    · rw [decide_eq_false q, Bool.and_false]
/-! the words in use: from the last word that is not 0 on all are 0 -/
def unG (P : Nat → Bool) : Nat → Nat
  | 0 => 0
  | u + 1 => if wd P u = 0 then unG P u else u + 1
def un (P : Nat → Bool) : Nat := unG P 40
theorem unG_le (P : Nat → Bool) : ∀ u, unG P u ≤ u
  | 0 => Nat.le_refl _
  | u + 1 => by rw [unG]; split; (have := unG_le P u; omega); exact Nat.le_refl _
theorem unG_z {P : Nat → Bool} : ∀ {u k}, unG P u ≤ k → k < u → wd P k = 0
  | 0, k, _, h => absurd h (Nat.not_lt_zero _)
  | u + 1, k, h1, h2 => by
    rw [unG] at h1
    split at h1
    · by_cases e : k = u
      · subst e; assumption
      · exact unG_z h1 (by omega)
    · omega
theorem unG_nz {P : Nat → Bool} : ∀ {u}, unG P u ≠ 0 → wd P (unG P u - 1) ≠ 0
  | 0, h => absurd rfl h
  | u + 1, h => by
    rw [unG] at h ⊢
    split
    · rename_i q; rw [if_pos q] at h; exact unG_nz h
    · rename_i q; exact q
theorem unG_eq {P : Nat → Bool} {u : Nat} : ∀ {v}, u ≤ v → (∀ k, u ≤ k → k < v → wd P k = 0) → unG P v = unG P u
  | 0, h, _ => by rw [show u = 0 from by omega]
  | v + 1, h, hz => by
    by_cases e : u = v + 1
    · rw [e]
    · rw [unG, if_pos (hz v (by omega) (by omega))]
      exact unG_eq (by omega) (fun k h1 h2 => hz k h1 (by omega))
/-- a set of a BitSet of n words -/
def BB (P : Nat → Bool) (n : Nat) : Prop := 1 ≤ n ∧ n ≤ 30 ∧ (∀ j, 1024 ≤ j → P j = false) ∧ (∀ j, 64 * n ≤ j → P j = false)
theorem BB_z {P : Nat → Bool} {n : Nat} (h : BB P n) {k : Nat} (hk : n ≤ k ∨ 16 ≤ k) : wd P k = 0 := wd_zero (fun i _ => by
  rcases hk with hk | hk
  · exact h.2.2.2 _ (by omega)
  · exact h.2.2.1 _ (by omega))
theorem un_at {P : Nat → Bool} {n : Nat} (h : BB P n) {u : Nat} (hu : u ≤ 40) (hz : ∀ k, u ≤ k → k < n → wd P k = 0) : un P = unG P u :=
  unG_eq hu (fun k h1 _ => by
    by_cases q : k < n
    · exact hz k h1 q
    · exact BB_z h (Or.inl (by omega)))
theorem un_le {P : Nat → Bool} {n : Nat} (h : BB P n) : un P ≤ n ∧ un P ≤ 16 := by
  constructor
  · rw [un_at h (u := n) (by have := h.2.1; omega) (fun k h1 h2 => by omega)]; exact unG_le _ _
  · rw [un, unG_eq (u := 16) (by omega) (fun k h1 _ => BB_z h (Or.inr h1))]; exact unG_le _ _
theorem un_z {P : Nat → Bool} {n : Nat} (h : BB P n) {k : Nat} (hk : un P ≤ k) : wd P k = 0 := by
  by_cases q : k < 40
  · exact unG_z (u := 40) hk q
  · exact BB_z h (Or.inr (by omega))
theorem un_nz {P : Nat → Bool} (h : un P ≠ 0) : wd P (un P - 1) ≠ 0 := unG_nz h
theorem un_out {P : Nat → Bool} {n : Nat} (h : BB P n) {j : Nat} (hj : un P ≤ j / 64) : P j = false := by
  have := (wd_zero_iff P (j / 64)).mp (un_z h hj) (j % 64) (Nat.mod_lt _ (by decide))
  rwa [Nat.div_add_mod] at this
theorem un_of {P : Nat → Bool} {n u : Nat} (h : BB P n) (h1 : u ≤ 40) (h2 : ∀ k, u ≤ k → wd P k = 0) (h3 : u = 0 ∨ wd P (u - 1) ≠ 0) : un P = u := by
  rw [un_at h h1 (fun k q _ => h2 k q)]
  cases u with
  | zero => rfl
  | succ u => rw [unG, if_neg (by rcases h3 with h3 | h3; (exact absurd h3 (by omega)); exact h3)]
/-- no bit: no word -/
theorem un_0 {P : Nat → Bool} {n : Nat} (h : BB P n) : un P = 0 ↔ ∀ j, P j = false := by
  constructor
  · intro z j; exact un_out h (by omega)
  · intro z
    exact un_of h (by omega) (fun k _ => wd_zero (fun i _ => z _)) (Or.inl rfl)
theorem un_none : un (fun _ => false) = 0 := (un_0 (n := 1) ⟨by omega, by omega, fun _ _ => rfl, fun _ _ => rfl⟩).mpr (fun _ => rfl)
theorem BB_none {n : Nat} (h : 1 ≤ n ∧ n ≤ 30) : BB (fun _ => false) n := ⟨h.1, h.2, fun _ _ => rfl, fun _ _ => rfl⟩
/-! growth -/
def gN (n r : Nat) : Nat := if r ≤ n then n else max (2 * n) r
def gC (n r : Nat) : Nat := if r ≤ n then 0 else 1
def gS (n r : Nat) : Nat := if r ≤ n then 0 else max (2 * n) r
theorem gN_le {n r : Nat} (h : 1 ≤ n ∧ n ≤ 30) (hr : r ≤ 16) : n ≤ gN n r ∧ gN n r ≤ 30 ∧ r ≤ gN n r := by unfold gN; split <;> omega
theorem BB_grow {P : Nat → Bool} {n r : Nat} (h : BB P n) (hr : r ≤ 16) : BB P (gN n r) := by
  have := gN_le ⟨h.1, h.2.1⟩ hr
  exact ⟨by have := h.1; omega, this.2.1, h.2.2.1, fun j hj => h.2.2.2 j (by omega)⟩
theorem BB_ins {P : Nat → Bool} {n i : Nat} (h : BB P n) (hi : i < 1024) : BB (ins P i) (gN n (i / 64 + 1)) := by
  have h2 := BB_grow h (r := i / 64 + 1) (by omega)
  have h3 := gN_le ⟨h.1, h.2.1⟩ (show i / 64 + 1 ≤ 16 by omega)
  refine ⟨h2.1, h2.2.1, fun j hj => ?_, fun j hj => ?_⟩
  · rw [ins, h.2.2.1 j hj, decide_eq_false (by omega)]; rfl
  · rw [ins, h2.2.2.2 j hj, decide_eq_false (by omega)]; rfl
theorem BB_sub {P R : Nat → Bool} {n : Nat} (h : BB P n) (hs : ∀ j, P j = false → R j = false) : BB R n := ⟨h.1, h.2.1, fun j hj => hs j (h.2.2.1 j hj), fun j hj => hs j (h.2.2.2 j hj)⟩
theorem BB_del {P : Nat → Bool} {n i : Nat} (h : BB P n) : BB (del P i) n := BB_sub h (fun j q => by rw [del, q]; rfl)
theorem un_ins {P : Nat → Bool} {n i : Nat} (h : BB P n) (hi : i < 1024) : un (ins P i) = max (un P) (i / 64 + 1) := by
  have hB := BB_ins h hi
  have hle := un_le h
  refine un_of hB (by omega) (fun k hk => wd_zero (fun q hq => ?_)) ?_
  · rw [ins, un_out h (j := 64 * k + q) (by omega), decide_eq_false (by omega)]; rfl
  · right
    intro z
    by_cases q : un P ≤ i / 64 + 1
    · rw [show max (un P) (i / 64 + 1) - 1 = i / 64 by omega, wd_zero_iff] at z
      have := z (i % 64) (Nat.mod_lt _ (by decide))
      rw [Nat.div_add_mod, ins, decide_eq_true rfl, Bool.or_true] at this
      exact absurd this (by decide)
    · rw [show max (un P) (i / 64 + 1) - 1 = un P - 1 by omega, wd_zero_iff] at z
      refine un_nz (P := P) (by omega) (wd_zero (fun j hj => ?_))
      have := z j hj
      rw [ins, Bool.or_eq_false_iff] at this
      exact this.1
/-- an array copied to a longer one -/
theorem wd_cpy {P : Nat → Bool} {n : Nat} (h : BB P n) : va_cpy (wd P) (fun _ => 0) 0 0 n = wd P := by
  funext k
  unfold va_cpy
  split
  · congr 1 <;> omega
  · exact (BB_z h (Or.inl (by omega))).symm
/-! the next bit -/
def nxF (P : Nat → Bool) (i : Nat) : Nat → Int
  | 0 => -1
  | f + 1 => if P i then (i : Int) else nxF P (i + 1) f
/-- the least number of P from i on, below 1024; -1 if there is none -/
def nxt (P : Nat → Bool) (i : Nat) : Int := nxF P i (1024 - i)
theorem nxF_hit {P : Nat → Bool} {j : Nat} (hj : P j = true) : ∀ (f i : Nat), i ≤ j → j < i + f → (∀ q, i ≤ q → q < j → P q = false) → nxF P i f = (j : Int)
  | 0, i, h1, h2, _ => by omega
  | f + 1, i, h1, h2, h3 => by
    rw [nxF]
    by_cases e : i = j
    · subst e; rw [if_pos hj]
    · rw [if_neg (by rw [h3 i (Nat.le_refl _) (by omega)]; decide)]
      exact nxF_hit hj f (i + 1) (by omega) (by omega) (fun q q1 q2 => h3 q (by omega) q2)
theorem nxF_no {P : Nat → Bool} : ∀ (f i : Nat), (∀ q, i ≤ q → q < i + f → P q = false) → nxF P i f = -1
  | 0, _, _ => rfl
  | f + 1, i, h => by
    rw [nxF, if_neg (by rw [h i (Nat.le_refl _) (by omega)]; decide)]
    exact nxF_no f (i + 1) (fun q q1 q2 => h q (by omega) (by omega))
theorem nxt_hit {P : Nat → Bool} {i j : Nat} (hj : P j = true) (h1 : i ≤ j) (h2 : j < 1024) (h : ∀ q, i ≤ q → q < j → P q = false) : nxt P i = (j : Int) := nxF_hit hj _ i h1 (by omega) h
theorem nxt_no {P : Nat → Bool} {i : Nat} (h : ∀ q, i ≤ q → P q = false) : nxt P i = -1 := nxF_no _ i (fun q q1 _ => h q q1)
theorem nxF_all (P : Nat → Bool) : ∀ (f i : Nat), (nxF P i f = -1 ∧ ∀ q, i ≤ q → q < i + f → P q = false) ∨ (∃ j : Nat, nxF P i f = (j : Int) ∧ P j = true ∧ i ≤ j ∧ j < i + f ∧ ∀ q, i ≤ q → q < j → P q = false)
  | 0, i => Or.inl ⟨rfl, fun q h1 h2 => by omega⟩
  | f + 1, i => by
    rw [nxF]
    cases hp : P i with
    | true => exact Or.inr ⟨i, by rw [if_pos rfl], hp, Nat.le_refl _, by omega, fun q h1 h2 => by omega⟩
    | false =>
      rw [if_neg (by decide)]
      rcases nxF_all P f (i + 1) with h | ⟨j, h1, h2, h3, h4, h5⟩
      · refine Or.inl ⟨h.1, fun q h1 h2 => ?_⟩
        by_cases e : q = i
        · subst e; exact hp
        · exact h.2 q (by omega) (by omega)
      · refine Or.inr ⟨j, h1, h2, by omega, by omega, fun q q1 q2 => ?_⟩
        by_cases e : q = i
        · subst e; exact hp
        · exact h5 q (by omega) q2
theorem nxt_all (P : Nat → Bool) {i : Nat} (hi : i ≤ 1024) : (nxt P i = -1 ∧ ∀ q, i ≤ q → q < 1024 → P q = false) ∨ (∃ j : Nat, nxt P i = (j : Int) ∧ P j = true ∧ i ≤ j ∧ j < 1024 ∧ ∀ q, i ≤ q → q < j → P q = false) := by
  rcases nxF_all P (1024 - i) i with h | ⟨j, h1, h2, h3, h4, h5⟩
  · exact Or.inl ⟨h.1, fun q q1 q2 => h.2 q q1 (by omega)⟩
  · exact Or.inr ⟨j, h1, h2, h3, by omega, h5⟩
theorem nxt_rng (P : Nat → Bool) {i : Nat} (hi : i ≤ 1024) : -1 ≤ nxt P i ∧ nxt P i < 1024 := by
  rcases nxt_all P hi with h | ⟨j, h1, h2, h3, h4, h5⟩ <;> omega
