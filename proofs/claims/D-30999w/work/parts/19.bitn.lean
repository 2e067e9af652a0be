/-! numbers of trailing zeros; numbers of bits -/
set_option maxRecDepth 100000
/-- 2^t - 1 as an int -/
def ntm (t : Nat) : Int32 := iI ((2 ^ t - 1 : Nat) : Int)
theorem ntm_bit : ∀ t, t < 32 → ∀ i, i < 32 → (ntm t).toBitVec.getLsbD i = decide (i < t) := by decide +kernel
theorem tp_sub : ∀ t, t < 32 → ∀ i, i < 32 → (BitVec.twoPow 32 t - 1#32).getLsbD i = decide (i < t) := by decide +kernel
theorem i32_ext {x y : Int32} (h : ∀ i, i < 32 → x.toBitVec.getLsbD i = y.toBitVec.getLsbD i) : x = y := Int32.toBitVec_inj.mp (BitVec.eq_of_getLsbD_eq (fun i hi => h i hi))
theorem ntm_eq {x : Int32} {t : Nat} (ht : t < 32) (h1 : x.toBitVec.getLsbD t = true) (h2 : ∀ i, i < t → x.toBitVec.getLsbD i = false) : (x ^^^ iI (-1)) &&& (x - iI 1) = ntm t := by
  -- x = y + 2^t, y the bits above t
  have hy : ∃ y : BitVec 32, (∀ i, i < 32 → y.getLsbD i = (decide (t < i) && x.toBitVec.getLsbD i)) := ⟨x.toBitVec &&& ~~~ (BitVec.ofNat 32 (2 ^ (t + 1) - 1)), fun i hi => by
    rw [BitVec.getLsbD_and, BitVec.getLsbD_not, BitVec.getLsbD_ofNat, Nat.testBit_two_pow_sub_one, decide_eq_true hi]
    by_cases q : t < i
    · rw [decide_eq_true q, decide_eq_false (by omega)]; simp
    · rw [decide_eq_false q, decide_eq_true (by omega)]; simp⟩
  obtain ⟨y, hy⟩ := hy
  have hx : x.toBitVec = y + BitVec.twoPow 32 t := by
    rw [BitVec.add_eq_or_of_and_eq_zero]
    · refine BitVec.eq_of_getLsbD_eq (fun i hi => ?_)
      rw [BitVec.getLsbD_or, hy i hi, BitVec.getLsbD_twoPow]
      rcases Nat.lt_trichotomy i t with q | q | q
      · rw [h2 i q]; simp; omega
      · subst q; simp [h1, hi]
      · rw [decide_eq_true q]; simp; omega
    · refine BitVec.eq_of_getLsbD_eq (fun i hi => ?_)
      rw [BitVec.getLsbD_and, hy i hi, BitVec.getLsbD_twoPow, BitVec.getLsbD_zero]
      by_cases q : i = t
      · subst q; simp
      · simp; omega
  have hm : (x - iI 1).toBitVec = y ||| (BitVec.twoPow 32 t - 1#32) := by
    show x.toBitVec - 1#32 = _
    rw [hx, ← BitVec.add_eq_or_of_and_eq_zero]
    · rw [BitVec.sub_eq_add_neg, BitVec.add_assoc, ← BitVec.sub_eq_add_neg]
    · refine BitVec.eq_of_getLsbD_eq (fun i hi => ?_)
      rw [BitVec.getLsbD_and, hy i hi, tp_sub t ht i hi, BitVec.getLsbD_zero]
      by_cases q : t < i
      · rw [decide_eq_false (show ¬ i < t by omega), Bool.and_false]
      · rw [decide_eq_false q]; rfl
  refine i32_ext (fun i hi => ?_)
  rw [Int32.toBitVec_and, BitVec.getLsbD_and, Int32.toBitVec_xor, BitVec.getLsbD_xor, hm, BitVec.getLsbD_or, hy i hi, tp_sub t ht i hi, ntm_bit t ht i hi]
  have e : (iI (-1)).toBitVec.getLsbD i = true := (by decide +kernel : ∀ i, i < 32 → (iI (-1)).toBitVec.getLsbD i = true) i hi
  rw [e]
  rcases Nat.lt_trichotomy i t with q | q | q
  · rw [h2 i q, decide_eq_true q]; simp
  · subst q; rw [h1]; simp
  · rw [decide_eq_false (show ¬ i < t by omega), Bool.or_false]
    cases x.toBitVec.getLsbD i <;> simp
theorem l2i_bit (x : Int64) {i : Nat} (h : i < 32) : (x.toInt32).toBitVec.getLsbD i = wbt x i := by
  show (x.toBitVec.signExtend 32).getLsbD i = _
  rw [BitVec.getLsbD_signExtend, decide_eq_true h, if_pos (by omega)]; rfl
theorem lsh_bit (x : Int64) {i : Nat} (h : i < 32) : wbt ((x.toUInt64 >>> ((iI 32).toInt64.toUInt64 &&& Int64.toUInt64 63)).toInt64) i = wbt x (32 + i) := by
  show (x.toBitVec >>> (((iI 32).toInt64.toUInt64 &&& Int64.toUInt64 63).toBitVec % 64)).getLsbD i = _
  rw [BitVec.ushiftRight_eq', BitVec.getLsbD_ushiftRight]
  rfl
theorem l2i_0 (x : Int64) : x.toInt32 = 0 ↔ ∀ i, i < 32 → wbt x i = false := by
  constructor
  · intro h i hi
    rw [← l2i_bit x hi, h]; exact BitVec.getLsbD_zero
  · intro h
    refine i32_ext (fun i hi => ?_)
    rw [l2i_bit x hi, h i hi]; exact BitVec.getLsbD_zero.symm
/-! bits counted by parts -/
def pc8 (d : Nat) : Nat := fb_ct (fun i => d.testBit i) 8
def kM (m : Nat) : Nat → Nat
  | 0 => 0
  | n + 1 => 256 * kM m n + m
theorem land_d {s d m0 v m : Nat} (hd : d < 2 ^ s) (hm : m0 < 2 ^ s) : (2 ^ s * v + d) &&& (2 ^ s * m + m0) = 2 ^ s * (v &&& m) + (d &&& m0) := by
  refine Nat.eq_of_testBit_eq (fun j => ?_)
  rw [Nat.testBit_and, Nat.testBit_two_pow_mul_add _ hd, Nat.testBit_two_pow_mul_add _ hm, Nat.testBit_two_pow_mul_add _ (Nat.lt_of_le_of_lt Nat.and_le_left hd)]
  split
  · rw [Nat.testBit_and]
  · rw [Nat.testBit_and]
theorem land_s {k d m0 v m : Nat} (hk : k ≤ 8) (hd : d < 2 ^ 8) (hm : m0 < 2 ^ (8 - k)) : ((2 ^ 8 * v + d) / 2 ^ k) &&& (2 ^ 8 * m + m0) = 2 ^ 8 * ((v / 2 ^ k) &&& m) + ((d / 2 ^ k) &&& m0) := by
  have hm8 : m0 < 2 ^ 8 := Nat.lt_of_lt_of_le hm (Nat.pow_le_pow_right (by decide) (by omega))
  refine Nat.eq_of_testBit_eq (fun j => ?_)
  rw [Nat.testBit_and, Nat.testBit_div_two_pow, Nat.testBit_two_pow_mul_add _ hd, Nat.testBit_two_pow_mul_add _ hm8, Nat.testBit_two_pow_mul_add _ (Nat.lt_of_le_of_lt Nat.and_le_right hm8)]
  by_cases h : j < 8
  · rw [if_pos h, if_pos h, Nat.testBit_and, Nat.testBit_div_two_pow]
    by_cases h2 : j + k < 8
    · rw [if_pos h2]
    · rw [Nat.testBit_lt_two_pow (Nat.lt_of_lt_of_le hm (Nat.pow_le_pow_right (by decide) (by omega))), Bool.and_false, Bool.and_false]
  · rw [if_neg h, if_neg h, if_neg (by omega), Nat.testBit_and, Nat.testBit_div_two_pow, show j + k - 8 = j - 8 + k by omega]
def bc1 (n v : Nat) : Nat := v - ((v / 2) &&& kM 85 n)
def bc2 (n v : Nat) : Nat := (bc1 n v &&& kM 51 n) + ((bc1 n v / 4) &&& kM 51 n)
def bc3 (n v : Nat) : Nat := (bc2 n v + bc2 n v / 16) &&& kM 15 n
theorem bc_d : ∀ d, d < 256 → ((d / 2) &&& 85) ≤ d ∧ d - ((d / 2) &&& 85) < 256 ∧ (((d - ((d / 2) &&& 85)) &&& 51) + (((d - ((d / 2) &&& 85)) / 4) &&& 51)) < 69 ∧ (((d - ((d / 2) &&& 85)) &&& 51) + (((d - ((d / 2) &&& 85)) / 4) &&& 51)) % 16 ≤ 4 ∧ (∀ u, u < 5 → (((((d - ((d / 2) &&& 85)) &&& 51) + (((d - ((d / 2) &&& 85)) / 4) &&& 51)) + (((d - ((d / 2) &&& 85)) &&& 51) + (((d - ((d / 2) &&& 85)) / 4) &&& 51)) / 16 + 16 * u) &&& 15) = pc8 d) := by decide +kernel
theorem bc1_s (n v : Nat) {d : Nat} (hd : d < 256) : bc1 (n + 1) (256 * v + d) = 256 * bc1 n v + (d - ((d / 2) &&& 85)) := by
  unfold bc1
  have h1 := land_s (k := 1) (d := d) (m0 := 85) (v := v) (m := kM 85 n) (by omega) hd (by decide)
  have h2 := (bc_d d hd).1
  have h3 : (v / 2) &&& kM 85 n ≤ v := Nat.le_trans Nat.and_le_left (Nat.div_le_self _ _)
  rw [kM]
  simp only [Nat.reducePow] at h1
  rw [h1]
  omega
theorem bc2_s (n v : Nat) {d : Nat} (hd : d < 256) : bc2 (n + 1) (256 * v + d) = 256 * bc2 n v + (((d - ((d / 2) &&& 85)) &&& 51) + (((d - ((d / 2) &&& 85)) / 4) &&& 51)) := by
  unfold bc2
  rw [bc1_s n v hd]
  have h2 := (bc_d d hd).2.1
  have h0 := land_d (s := 8) (d := d - ((d / 2) &&& 85)) (m0 := 51) (v := bc1 n v) (m := kM 51 n) h2 (by decide)
  have h1 := land_s (k := 2) (d := d - ((d / 2) &&& 85)) (m0 := 51) (v := bc1 n v) (m := kM 51 n) (by omega) h2 (by decide)
  rw [kM]
  simp only [Nat.reducePow] at h0 h1
  rw [h0, h1]
  omega
theorem bc2_m : ∀ (n v : Nat), v < 256 ^ n → bc2 n v % 16 ≤ 4
  | 0, v, h => by
    have : v = 0 := by simpa using h
    subst this; decide
  | n + 1, v, h => by
    have e : v = 256 * (v / 256) + v % 256 := (Nat.div_add_mod v 256).symm
    rw [e, bc2_s n _ (Nat.mod_lt _ (by decide))]
    have := (bc_d (v % 256) (Nat.mod_lt _ (by decide))).2.2.2.1
    omega
theorem bc3_s (n v : Nat) {d : Nat} (hv : v < 256 ^ n) (hd : d < 256) : bc3 (n + 1) (256 * v + d) = 256 * bc3 n v + pc8 d := by
  unfold bc3
  rw [bc2_s n v hd]
  obtain ⟨-, -, h3, h4, h5⟩ := bc_d d hd
  have hm := bc2_m n v hv
  have h6 := h5 (bc2 n v % 16) (by omega)
  revert h3 h4 h5 h6
  generalize (((d - ((d / 2) &&& 85)) &&& 51) + (((d - ((d / 2) &&& 85)) / 4) &&& 51)) = z
  intro h3 h4 h5 h6
  rw [show 256 * bc2 n v + z + (256 * bc2 n v + z) / 16 = 256 * (bc2 n v + bc2 n v / 16) + (z + z / 16 + 16 * (bc2 n v % 16)) from by omega]
  have h0 := land_d (s := 8) (d := z + z / 16 + 16 * (bc2 n v % 16)) (m0 := 15) (v := bc2 n v + bc2 n v / 16) (m := kM 15 n) (by omega) (by decide)
  rw [kM]
  simp only [Nat.reducePow] at h0
  rw [h0, h6]
theorem pc8_le (d : Nat) : pc8 d ≤ 8 := fb_ct_le _ _
def dg (v k : Nat) : Nat := v / 256 ^ k % 256
theorem bc3_all (v : Nat) (h : v < 2 ^ 64) : bc3 8 v = pc8 (dg v 0) + 256 * (pc8 (dg v 1) + 256 * (pc8 (dg v 2) + 256 * (pc8 (dg v 3) + 256 * (pc8 (dg v 4) + 256 * (pc8 (dg v 5) + 256 * (pc8 (dg v 6) + 256 * pc8 (dg v 7))))))) := by
  have step : ∀ (n v : Nat), v < 256 ^ (n + 1) → bc3 (n + 1) v = pc8 (v % 256) + 256 * bc3 n (v / 256) := fun n v hv => by
    have e : v = 256 * (v / 256) + v % 256 := (Nat.div_add_mod v 256).symm
    have := bc3_s n (v / 256) (d := v % 256) (by rw [Nat.pow_succ] at hv; omega) (Nat.mod_lt _ (by decide))
    rw [← e] at this
    rw [this]; omega
  have d1 : ∀ a b : Nat, v / 256 ^ a / 256 = v / 256 ^ (a + 1) := fun a _ => by rw [Nat.div_div_eq_div_mul, Nat.pow_succ]
  have e0 : v = v / 256 ^ 0 := by simp
  have hb : ∀ a, a ≤ 8 → v / 256 ^ a < 256 ^ (8 - a) := fun a ha => by
    rw [Nat.div_lt_iff_lt_mul (Nat.pow_pos (by decide)), ← Nat.pow_add, show 8 - a + a = 8 by omega]
    exact h
  have r0 := step 7 (v / 256 ^ 0) (hb 0 (by omega))
  have r1 := step 6 (v / 256 ^ 1) (hb 1 (by omega))
  have r2 := step 5 (v / 256 ^ 2) (hb 2 (by omega))
  have r3 := step 4 (v / 256 ^ 3) (hb 3 (by omega))
  have r4 := step 3 (v / 256 ^ 4) (hb 4 (by omega))
  have r5 := step 2 (v / 256 ^ 5) (hb 5 (by omega))
  have r6 := step 1 (v / 256 ^ 6) (hb 6 (by omega))
  have r7 := step 0 (v / 256 ^ 7) (hb 7 (by omega))
  have r8 : bc3 0 (v / 256 ^ 8) = 0 := by simp [bc3, kM]
  rw [d1 0 0] at r0
  rw [d1 1 0] at r1
  rw [d1 2 0] at r2
  rw [d1 3 0] at r3
  rw [d1 4 0] at r4
  rw [d1 5 0] at r5
  rw [d1 6 0] at r6
  rw [d1 7 0, r8] at r7
  rw [← e0] at r0
  rw [show bc3 8 v = bc3 (7 + 1) v from rfl, r0, r1, r2, r3, r4, r5, r6, r7]
  unfold dg
  simp only [Nat.pow_zero, Nat.div_one, Nat.mul_zero, Nat.add_zero]
theorem bc_sum {p0 p1 p2 p3 p4 p5 p6 p7 x x4 x5 x6 : Nat} (h : p0 ≤ 8 ∧ p1 ≤ 8 ∧ p2 ≤ 8 ∧ p3 ≤ 8 ∧ p4 ≤ 8 ∧ p5 ≤ 8 ∧ p6 ≤ 8 ∧ p7 ≤ 8) (hx : x = p0 + 256 * (p1 + 256 * (p2 + 256 * (p3 + 256 * (p4 + 256 * (p5 + 256 * (p6 + 256 * p7)))))))
    (h4 : x4 = (x + x / 256) % 18446744073709551616) (h5 : x5 = (x4 + x4 / 65536) % 18446744073709551616) (h6 : x6 = (x5 + x5 / 4294967296) % 18446744073709551616) : x6 % 128 = p0 + p1 + p2 + p3 + p4 + p5 + p6 + p7 := by
  have a1 : x / 256 = p1 + 256 * (p2 + 256 * (p3 + 256 * (p4 + 256 * (p5 + 256 * (p6 + 256 * p7))))) := by omega
  have a2 : x4 = (p0 + p1) + 256 * ((p1 + p2) + 256 * ((p2 + p3) + 256 * ((p3 + p4) + 256 * ((p4 + p5) + 256 * ((p5 + p6) + 256 * ((p6 + p7) + 256 * p7)))))) := by omega
  clear hx h4 a1
  have a3 : x4 / 65536 = (p2 + p3) + 256 * ((p3 + p4) + 256 * ((p4 + p5) + 256 * ((p5 + p6) + 256 * ((p6 + p7) + 256 * p7)))) := by
    generalize (p2 + p3) + 256 * ((p3 + p4) + 256 * ((p4 + p5) + 256 * ((p5 + p6) + 256 * ((p6 + p7) + 256 * p7)))) = z at *
    omega
  have a4 : x5 = (p0 + p1 + p2 + p3) + 256 * ((p1 + p2 + p3 + p4) + 256 * ((p2 + p3 + p4 + p5) + 256 * ((p3 + p4 + p5 + p6) + 256 * ((p4 + p5 + p6 + p7) + 256 * ((p5 + p6 + p7) + 256 * ((p6 + p7) + 256 * p7)))))) := by
    rw [h5, a3, a2]
    omega
  clear h5 a2 a3
  have a5 : x5 / 4294967296 = (p4 + p5 + p6 + p7) + 256 * ((p5 + p6 + p7) + 256 * ((p6 + p7) + 256 * p7)) := by
    generalize (p4 + p5 + p6 + p7) + 256 * ((p5 + p6 + p7) + 256 * ((p6 + p7) + 256 * p7)) = z at *
    omega
  rw [h6, a5, a4]
  omega
theorem ct_dg (v k : Nat) : pc8 (dg v k) = fb_ct (fun i => v.testBit (8 * k + i)) 8 := by
  refine fb_ct_cong (fun i hi => ?_)
  unfold dg
  rw [show (256 : Nat) = 2 ^ 8 from rfl, ← Nat.pow_mul, Nat.testBit_mod_two_pow, decide_eq_true hi, Bool.true_and, Nat.testBit_div_two_pow, Nat.add_comm]
theorem ct_64 (v : Nat) : fb_ct (fun i => v.testBit i) 64 = pc8 (dg v 0) + pc8 (dg v 1) + pc8 (dg v 2) + pc8 (dg v 3) + pc8 (dg v 4) + pc8 (dg v 5) + pc8 (dg v 6) + pc8 (dg v 7) := by
  rw [ct_dg, ct_dg, ct_dg, ct_dg, ct_dg, ct_dg, ct_dg, ct_dg]
  have e := fun a => fb_ct_split (fun i => v.testBit i) a 8
  have h0 := e 56; have h1 := e 48; have h2 := e 40; have h3 := e 32; have h4 := e 24; have h5 := e 16; have h6 := e 8
  simp only [Nat.reduceAdd, Nat.reduceMul, Nat.zero_add] at h0 h1 h2 h3 h4 h5 h6 ⊢
  omega
