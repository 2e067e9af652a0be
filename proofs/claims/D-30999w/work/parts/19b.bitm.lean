/-! bitCount's steps over longs -/
set_option maxRecDepth 100000
def uN (x : Int64) : Nat := x.toUInt64.toNat
theorem uN_lt (x : Int64) : uN x < 18446744073709551616 := x.toUInt64.toNat_lt
theorem uN_wbt (x : Int64) (i : Nat) : wbt x i = (uN x).testBit i := rfl
theorem uN_add (x y : Int64) : uN (x + y) = (uN x + uN y) % 18446744073709551616 := by
  show (x.toUInt64 + y.toUInt64).toNat = _
  exact UInt64.toNat_add _ _
theorem uN_and (x y : Int64) : uN (x &&& y) = uN x &&& uN y := by
  show (x.toUInt64 &&& y.toUInt64).toNat = _
  exact UInt64.toNat_and _ _
theorem uN_sub {x y : Int64} (h : uN y ≤ uN x) : uN (x - y) = uN x - uN y := by
  show (x.toUInt64 - y.toUInt64).toNat = _
  exact UInt64.toNat_sub_of_le _ _ h
theorem uN_shr (x : Int64) (s : UInt64) : uN (x.toUInt64 >>> s).toInt64 = uN x / 2 ^ (s.toNat % 64) := by
  show (x.toUInt64 >>> s).toNat = _
  rw [UInt64.toNat_shiftRight, Nat.shiftRight_eq_div_pow]
  rfl
theorem uN_sk : ∀ k : Nat, k < 64 → ((iI (k : Int)).toInt64.toUInt64 &&& Int64.toUInt64 63).toNat % 64 = k := by decide +kernel
def usr (x : Int64) (k : Nat) : Int64 := (x.toUInt64 >>> ((iI (k : Int)).toInt64.toUInt64 &&& Int64.toUInt64 63)).toInt64
theorem uN_usr (x : Int64) {k : Nat} (hk : k < 64) : uN (usr x k) = uN x / 2 ^ k := by rw [usr, uN_shr, uN_sk k hk]
def sw1 (x : Int64) : Int64 := x - (usr x 1 &&& 6148914691236517205)
def sw2 (x : Int64) : Int64 := (x &&& 3689348814741910323) + (usr x 2 &&& 3689348814741910323)
def sw3 (x : Int64) : Int64 := (x + usr x 4) &&& 1085102592571150095
def sw4 (k : Nat) (x : Int64) : Int64 := x + usr x k
theorem uN_sw1 (x : Int64) : uN (sw1 x) = bc1 8 (uN x) := by
  have e : uN (usr x 1 &&& 6148914691236517205) = (uN x / 2) &&& kM 85 8 := by rw [uN_and, uN_usr x (by omega)]; rfl
  rw [sw1, uN_sub (by rw [e]; exact Nat.le_trans Nat.and_le_left (Nat.div_le_self _ _)), e]; rfl
theorem uN_sw2 (x : Int64) {v : Nat} (hv : uN x = bc1 8 v) : uN (sw2 x) = bc2 8 v := by
  rw [sw2, uN_add, uN_and, uN_and, uN_usr x (by omega), hv]
  show ((bc1 8 v &&& kM 51 8) + ((bc1 8 v / 4) &&& kM 51 8)) % 18446744073709551616 = bc2 8 v
  have h1 : bc1 8 v &&& kM 51 8 ≤ kM 51 8 := Nat.and_le_right
  have h2 : (bc1 8 v / 4) &&& kM 51 8 ≤ kM 51 8 := Nat.and_le_right
  have h3 : kM 51 8 < 4611686018427387904 := by decide
  rw [Nat.mod_eq_of_lt (by omega)]; rfl
theorem uN_sw3 (x : Int64) {v : Nat} (hv : uN x = bc2 8 v) : uN (sw3 x) = bc3 8 v := by
  have h1 : bc1 8 v &&& kM 51 8 ≤ kM 51 8 := Nat.and_le_right
  have h2 : (bc1 8 v / 4) &&& kM 51 8 ≤ kM 51 8 := Nat.and_le_right
  have h3 : kM 51 8 < 4611686018427387904 := by decide
  have h4 : bc2 8 v = (bc1 8 v &&& kM 51 8) + ((bc1 8 v / 4) &&& kM 51 8) := rfl
  rw [sw3, uN_and, uN_add, uN_usr x (by omega), hv]
  show ((bc2 8 v + bc2 8 v / 16) % 18446744073709551616) &&& kM 15 8 = bc3 8 v
  rw [Nat.mod_eq_of_lt (by omega)]; rfl
theorem iI_bit (k : Nat) {i : Nat} (h : i < 32) : (iI (k : Int)).toBitVec.getLsbD i = k.testBit i := by
  rw [← iI_nI]
  show (BitVec.ofNat 32 k).getLsbD i = _
  rw [BitVec.getLsbD_ofNat, decide_eq_true h, Bool.true_and]
theorem l2i_127 (y : Int64) : y.toInt32 &&& iI 127 = iI ((uN y % 128 : Nat) : Int) := by
  refine i32_ext (fun i hi => ?_)
  rw [Int32.toBitVec_and, BitVec.getLsbD_and, l2i_bit y hi, iI_bit _ hi, uN_wbt, show (iI 127) = iI ((127 : Nat) : Int) from rfl, iI_bit _ hi]
  rw [show (127 : Nat) = 2 ^ 7 - 1 from rfl, Nat.testBit_two_pow_sub_one, show (128 : Nat) = 2 ^ 7 from rfl, Nat.testBit_mod_two_pow, Bool.and_comm]
theorem bitc_eq (x : Int64) : (sw4 32 (sw4 16 (sw4 8 (sw3 (sw2 (sw1 x)))))).toInt32 &&& iI 127 = iI ((fb_ct (wbt x) 64 : Nat) : Int) := by
  rw [l2i_127]
  have h3 := uN_sw3 _ (uN_sw2 _ (uN_sw1 x))
  rw [bc3_all _ (uN_lt x)] at h3
  have e : fb_ct (wbt x) 64 = fb_ct (fun i => (uN x).testBit i) 64 := rfl
  have h4 : uN (sw4 8 (sw3 (sw2 (sw1 x)))) = (uN (sw3 (sw2 (sw1 x))) + uN (sw3 (sw2 (sw1 x))) / 256) % 18446744073709551616 := by rw [sw4, uN_add, uN_usr _ (by omega)]
  have h5 : uN (sw4 16 (sw4 8 (sw3 (sw2 (sw1 x))))) = (uN (sw4 8 (sw3 (sw2 (sw1 x)))) + uN (sw4 8 (sw3 (sw2 (sw1 x)))) / 65536) % 18446744073709551616 := by rw [sw4, uN_add, uN_usr _ (by omega)]
  have h6 : uN (sw4 32 (sw4 16 (sw4 8 (sw3 (sw2 (sw1 x)))))) = (uN (sw4 16 (sw4 8 (sw3 (sw2 (sw1 x))))) + uN (sw4 16 (sw4 8 (sw3 (sw2 (sw1 x))))) / 4294967296) % 18446744073709551616 := by rw [sw4, uN_add, uN_usr _ (by omega)]
  rw [bc_sum ⟨pc8_le _, pc8_le _, pc8_le _, pc8_le _, pc8_le _, pc8_le _, pc8_le _, pc8_le _⟩ h3 h4 h5 h6, e, ct_64]
/-- the bits of a set, word by word -/
def ctW (P : Nat → Bool) (u : Nat) : Nat := fb_ct P (64 * u)
theorem ctW_s (P : Nat → Bool) (u : Nat) : ctW P (u + 1) = ctW P u + fb_ct (wbt (wd P u)) 64 := by
  unfold ctW
  rw [show 64 * (u + 1) = 64 * u + 64 by omega, fb_ct_split]
  congr 1
  exact fb_ct_cong (fun i hi => (wd_bit P u hi).symm)
theorem ct_ext {P : Nat → Bool} {a b : Nat} (h : a ≤ b) (hz : ∀ j, a ≤ j → P j = false) : fb_ct P b = fb_ct P a := by
  obtain ⟨c, rfl⟩ := Nat.exists_eq_add_of_le h
  rw [fb_ct_split, show fb_ct (fun k => P (a + k)) c = 0 from fb_ct_zero.mpr (fun k _ => hz (a + k) (by omega))]; rfl
theorem ctW_un {P : Nat → Bool} {n : Nat} (h : BB P n) : ctW P (un P) = fb_ct P 1024 := by
  have := un_le h
  exact (ct_ext (by omega) (fun j hj => un_out h (by omega))).symm
