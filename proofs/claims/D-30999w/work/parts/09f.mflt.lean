/-! SHARES: quotients of small whole numbers aren't NaN -/
set_option maxRecDepth 100000
def finNz (d : FP.Core.Datum) (z : Bool) : Bool := match d with
  | .fin _ c _ => z || c != 0
  | _ => false
theorem i2d_fin : ∀ n : Nat, n < 1025 → finNz (FP.Core.decode FP.Core.b64 (FP.i2d (iI (n : Int))).toNat) (n == 0) = true := by decide +kernel
theorem i2f_fin : ∀ n : Nat, n < 1025 → finNz (FP.Core.decode FP.Core.b32 (FP.i2f (iI (n : Int))).toNat) (n == 0) = true := by decide +kernel
theorem finNz_e {d : FP.Core.Datum} {z : Bool} (h : finNz d z = true) : ∃ s c q, d = .fin s c q ∧ (z = false → c ≠ 0) := by
  cases d with
  | nan => cases h
  | inf s => cases h
  | fin s c q =>
    refine ⟨s, c, q, rfl, fun hz => ?_⟩
    rw [hz] at h
    simpa [finNz] using h
/-- the bits but for the sign are at most those of an infinity -/
def magOk (f : FP.Core.Fmt) (n : Nat) : Prop := n % (f.exps * f.tails) ≤ (f.exps - 1) * f.tails
def fmtOk (f : FP.Core.Fmt) : Prop := 0 < f.tails ∧ 2 ≤ f.exps ∧ 2 ^ f.p = 2 * f.tails ∧ (f.qmax - f.qmin).toNat + 2 = f.exps - 1
theorem fmt64 : fmtOk FP.Core.b64 := by unfold fmtOk; decide +kernel
theorem fmt32 : fmtOk FP.Core.b32 := by unfold fmtOk; decide +kernel
theorem asm_ok {f : FP.Core.Fmt} (s : Bool) {e t : Nat} (he : e < f.exps) (ht : t < f.tails) : FP.Core.assemble f s e t % (f.exps * f.tails) = e * f.tails + t := by
  unfold FP.Core.assemble
  have h1 : (s.toNat * f.exps + e) * f.tails + t = (e * f.tails + t) + f.exps * f.tails * s.toNat := by
    rw [Nat.add_mul, Nat.mul_assoc, Nat.mul_comm s.toNat]
    omega
  have h2 : (e + 1) * f.tails ≤ f.exps * f.tails := Nat.mul_le_mul_right _ he
  rw [Nat.add_mul, Nat.one_mul] at h2
  rw [h1, Nat.add_mul_mod_self_left, Nat.mod_eq_of_lt (by omega)]
theorem mag_of {f : FP.Core.Fmt} (hf : fmtOk f) {s : Bool} {e t : Nat} (he : e + 1 < f.exps) (ht : t < f.tails) : magOk f (FP.Core.assemble f s e t) := by
  unfold magOk
  rw [asm_ok s (by omega) ht]
  have h2 : (e + 1) * f.tails ≤ (f.exps - 1) * f.tails := Nat.mul_le_mul_right _ (by omega)
  rw [Nat.add_mul, Nat.one_mul] at h2
  omega
theorem mag_inf {f : FP.Core.Fmt} (hf : fmtOk f) (s : Bool) : magOk f (FP.Core.encode f (.inf s)) := by
  unfold magOk FP.Core.encode
  rw [asm_ok s (by have := hf.2.1; omega) hf.1]
  omega
theorem mag_bound {f : FP.Core.Fmt} (hf : fmtOk f) (s : Bool) {c : Nat} {q : Int} (hc : c < 2 ^ f.p) : magOk f (FP.Core.encode f (FP.Core.bound f s c q)) := by
  obtain ⟨h1, h2, h3, h4⟩ := hf
  unfold FP.Core.bound
  split
  · rename_i hq
    unfold FP.Core.encode
    simp only []
    split
    · rename_i hc2
      exact mag_of ⟨h1, h2, h3, h4⟩ (by omega) hc2
    · exact mag_of ⟨h1, h2, h3, h4⟩ (by omega) (by omega)
  · exact mag_inf ⟨h1, h2, h3, h4⟩ s
theorem mag_rr {f : FP.Core.Fmt} (hf : fmtOk f) (s : Bool) (a b : Nat) (e : Int) : magOk f (FP.Core.encode f (FP.Core.roundRatio f s a b e)) := by
  have hf2 := hf
  obtain ⟨h1, h2, h3, h4⟩ := hf2
  unfold FP.Core.roundRatio
  split
  · unfold FP.Core.encode
    simp only []
    rw [if_pos h1]
    exact mag_of hf (by omega) h1
  · unfold FP.Core.roundAt FP.Core.settle
    split
    · rename_i hc
      exact mag_bound hf s hc
    · exact mag_bound hf s (by omega)
theorem mag_rd {f : FP.Core.Fmt} (hf : fmtOk f) {d : FP.Core.Datum} (h : d ≠ .nan) : magOk f (FP.Core.encode f (FP.Core.round f d)) := by
  cases d with
  | nan => exact absurd rfl h
  | inf s => exact mag_inf hf s
  | fin s c q => exact mag_rr hf s c 1 q
theorem dec_nn {f : FP.Core.Fmt} {n : Nat} (h : magOk f n) : FP.Core.decode f n ≠ .nan := by
  unfold FP.Core.decode
  split
  · rename_i he
    split
    · intro q; cases q
    · rename_i ht
      exfalso
      unfold FP.Core.fieldE at he
      unfold FP.Core.fieldT at ht
      unfold magOk at h
      rw [Nat.mul_comm, Nat.mod_mul, he, Nat.mul_comm] at h
      omega
  · split <;> (intro q; cases q)
theorem vf64_of {n : Nat} (hn : n < 2 ^ 64) (h : magOk FP.Core.b64 n) : vf_n64 (UInt64.ofNat n) := by
  unfold magOk at h
  have e1 : (FP.Core.b64.exps - 1) * FP.Core.b64.tails = 0x7ff0000000000000 := by decide +kernel
  have e2 : FP.Core.b64.exps * FP.Core.b64.tails = 2 ^ 63 := by decide +kernel
  rw [e1, e2] at h
  unfold vf_n64
  rw [UInt64.le_iff_toNat_le, UInt64.toNat_and]
  have e3 : (0x7fffffffffffffff : UInt64).toNat = 2 ^ 63 - 1 := by decide +kernel
  have e4 : (0x7ff0000000000000 : UInt64).toNat = 0x7ff0000000000000 := by decide +kernel
  rw [e3, e4, Nat.and_two_pow_sub_one_eq_mod, UInt64.toNat_ofNat_of_lt' hn]
  exact h
theorem vf32_of {n : Nat} (hn : n < 2 ^ 32) (h : magOk FP.Core.b32 n) : vf_n32 (UInt32.ofNat n) := by
  unfold magOk at h
  have e1 : (FP.Core.b32.exps - 1) * FP.Core.b32.tails = 0x7f800000 := by decide +kernel
  have e2 : FP.Core.b32.exps * FP.Core.b32.tails = 2 ^ 31 := by decide +kernel
  rw [e1, e2] at h
  unfold vf_n32
  rw [UInt32.le_iff_toNat_le, UInt32.toNat_and]
  have e3 : (0x7fffffff : UInt32).toNat = 2 ^ 31 - 1 := by decide +kernel
  have e4 : (0x7f800000 : UInt32).toNat = 0x7f800000 := by decide +kernel
  rw [e3, e4, Nat.and_two_pow_sub_one_eq_mod, UInt32.toNat_ofNat_of_lt' hn]
  exact h
/-- an encoding has as many bits as its format -/
theorem asm_lt {f : FP.Core.Fmt} (s : Bool) {e t : Nat} (he : e < f.exps) (ht : t < f.tails) : FP.Core.assemble f s e t < 2 * (f.exps * f.tails) := by
  unfold FP.Core.assemble
  have h1 : s.toNat ≤ 1 := Bool.toNat_le s
  have h2 : (s.toNat * f.exps + e + 1) * f.tails ≤ (2 * f.exps) * f.tails := by
    apply Nat.mul_le_mul_right
    have : s.toNat * f.exps ≤ 1 * f.exps := Nat.mul_le_mul_right _ h1
    omega
  rw [Nat.add_mul, Nat.one_mul, Nat.mul_assoc] at h2
  omega
theorem inf_lt {f : FP.Core.Fmt} (hf : fmtOk f) (s : Bool) : FP.Core.encode f (.inf s) < 2 * (f.exps * f.tails) := asm_lt s (by have := hf.2.1; omega) hf.1
theorem bound_lt {f : FP.Core.Fmt} (hf : fmtOk f) (s : Bool) {c : Nat} {q : Int} (hc : c < 2 ^ f.p) : FP.Core.encode f (FP.Core.bound f s c q) < 2 * (f.exps * f.tails) := by
  obtain ⟨h1, h2, h3, h4⟩ := hf
  unfold FP.Core.bound
  split
  · rename_i hq
    unfold FP.Core.encode
    simp only []
    split
    · rename_i hc2
      exact asm_lt s (by omega) hc2
    · exact asm_lt s (by omega) (by omega)
  · exact inf_lt ⟨h1, h2, h3, h4⟩ s
theorem rr_lt {f : FP.Core.Fmt} (hf : fmtOk f) (s : Bool) (a b : Nat) (e : Int) : FP.Core.encode f (FP.Core.roundRatio f s a b e) < 2 * (f.exps * f.tails) := by
  have hf2 := hf
  obtain ⟨h1, h2, h3, h4⟩ := hf2
  unfold FP.Core.roundRatio
  split
  · unfold FP.Core.encode
    simp only []
    rw [if_pos h1]
    exact asm_lt s (by omega) h1
  · unfold FP.Core.roundAt FP.Core.settle
    split
    · rename_i hc
      exact bound_lt hf s hc
    · exact bound_lt hf s (by omega)
theorem sz64 : 2 * (FP.Core.b64.exps * FP.Core.b64.tails) = 2 ^ 64 := by decide +kernel
theorem sz32 : 2 * (FP.Core.b32.exps * FP.Core.b32.tails) = 2 ^ 32 := by decide +kernel
theorem ddiv_vf {a b : Nat} (ha : a < 1025) (hb : 0 < b ∧ b < 1025) : vf_n64 (FP.ddiv (FP.i2d (iI (a : Int))) (FP.i2d (iI (b : Int)))) := by
  obtain ⟨s, c, q, h1, -⟩ := finNz_e (i2d_fin a ha)
  obtain ⟨s2, c2, q2, h2, h3⟩ := finNz_e (i2d_fin b hb.2)
  have hz : c2 ≠ 0 := h3 (by simp; omega)
  show vf_n64 (UInt64.ofNat (FP.Core.div FP.Core.b64 _ _))
  unfold FP.Core.div
  rw [h1, h2]
  unfold FP.Core.quotient
  simp only []
  rw [if_neg hz]
  have hl := rr_lt fmt64 (s != s2) c c2 (q - q2)
  rw [sz64] at hl
  exact vf64_of hl (mag_rr fmt64 _ _ _ _)
theorem fdiv_ok {a b : Nat} (ha : a < 1025) (hb : 0 < b ∧ b < 1025) : vf_n32 (FP.fdiv (FP.i2f (iI (a : Int))) (FP.i2f (iI (b : Int)))) ∧ FP.Core.decode FP.Core.b32 (FP.fdiv (FP.i2f (iI (a : Int))) (FP.i2f (iI (b : Int)))).toNat ≠ .nan := by
  obtain ⟨s, c, q, h1, -⟩ := finNz_e (i2f_fin a ha)
  obtain ⟨s2, c2, q2, h2, h3⟩ := finNz_e (i2f_fin b hb.2)
  have hz : c2 ≠ 0 := h3 (by simp; omega)
  have hl := rr_lt fmt32 (s != s2) c c2 (q - q2)
  rw [sz32] at hl
  have hm := mag_rr fmt32 (s != s2) c c2 (q - q2)
  have e : FP.fdiv (FP.i2f (iI (a : Int))) (FP.i2f (iI (b : Int))) = UInt32.ofNat (FP.Core.encode FP.Core.b32 (FP.Core.roundRatio FP.Core.b32 (s != s2) c c2 (q - q2))) := by
    show UInt32.ofNat (FP.Core.div FP.Core.b32 _ _) = _
    unfold FP.Core.div
    rw [h1, h2]
    unfold FP.Core.quotient
    simp only []
    rw [if_neg hz]
  rw [e]
  exact ⟨vf32_of hl hm, by rw [UInt32.toNat_ofNat_of_lt' hl]; exact dec_nn hm⟩
theorem f2d_vf {a : UInt32} (h : FP.Core.decode FP.Core.b32 a.toNat ≠ .nan) : vf_n64 (FP.f2d a) := by
  have h1 : FP.Core.fIsNaN a = false := decide_eq_false h
  unfold FP.f2d
  rw [h1]
  show vf_n64 (UInt64.ofNat (FP.Core.encode FP.Core.b64 (FP.Core.round FP.Core.b64 (FP.Core.decode FP.Core.b32 a.toNat))))
  cases hd : FP.Core.decode FP.Core.b32 a.toNat with
  | nan => exact absurd hd h
  | inf s =>
    have hl := inf_lt fmt64 s
    rw [sz64] at hl
    exact vf64_of hl (mag_inf fmt64 s)
  | fin s c q =>
    have hl := rr_lt fmt64 s c 1 q
    rw [sz64] at hl
    exact vf64_of hl (mag_rr fmt64 s c 1 q)
theorem f0_nn : FP.Core.decode FP.Core.b32 FP.fconst0.toNat ≠ .nan := by decide +kernel
/-- meanRun's answer -/
noncomputable def mrF (w g : Nat) (ik : Nat → Bool) : UInt32 := if rnA w g ik g = 0 then FP.fconst0 else FP.fdiv (FP.i2f (iI ((fb_ct ik (w * g) : Nat) : Int))) (FP.i2f (iI ((rnA w g ik g : Nat) : Int)))
noncomputable def ishF (w g : Nat) (ik : Nat → Bool) : UInt64 := FP.ddiv (FP.i2d (iI ((fb_ct ik (w * g) : Nat) : Int))) (FP.i2d (iI ((w * g : Nat) : Int)))
