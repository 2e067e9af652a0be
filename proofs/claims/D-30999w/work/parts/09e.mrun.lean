/-! RUNS of a row, by a predicate on its columns -/
set_option maxRecDepth 100000
def rfst (p : Nat → Bool) (x : Nat) : Bool := p x && !(decide (0 < x) && p (x - 1))
def rlen (p : Nat → Bool) (x : Nat) : Nat → Nat
  | 0 => 0
  | n + 1 => if p n && decide (x ≤ n) && (rlen p x n == n - x) then rlen p x n + 1 else rlen p x n
def rnX (p : Nat → Bool) (k : Nat) : Nat → Nat
  | 0 => 0
  | n + 1 => if rfst p n && (fb_ct (rfst p) n == k) then n else rnX p k n
def rowP (w g : Nat) (ik : Nat → Bool) (y : Int) : Nat → Bool := fun x => isK w g ik (x : Int) y
theorem isK_bd {w g : Nat} {ik : Nat → Bool} {x y : Int} (h : isK w g ik x y = true) : 0 ≤ x ∧ x < w ∧ 0 ≤ y ∧ y < g := by
  unfold isK at h
  rw [Bool.and_eq_true] at h
  exact (isBd_t _ _ _ _).mp h.1
theorem isF_r (w g : Nat) (ik : Nat → Bool) (x : Nat) (y : Int) : isF w g ik (x : Int) y = rfst (rowP w g ik y) x := by
  unfold isF rfst rowP
  by_cases h : 0 < x
  · have e : ((x - 1 : Nat) : Int) = (x : Int) - 1 := by omega
    simp only [h, decide_true, Bool.true_and]
    rw [e]
  · have e : x = 0 := by omega
    subst e
    have : isK w g ik (((0 : Nat) : Int) - 1) y = false := by
      cases hk : isK w g ik (((0 : Nat) : Int) - 1) y
      · rfl
      · have := isK_bd hk; omega
    rw [this]
    simp
theorem rnO_r (w g : Nat) (ik : Nat → Bool) (y : Int) (n : Nat) : fb_ct (fun x => isF w g ik (x : Int) y) n = fb_ct (rfst (rowP w g ik y)) n := fb_ct_cong (fun x _ => isF_r w g ik x y)
theorem rlen_lt (p : Nat → Bool) (x : Nat) : ∀ n, n ≤ x → rlen p x n = 0
  | 0, _ => rfl
  | n + 1, h => by
    have h1 := rlen_lt p x n (by omega)
    simp only [rlen]
    rw [h1, if_neg]
    intro q
    simp at q
    omega
theorem rlen_le (p : Nat → Bool) (x : Nat) : ∀ n, rlen p x n ≤ n - x
  | 0 => Nat.zero_le _
  | n + 1 => by
    have h1 := rlen_le p x n
    simp only [rlen]
    split
    · rename_i q
      simp at q
      omega
    · omega
theorem rlen_is {p : Nat → Bool} {x e : Nat} (hx : x ≤ e) (hp : ∀ t, x ≤ t → t < e → p t = true) : ∀ n, e ≤ n → (e = n ∨ p e = false) → rlen p x n = e - x := by
  intro n
  induction n with
  | zero => intro h _; rw [rlen_lt p x 0 (Nat.zero_le _)]; omega
  | succ n ih =>
    intro h hq
    by_cases q : e = n + 1
    · subst q
      by_cases q2 : x = n + 1
      · rw [rlen_lt p x (n + 1) (by omega)]; omega
      · have full : ∀ m, x ≤ m → m ≤ n → rlen p x m = m - x := by
          intro m
          induction m with
          | zero => intro a b; rw [rlen_lt p x 0 (Nat.zero_le _)]; omega
          | succ m ihm =>
            intro a b
            by_cases q3 : x = m + 1
            · rw [rlen_lt p x (m + 1) (by omega)]; omega
            · have h1 := ihm (by omega) (by omega)
              simp only [rlen]
              rw [h1, if_pos]
              · omega
              · simp [hp m (by omega) (by omega)]; omega
        have h1 := full n (by omega) (Nat.le_refl _)
        simp only [rlen]
        rw [h1, if_pos]
        · omega
        · simp [hp n (by omega) (by omega)]; omega
    · have hpe : p e = false := by rcases hq with q1 | q1; exact absurd q1 q; exact q1
      by_cases q2 : e = n
      · subst q2
        have h1 := ih (Nat.le_refl _) (Or.inl rfl)
        simp only [rlen]
        rw [h1, hpe]
        simp
      · have h1 := ih (by omega) (Or.inr hpe)
        simp only [rlen]
        rw [h1, if_neg]
        intro z
        simp at z
        omega
theorem rnX_is {p : Nat → Bool} {x k : Nat} (hf : rfst p x = true) (hc : fb_ct (rfst p) x = k) : ∀ n, x < n → rnX p k n = x
  | 0, h => by omega
  | n + 1, h => by
    simp only [rnX]
    by_cases q : x = n
    · subst q
      rw [if_pos]
      simp [hf, hc]
    · have h1 := rnX_is hf hc n (by omega)
      rw [if_neg, h1]
      intro z
      rw [Bool.and_eq_true] at z
      have z2 := eq_of_beq z.2
      have m1 := fb_ct_mono (rfst p) (show x + 1 ≤ n by omega)
      rw [fb_ct_succ, hf] at m1
      simp at m1
      omega
/-- the sum of the lengths of the first n runs -/
def rsR (p : Nat → Bool) (w : Nat) : Nat → Nat
  | 0 => 0
  | k + 1 => rsR p w k + rlen p (rnX p k w) w
def rsA (w g : Nat) (ik : Nat → Bool) : Nat → Nat
  | 0 => 0
  | n + 1 => rsA w g ik n + rsR (rowP w g ik (n : Int)) w (rnO w g ik (n : Int))
theorem rsR_le (p : Nat → Bool) (w : Nat) : ∀ n, rsR p w n ≤ n * w
  | 0 => Nat.zero_le _
  | n + 1 => by
    have h1 := rsR_le p w n
    have h2 := rlen_le p (rnX p n w) w
    simp only [rsR]
    rw [Nat.add_mul, Nat.one_mul]
    omega
theorem rsA_le {w : Nat} (g : Nat) (ik : Nat → Bool) (hw : w ≤ 32) : ∀ n, rsA w g ik n ≤ n * 1024
  | 0 => Nat.zero_le _
  | n + 1 => by
    have h1 := rsA_le g ik hw n
    have h2 := rsR_le (rowP w g ik (n : Int)) w (rnO w g ik (n : Int))
    have h3 := rnO_le w g ik (n : Int)
    have h4 : rnO w g ik (n : Int) * w ≤ 32 * 32 := Nat.mul_le_mul (by omega) hw
    simp only [rsA]
    omega
/-- what isn't as it should be; the checksum -/
noncomputable def errB (w g : Nat) (ik : Nat → Bool) (c : Nat) : Bool := decide (depF w g ik false c ≠ lkd w g ik false c) || decide (depF w g ik true c ≠ lkd w g ik true c)
noncomputable def errN (w g : Nat) (ik : Nat → Bool) : Int := ((fb_ct (errB w g ik) (w * g) : Nat) : Int) + tabs (((rsA w g ik g : Nat) : Int) - ((fb_ct ik (w * g) : Nat) : Int))
noncomputable def ckS (w g : Nat) (ik st : Nat → Bool) (s0 : Int64) : Nat → Int64
  | 0 => s0
  | n + 1 => 31 * (31 * (31 * (31 * ckS w g ik st s0 n + (if ik n then 1 else 0)) + (iI (depF w g ik false n)).toInt64) + (iI (depF w g ik true n)).toInt64) + (if st n then 1 else 0)
noncomputable def ckF (w g : Nat) (ik st : Nat → Bool) : Int64 := ckS w g ik st (31 * (31 * (31 * (iI (w : Int)).toInt64 + (iI (g : Int)).toInt64) + (iI ((prtN w g ik : Nat) : Int)).toInt64) + (iI ((holN w g ik : Nat) : Int)).toInt64) (w * g)
theorem rnX_le (p : Nat → Bool) (k : Nat) : ∀ n, rnX p k n ≤ n
  | 0 => Nat.le_refl _
  | n + 1 => by
    have := rnX_le p k n
    simp only [rnX]
    split <;> omega
theorem lkd_rng (w g : Nat) (ik : Nat → Bool) (ch : Bool) (c : Nat) : 0 ≤ lkd w g ik ch c ∧ lkd w g ik ch c ≤ 1024 := lkA_rng w g ik _ _ ch (g + 2) 1024 (by decide)
theorem errs_step {w g : Nat} {ik gg : Nat → Bool} {i : Nat} {d : Int} {b : Bool} (h : ∀ j, j < w * g → gg j = (decide (j < i) && decide (depF w g ik false j ≠ lkd w g ik false j))) (hd : d = depF w g ik false i) (hb : b = decide (d ≠ lkd w g ik false i)) (j : Nat) (hj : j < w * g) : va_up gg i (gg i || b) j = (decide (j < i + 1) && decide (depF w g ik false j ≠ lkd w g ik false j)) := by
  unfold va_up
  by_cases q : j = i
  · subst q
    rw [if_pos rfl, h j hj, hb, hd]
    simp
  · rw [if_neg q, h j hj]
    congr 1
    exact decide_eq_decide.mpr (by omega)
theorem errB_1 {w g : Nat} {ik : Nat → Bool} {i : Nat} (h : decide (depF w g ik false i ≠ lkd w g ik false i) = true) : errB w g ik i = true := by
  unfold errB; rw [h]; rfl
theorem errB_2 {w g : Nat} {ik : Nat → Bool} {i : Nat} {d : Int} (hd : d = depF w g ik true i) (h : d ≠ lkd w g ik true i) : errB w g ik i = true := by
  unfold errB; rw [← hd, decide_eq_true h, Bool.or_true]
theorem errB_3 {w g : Nat} {ik : Nat → Bool} {i : Nat} {d : Int} (h : decide (depF w g ik false i ≠ lkd w g ik false i) = false) (hd : d = depF w g ik true i) (h2 : d = lkd w g ik true i) : errB w g ik i = false := by
  unfold errB; rw [← hd, h, h2]; simp
