/-! WHAT THE PICTURES ARE: the board's cells as numbers, neighbors, strokes; in plain Lean -/
set_option maxRecDepth 100000
/-- the cell x, y is on the board of w columns and g rows -/
def isBd (w g : Nat) (x y : Int) : Bool := decide (0 ≤ x ∧ x < w ∧ 0 ≤ y ∧ y < g)
def cel (w : Nat) (x y : Int) : Nat := (y * w + x).toNat
def isK (w g : Nat) (ik : Nat → Bool) (x y : Int) : Bool := isBd w g x y && ik (cel w x y)
def sX (k : Int) : Int := if k = 0 ∨ k = 4 then 0 else if k < 4 then 1 else -1
def sY (k : Int) : Int := if k = 2 ∨ k = 6 then 0 else if k < 2 ∨ k = 7 then -1 else 1
def bes (w g : Nat) (ik : Nat → Bool) (c : Nat) (k : Int) : Bool := isK w g ik ((c : Int) % (w : Int) + sX k) ((c : Int) / (w : Int) + sY k)
theorem isBd_t (w g : Nat) (x y : Int) : isBd w g x y = true ↔ (0 ≤ x ∧ x < w ∧ 0 ≤ y ∧ y < g) := by simp [isBd]
theorem isBd_f (w g : Nat) (x y : Int) : isBd w g x y = false ↔ ¬ (0 ≤ x ∧ x < w ∧ 0 ≤ y ∧ y < g) := by simp [isBd]
theorem sX_rng (k : Int) : -1 ≤ sX k ∧ sX k ≤ 1 := by
  unfold sX; split
  · omega
  · split <;> omega
theorem sY_rng (k : Int) : -1 ≤ sY k ∧ sY k ≤ 1 := by
  unfold sY; split
  · omega
  · split <;> omega
theorem md_rng (c w : Nat) (hw : 1 ≤ w) : 0 ≤ (c : Int) % (w : Int) ∧ (c : Int) % (w : Int) < w ∧ 0 ≤ (c : Int) / (w : Int) ∧ (c : Int) / (w : Int) ≤ c := by
  refine ⟨Int.emod_nonneg _ (by omega), Int.emod_lt_of_pos _ (by omega), Int.ediv_nonneg (by omega) (by omega), ?_⟩
  exact Int.ediv_le_self _ (by omega)
theorem cel_rng {w g : Nat} {x y : Int} (h : 0 ≤ x ∧ x < w ∧ 0 ≤ y ∧ y < g) : 0 ≤ y * (w : Int) + x ∧ y * (w : Int) + x < ((w * g : Nat) : Int) := by
  obtain ⟨h1, h2, h3, h4⟩ := h
  have a1 : 0 ≤ y * (w : Int) := Int.mul_nonneg h3 (by omega)
  have a2 : (y + 1) * (w : Int) ≤ (g : Int) * (w : Int) := Int.mul_le_mul_of_nonneg_right (by omega) (by omega)
  rw [Int.add_mul, Int.one_mul] at a2
  rw [Int.natCast_mul, Int.mul_comm (w : Int) (g : Int)]
  omega
theorem cel_int {w g : Nat} {x y : Int} (h : 0 ≤ x ∧ x < w ∧ 0 ≤ y ∧ y < g) : y * (w : Int) + x = ((cel w x y : Nat) : Int) ∧ cel w x y < w * g := by
  have h1 := cel_rng h
  unfold cel
  omega
theorem wg_le {w g : Nat} (hw : 1 ≤ w ∧ w ≤ 32) (hg : 1 ≤ g ∧ g ≤ 32) : w * g ≤ 1024 := Nat.le_trans (Nat.mul_le_mul hw.2 hg.2) (Nat.le_of_ble_eq_true rfl)
/-- a cell drawn -/
def drw (w g : Nat) (x y : Int) (b : Bool) (ik : Nat → Bool) : Nat → Bool := if isBd w g x y then va_up ik (cel w x y) b else ik
def drwN (w g : Nat) (x y : Int) (b : Bool) (ik : Nat → Bool) : Int := if isBd w g x y && (ik (cel w x y) != b) then 1 else 0
theorem up_same {α : Type} {f : Nat → α} {k : Nat} {v : α} (h : f k = v) : va_up f k v = f := by
  funext j
  unfold va_up
  split
  · rename_i e; rw [e, h]
  · rfl
/-- the first i places taken from f, what lies behind from h -/
def flw {α : Type} (f h : Nat → α) (i : Nat) : Nat → α := fun j => if j < i then f j else h j
theorem flw_0 {α : Type} (f h : Nat → α) : flw f h 0 = h := funext fun j => if_neg (Nat.not_lt_zero j)
theorem flw_s {α : Type} (f h : Nat → α) (i : Nat) : va_up (flw f h i) i (f i) = flw f h (i + 1) := by
  funext j
  unfold va_up flw
  by_cases h1 : j = i
  · subst h1; rw [if_pos rfl, if_pos (Nat.lt_succ_self _)]
  · rw [if_neg h1]
    by_cases h2 : j < i
    · rw [if_pos h2, if_pos (by omega)]
    · rw [if_neg h2, if_neg (by omega)]
theorem flw_at {α : Type} (f h : Nat → α) (i : Nat) : flw f h i i = h i := if_neg (Nat.lt_irrefl i)
/-! thinning -/
def arnd (w g : Nat) (ik : Nat → Bool) (c : Nat) : Nat := fb_ct (fun k => bes w g ik c (k : Int)) 8
def chgs (w g : Nat) (ik : Nat → Bool) (c : Nat) : Nat := fb_ct (fun k => !bes w g ik c (k : Int) && bes w g ik c (((k : Int) + 1) % 8)) 8
def thn (w g : Nat) (b : Bool) (ik : Nat → Bool) (c : Nat) : Bool :=
  ik c && decide (2 ≤ ((arnd w g ik c : Nat) : Int) ∧ ((arnd w g ik c : Nat) : Int) ≤ 6) && decide (((chgs w g ik c : Nat) : Int) = 1) &&
  (if b then !(bes w g ik c 0 && bes w g ik c 2 && bes w g ik c 4) && !(bes w g ik c 2 && bes w g ik c 4 && bes w g ik c 6)
    else !(bes w g ik c 0 && bes w g ik c 2 && bes w g ik c 6) && !(bes w g ik c 0 && bes w g ik c 4 && bes w g ik c 6))
/-- the picture when the first i cells have been looked at -/
def hlfI (p ik : Nat → Bool) (i : Nat) : Nat → Bool := fun j => ik j && !(decide (j < i) && p j)
def hlf (w g : Nat) (b : Bool) (ik : Nat → Bool) : Nat → Bool := hlfI (thn w g b ik) ik (w * g)
theorem hlfI_0 (p ik : Nat → Bool) : hlfI p ik 0 = ik := by funext j; simp [hlfI]
theorem hlfI_t {p ik : Nat → Bool} {i : Nat} (h : p i = true) : va_up (hlfI p ik i) i false = hlfI p ik (i + 1) := by
  funext j
  unfold va_up hlfI
  by_cases h1 : j = i
  · subst h1; simp [h]
  · rw [if_neg h1]
    have : decide (j < i + 1) = decide (j < i) := by
      apply decide_eq_decide.mpr; omega
    rw [this]
theorem hlfI_f {p ik : Nat → Bool} {i : Nat} (h : p i = false) : hlfI p ik i = hlfI p ik (i + 1) := by
  funext j
  unfold hlfI
  by_cases h1 : j = i
  · subst h1; simp [h]
  · have : decide (j < i + 1) = decide (j < i) := by
      apply decide_eq_decide.mpr; omega
    rw [this]
def thP (w g : Nat) (ik : Nat → Bool) : Nat → Bool := hlf w g false (hlf w g true ik)
def thN (w g : Nat) (ik : Nat → Bool) : Nat := fb_ct (thn w g true ik) (w * g) + fb_ct (thn w g false (hlf w g true ik)) (w * g)
def thK (w g : Nat) : Nat → (Nat → Bool) → Nat × (Nat → Bool)
  | 0, ik => (0, thP w g ik)
  | f + 1, ik => if thN w g ik = 0 then (0, thP w g ik) else ((thK w g f (thP w g ik)).1 + 1, (thK w g f (thP w g ik)).2)
def thR (w g : Nat) (ik : Nat → Bool) : Nat × (Nat → Bool) := thK w g (fb_ct ik (w * g)) ik
theorem hlf_ct (w g : Nat) (b : Bool) (ik : Nat → Bool) : fb_ct (hlf w g b ik) (w * g) + fb_ct (thn w g b ik) (w * g) = fb_ct ik (w * g) := by
  rw [← fb_ct_or]
  · apply fb_ct_cong
    intro k hk
    cases h1 : ik k <;> cases h2 : thn w g b ik k <;> simp [hlf, hlfI, h1, h2, hk]
    simp [thn, h1] at h2
  · intro k hk h
    simp [hlf, hlfI, hk] at h
    simp [h.2] at h
theorem thP_ct (w g : Nat) (ik : Nat → Bool) : fb_ct (thP w g ik) (w * g) + thN w g ik = fb_ct ik (w * g) := by
  have h1 := hlf_ct w g true ik
  have h2 := hlf_ct w g false (hlf w g true ik)
  unfold thP thN
  omega
theorem thK_fuel (w g : Nat) : ∀ (f f2 : Nat) (ik : Nat → Bool), fb_ct ik (w * g) ≤ f → fb_ct ik (w * g) ≤ f2 → thK w g f ik = thK w g f2 ik := by
  have h0 : ∀ ik : Nat → Bool, fb_ct ik (w * g) = 0 → thN w g ik = 0 := by
    intro ik h
    have := thP_ct w g ik
    omega
  intro f
  induction f with
  | zero =>
    intro f2 ik h1 h2
    cases f2 with
    | zero => rfl
    | succ f2 => simp only [thK]; rw [if_pos (h0 ik (by omega))]
  | succ f ih =>
    intro f2 ik h1 h2
    cases f2 with
    | zero => simp only [thK]; rw [if_pos (h0 ik (by omega))]
    | succ f2 =>
      simp only [thK]
      by_cases hn : thN w g ik = 0
      · rw [if_pos hn, if_pos hn]
      · rw [if_neg hn, if_neg hn]
        have := thP_ct w g ik
        rw [ih f2 (thP w g ik) (by omega) (by omega)]
theorem thR_stop {w g : Nat} {ik : Nat → Bool} (h : thN w g ik = 0) : thR w g ik = (0, thP w g ik) := by
  unfold thR
  cases fb_ct ik (w * g) with
  | zero => rfl
  | succ n => simp only [thK]; rw [if_pos h]
theorem thR_go {w g : Nat} {ik : Nat → Bool} (h : thN w g ik ≠ 0) : thR w g ik = ((thR w g (thP w g ik)).1 + 1, (thR w g (thP w g ik)).2) := by
  have := thP_ct w g ik
  unfold thR
  cases hf : fb_ct ik (w * g) with
  | zero => omega
  | succ n =>
    simp only [thK]
    rw [if_neg h, thK_fuel w g n (fb_ct (thP w g ik) (w * g)) (thP w g ik) (by omega) (by omega)]
theorem thK_le (w g : Nat) : ∀ (f : Nat) (ik : Nat → Bool), (thK w g f ik).1 ≤ f := by
  intro f
  induction f with
  | zero => intro ik; exact Nat.le_refl _
  | succ f ih =>
    intro ik
    simp only [thK]
    split
    · exact Nat.zero_le _
    · exact Nat.succ_le_succ (ih _)
theorem thR_le (w g : Nat) (ik : Nat → Bool) : (thR w g ik).1 ≤ fb_ct ik (w * g) := thK_le w g _ ik
theorem hlf_out {w g : Nat} {b : Bool} {ik : Nat → Bool} {j : Nat} (h : w * g ≤ j) : hlf w g b ik j = ik j := by
  have : decide (j < w * g) = false := by simp; omega
  simp [hlf, hlfI, this]
theorem thK_out (w g : Nat) {j : Nat} (h : w * g ≤ j) : ∀ (f : Nat) (ik : Nat → Bool), (thK w g f ik).2 j = ik j := by
  intro f
  induction f with
  | zero => intro ik; simp only [thK, thP]; rw [hlf_out h, hlf_out h]
  | succ f ih =>
    intro ik
    simp only [thK]
    split
    · simp only [thP]; rw [hlf_out h, hlf_out h]
    · simp only []; rw [ih, thP, hlf_out h, hlf_out h]
theorem thR_back (w g : Nat) (ik kp : Nat → Bool) : flw (flw ik kp (w * g)) (thR w g ik).2 (w * g) = ik := by
  funext j
  unfold flw
  by_cases h : j < w * g
  · rw [if_pos h, if_pos h]
  · rw [if_neg h]; exact thK_out w g (by omega) _ _
/-! runs -/
def isF (w g : Nat) (ik : Nat → Bool) (x y : Int) : Bool := isK w g ik x y && !isK w g ik (x - 1) y
def rnO (w g : Nat) (ik : Nat → Bool) (y : Int) : Nat := fb_ct (fun x => isF w g ik (x : Int) y) w
def rnA (w g : Nat) (ik : Nat → Bool) : Nat → Nat
  | 0 => 0
  | n + 1 => rnA w g ik n + rnO w g ik (n : Int)
theorem rnO_le (w g : Nat) (ik : Nat → Bool) (y : Int) : rnO w g ik y ≤ w := fb_ct_le _ _
theorem rnA_le (w g : Nat) (ik : Nat → Bool) : ∀ n, rnA w g ik n ≤ n * w
  | 0 => Nat.zero_le _
  | n + 1 => by
    have h1 := rnA_le w g ik n
    have h2 := rnO_le w g ik (n : Int)
    simp only [rnA]
    rw [Nat.add_mul, Nat.one_mul]
    omega
/-- joining with a stored picture -/
def jnB (way : Int) (a b : Bool) : Bool := if way = 0 then a || b else if way = 1 then a && b else if way = 2 then a != b else a && !b
/-- pairs of a cell of ink and a close neighbor that is ground -/
def egC (w g : Nat) (ik : Nat → Bool) (c : Nat) : Nat → Nat
  | 0 => 0
  | n + 1 => egC w g ik c n + (if ik c && !bes w g ik c (2 * (n : Int)) then 1 else 0)
def egA (w g : Nat) (ik : Nat → Bool) : Nat → Nat
  | 0 => 0
  | n + 1 => egA w g ik n + egC w g ik n 4
theorem egC_le (w g : Nat) (ik : Nat → Bool) (c : Nat) : ∀ n, egC w g ik c n ≤ n
  | 0 => Nat.le_refl _
  | n + 1 => by
    have h1 := egC_le w g ik c n
    simp only [egC]
    split <;> omega
theorem egA_le (w g : Nat) (ik : Nat → Bool) : ∀ n, egA w g ik n ≤ 4 * n
  | 0 => Nat.le_refl _
  | n + 1 => by
    have h1 := egA_le w g ik n
    have h2 := egC_le w g ik n 4
    simp only [egA]
    omega
theorem egC_0 {w g : Nat} {ik : Nat → Bool} {c : Nat} (h : ik c = false) : ∀ n, egC w g ik c n = 0
  | 0 => rfl
  | n + 1 => by simp [egC, h, egC_0 h n]
