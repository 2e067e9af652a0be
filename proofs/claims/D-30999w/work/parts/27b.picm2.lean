/-! cells at the side; depths by looking: the class's telling -/
set_option maxRecDepth 100000
theorem tabs_sub (a b : Int) : tabs (a - b) = tabs (b - a) := by unfold tabs; split <;> split <;> omega
/-- a set with a cell at the side, among the cells below i -/
def tchI (w g : Nat) (S : Nat → Bool) (i : Nat) : Bool := fb_ct (fun c => S c && brd w g c) i != 0
theorem tchI_skip {w g : Nat} {S : Nat → Bool} {i j : Nat} (hij : i ≤ j) (hz : ∀ q, i ≤ q → q < j → S q = false) : tchI w g S j = tchI w g S i := by
  unfold tchI
  obtain ⟨c, rfl⟩ := Nat.exists_eq_add_of_le hij
  rw [fb_ct_split, show fb_ct (fun k => S (i + k) && brd w g (i + k)) c = 0 from fb_ct_zero.mpr (fun k hk => by rw [hz (i + k) (by omega) (by omega)]; rfl)]; rfl
theorem tchI_s (w g : Nat) (S : Nat → Bool) (i : Nat) : tchI w g S (i + 1) = (tchI w g S i || (S i && brd w g i)) := by
  unfold tchI
  rw [fb_ct_succ]
  cases (S i && brd w g i) with
  | true => simp
  | false => simp
theorem tchI_mono {w g : Nat} {S : Nat → Bool} {i j : Nat} (hij : i ≤ j) (h : tchI w g S i = true) : tchI w g S j = true := by
  unfold tchI at *
  have := fb_ct_mono (fun c => S c && brd w g c) hij
  simp only [bne_iff_ne, ne_eq] at *
  omega
theorem sXe : sX 0 = 0 ∧ sX 2 = 1 ∧ sX 4 = 0 ∧ sX 6 = -1 ∧ sY 0 = -1 ∧ sY 2 = 0 ∧ sY 4 = 1 ∧ sY 6 = 0 := by decide
theorem brd_of {w g c q : Nat} (hw : 1 ≤ w ∧ w ≤ 32) (hg : 1 ≤ g ∧ g ≤ 32) (hc : c < w * g) (hq : q < 4) (h : nbB w g c (2 * (q : Int)) = false) : brd w g c = true := by
  have hm := md_rng c w hw.1
  have hd : (c : Int) / (w : Int) < g := by
    have : c / w < g := Nat.div_lt_of_lt_mul hc
    omega
  obtain ⟨a1, a2, a3, a4, b1, b2, b3, b4⟩ := sXe
  unfold nbB nbX nbY at h
  unfold brd
  rw [isBd_f] at h
  refine decide_eq_true ?_
  rcases (show q = 0 ∨ q = 1 ∨ q = 2 ∨ q = 3 by omega) with rfl | rfl | rfl | rfl
  · simp only [Int.natCast_zero, Int.mul_zero, a1, b1] at h; omega
  · rw [show (2 : Int) * ((1 : Nat) : Int) = 2 from rfl, a2, b2] at h; omega
  · rw [show (2 : Int) * ((2 : Nat) : Int) = 4 from rfl, a3, b3] at h; omega
  · rw [show (2 : Int) * ((3 : Nat) : Int) = 6 from rfl, a4, b4] at h; omega
theorem brd_not {w g c : Nat} (h : ∀ q : Nat, q < 4 → nbB w g c (2 * (q : Int)) = true) : brd w g c = false := by
  obtain ⟨a1, a2, a3, a4, b1, b2, b3, b4⟩ := sXe
  have h0 := h 0 (by omega)
  have h1 := h 1 (by omega)
  have h2 := h 2 (by omega)
  have h3 := h 3 (by omega)
  unfold nbB nbX nbY at h0 h1 h2 h3
  rw [isBd_t] at h0 h1 h2 h3
  simp only [Int.natCast_zero, Int.mul_zero, a1, b1] at h0
  rw [show (2 : Int) * ((1 : Nat) : Int) = 2 from rfl, a2, b2] at h1
  rw [show (2 : Int) * ((2 : Nat) : Int) = 4 from rfl, a3, b3] at h2
  rw [show (2 : Int) * ((3 : Nat) : Int) = 6 from rfl, a4, b4] at h3
  unfold brd
  refine decide_eq_false ?_
  omega
theorem hlf_none {w g : Nat} {b : Bool} {P : Nat → Bool} (h : ∀ j, w * g ≤ j → P j = false) : ∀ j, w * g ≤ j → hlf w g b P j = false := fun j hj => by unfold hlf hlfI; rw [h j hj]; rfl
theorem hlf_BB {w g : Nat} {b : Bool} {P : Nat → Bool} {n : Nat} (h : BB P n) : BB (hlf w g b P) n := BB_sub h (fun j q => by unfold hlf hlfI; rw [q]; rfl)
