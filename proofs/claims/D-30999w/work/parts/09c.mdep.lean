/-! DEPTHS: the least distance from ground, told by neighbors alone -/
set_option maxRecDepth 100000
def okk (ch : Bool) (k : Int) : Prop := 0 ≤ k ∧ k < 8 ∧ (ch = true ∨ k % 2 = 0)
def nbX (w : Nat) (c : Nat) (k : Int) : Int := (c : Int) % (w : Int) + sX k
def nbY (w : Nat) (c : Nat) (k : Int) : Int := (c : Int) / (w : Int) + sY k
def nbD (w g : Nat) (dp : Nat → Int) (c : Nat) (k : Int) : Int := if isBd w g (nbX w c k) (nbY w c k) then dp (cel w (nbX w c k) (nbY w c k)) else 0
def isDep (w g : Nat) (ik : Nat → Bool) (ch : Bool) (dp : Nat → Int) : Prop :=
  ∀ c, c < w * g → (ik c = false → dp c = 0) ∧ (ik c = true → 1 ≤ dp c ∧ (∃ k, okk ch k ∧ nbD w g dp c k = dp c - 1) ∧ ∀ k, okk ch k → dp c ≤ nbD w g dp c k + 1)
noncomputable def depF (w g : Nat) (ik : Nat → Bool) (ch : Bool) : Nat → Int := Classical.epsilon (isDep w g ik ch)
theorem nbD_cases (w g : Nat) (dp : Nat → Int) (c : Nat) (k : Int) : (nbD w g dp c k = 0 ∧ isBd w g (nbX w c k) (nbY w c k) = false) ∨ (∃ c2, c2 < w * g ∧ nbD w g dp c k = dp c2 ∧ c2 = cel w (nbX w c k) (nbY w c k) ∧ isBd w g (nbX w c k) (nbY w c k) = true) := by
  unfold nbD
  cases h : isBd w g (nbX w c k) (nbY w c k)
  · left; exact ⟨rfl, rfl⟩
  · right
    exact ⟨_, (cel_int ((isBd_t _ _ _ _).mp h)).2, rfl, rfl, rfl⟩
theorem nbD_same {w g : Nat} {dp dq : Nat → Int} {c : Nat} {k : Int} (h : ∀ c2, c2 < w * g → dp c2 = dq c2) : nbD w g dp c k = nbD w g dq c k := by
  unfold nbD
  cases hb : isBd w g (nbX w c k) (nbY w c k)
  · rfl
  · exact h _ (cel_int ((isBd_t _ _ _ _).mp hb)).2
theorem isDep_le {w g : Nat} {ik : Nat → Bool} {ch : Bool} {dp dq : Nat → Int} (hp : isDep w g ik ch dp) (hq : isDep w g ik ch dq) : ∀ (n : Nat) (c : Nat), c < w * g → dp c ≤ (n : Int) → dq c ≤ dp c := by
  intro n
  induction n with
  | zero =>
    intro c hc hn
    cases hk : ik c
    · rw [(hp c hc).1 hk, (hq c hc).1 hk]; exact Int.le_refl _
    · have := ((hp c hc).2 hk).1
      omega
  | succ n ih =>
    intro c hc hn
    cases hk : ik c
    · rw [(hp c hc).1 hk, (hq c hc).1 hk]; exact Int.le_refl _
    · obtain ⟨h1, ⟨k, hok, hk2⟩, h3⟩ := (hp c hc).2 hk
      obtain ⟨g1, -, g3⟩ := (hq c hc).2 hk
      have g4 := g3 k hok
      rcases nbD_cases w g dp c k with ⟨e1, hb⟩ | ⟨c2, hc2, e1, e2, hb⟩
      · have : nbD w g dq c k = 0 := by unfold nbD; rw [hb]; rfl
        omega
      · have e3 : nbD w g dq c k = dq c2 := by unfold nbD; rw [hb, e2]; rfl
        have := ih c2 hc2 (by omega)
        omega
theorem isDep_one {w g : Nat} {ik : Nat → Bool} {ch : Bool} {dp dq : Nat → Int} (hp : isDep w g ik ch dp) (hq : isDep w g ik ch dq) (c : Nat) (hc : c < w * g) : dp c = dq c := by
  have h1 := isDep_le hp hq (dp c).toNat c hc (by omega)
  have h2 := isDep_le hq hp (dq c).toNat c hc (by omega)
  omega
theorem isDep_F {w g : Nat} {ik : Nat → Bool} {ch : Bool} {dp : Nat → Int} (hp : isDep w g ik ch dp) (c : Nat) (hc : c < w * g) : dp c = depF w g ik ch c :=
  isDep_one hp (Classical.epsilon_spec (p := isDep w g ik ch) ⟨dp, hp⟩) c hc
/-- layer d has been done for the cells ahead of i, and for i's neighbors ahead of j -/
def Lay (w g : Nat) (ik : Nat → Bool) (ch : Bool) (d : Int) (i : Nat) (j : Int) (dp : Nat → Int) : Prop :=
  (∀ c, c < w * g → ik c = false → dp c = 0) ∧
  (∀ c, c < w * g → ik c = true → dp c = 32 ∨ (1 ≤ dp c ∧ dp c ≤ d ∧ ∃ k, okk ch k ∧ nbD w g dp c k = dp c - 1)) ∧
  (∀ c, c < w * g → ik c = true → ∀ k, okk ch k → nbD w g dp c k ≤ d - 2 → dp c ≤ nbD w g dp c k + 1) ∧
  (∀ c, c < w * g → ik c = true → ∀ k, okk ch k → (c < i ∨ (c = i ∧ k < j)) → nbD w g dp c k = d - 1 → dp c ≤ d)
theorem Lay_rng {w g : Nat} {ik : Nat → Bool} {ch : Bool} {d : Int} {i : Nat} {j : Int} {dp : Nat → Int} (h : Lay w g ik ch d i j dp) (hd : d ≤ 32) (c : Nat) (hc : c < w * g) : 0 ≤ dp c ∧ dp c ≤ 32 := by
  cases hk : ik c
  · rw [h.1 c hc hk]; omega
  · rcases h.2.1 c hc hk with q | q <;> omega
theorem Lay_0 {w g : Nat} {ik : Nat → Bool} {ch : Bool} {dp : Nat → Int} (h : ∀ c, c < w * g → dp c = if ik c then 32 else 0) : Lay w g ik ch 1 0 0 dp := by
  have hn : ∀ c k, 0 ≤ nbD w g dp c k := by
    intro c k
    rcases nbD_cases w g dp c k with ⟨e1, -⟩ | ⟨c2, hc2, e1, -, -⟩
    · omega
    · rw [e1, h c2 hc2]; split <;> omega
  refine ⟨fun c hc hk => by rw [h c hc, hk]; rfl, fun c hc hk => Or.inl (by rw [h c hc, hk]; rfl), fun c hc hk k hok q => ?_, fun c hc hk k hok q => ?_⟩
  · have := hn c k; omega
  · have := hok.1; omega
/-- the next layer -/
theorem Lay_d {w g : Nat} {ik : Nat → Bool} {ch : Bool} {d : Int} {dp : Nat → Int} (h : Lay w g ik ch d (w * g) 0 dp) : Lay w g ik ch (d + 1) 0 0 dp := by
  refine ⟨h.1, fun c hc hk => ?_, fun c hc hk k hok q => ?_, fun c hc hk k hok q => ?_⟩
  · rcases h.2.1 c hc hk with q | ⟨q1, q2, q3⟩
    · exact Or.inl q
    · exact Or.inr ⟨q1, by omega, q3⟩
  · by_cases q2 : nbD w g dp c k ≤ d - 2
    · exact h.2.2.1 c hc hk k hok q2
    · have := h.2.2.2 c hc hk k hok (Or.inl hc) (by omega)
      omega
  · have := hok.1; omega
/-- a cell that isn't looked at, or has been: on to the next -/
theorem Lay_i {w g : Nat} {ik : Nat → Bool} {ch : Bool} {d : Int} {i : Nat} {dp : Nat → Int} (h : Lay w g ik ch d i 8 dp) : Lay w g ik ch d (i + 1) 0 dp := by
  refine ⟨h.1, h.2.1, h.2.2.1, fun c hc hk k hok q => ?_⟩
  refine h.2.2.2 c hc hk k hok ?_
  have h1 := hok.1
  have h2 := hok.2.1
  rcases q with q | q
  · rcases Nat.lt_or_ge c i with q2 | q2
    · exact Or.inl q2
    · exact Or.inr ⟨by omega, h2⟩
  · omega
theorem Lay_skip {w g : Nat} {ik : Nat → Bool} {ch : Bool} {d : Int} {i : Nat} {dp : Nat → Int} (h : Lay w g ik ch d i 0 dp) (hs : dp i < d) : Lay w g ik ch d (i + 1) 0 dp := by
  refine ⟨h.1, h.2.1, h.2.2.1, fun c hc hk k hok q e => ?_⟩
  have h1 := hok.1
  rcases q with q | q
  · rcases Nat.lt_or_ge c i with q2 | q2
    · exact h.2.2.2 c hc hk k hok (Or.inl q2) e
    · have : c = i := by omega
      subst this; omega
  · omega
/-- a neighbor that isn't one less -/
theorem Lay_no {w g : Nat} {ik : Nat → Bool} {ch : Bool} {d : Int} {i : Nat} {j : Int} {dp : Nat → Int} (h : Lay w g ik ch d i j dp) (hn : nbD w g dp i j ≠ d - 1) : Lay w g ik ch d i (j + 1) dp := by
  refine ⟨h.1, h.2.1, h.2.2.1, fun c hc hk k hok q e => ?_⟩
  rcases q with q | ⟨q1, q2⟩
  · exact h.2.2.2 c hc hk k hok (Or.inl q) e
  · rcases Int.lt_or_le k j with q3 | q3
    · exact h.2.2.2 c hc hk k hok (Or.inr ⟨q1, q3⟩) e
    · have : k = j := by omega
      subst this; subst q1; exact absurd e hn
/-- a step of two: the odd one between isn't asked -/
theorem Lay_2 {w g : Nat} {ik : Nat → Bool} {d : Int} {i : Nat} {j : Int} {dp : Nat → Int} (hj : j % 2 = 0) (h : Lay w g ik false d i (j + 1) dp) : Lay w g ik false d i (j + 2) dp := by
  refine ⟨h.1, h.2.1, h.2.2.1, fun c hc hk k hok q e => ?_⟩
  refine h.2.2.2 c hc hk k hok ?_ e
  rcases hok.2.2 with q3 | q3
  · cases q3
  · omega
/-- a neighbor that is one less: the cell gets d -/
theorem Lay_yes {w g : Nat} {ik : Nat → Bool} {ch : Bool} {d : Int} {i : Nat} {j : Int} {dp : Nat → Int} (h : Lay w g ik ch d i j dp) (hi : i < w * g) (hj : okk ch j) (hd : 1 ≤ d) (hs : d ≤ dp i) (hn : nbD w g dp i j = d - 1) : Lay w g ik ch d i (j + 1) (va_up dp i d) := by
  have hki : ik i = true := by
    cases hk : ik i
    · have := h.1 i hi hk; omega
    · rfl
  have up : ∀ c k, nbD w g dp c k ≤ d - 1 → nbD w g (va_up dp i d) c k = nbD w g dp c k := by
    intro c k hq
    rcases nbD_cases w g dp c k with ⟨e1, hb⟩ | ⟨c2, hc2, e1, e2, hb⟩
    · unfold nbD; rw [hb]; rfl
    · unfold nbD at hq ⊢
      rw [hb] at hq ⊢
      simp only [if_true] at hq ⊢
      unfold va_up
      rw [if_neg]
      intro e
      rw [e] at hq
      omega
  have dn : ∀ c k, nbD w g (va_up dp i d) c k ≤ d - 1 → nbD w g (va_up dp i d) c k = nbD w g dp c k := by
    intro c k hq
    rcases nbD_cases w g dp c k with ⟨e1, hb⟩ | ⟨c2, hc2, e1, e2, hb⟩
    · unfold nbD; rw [hb]; rfl
    · unfold nbD at hq ⊢
      rw [hb] at hq ⊢
      simp only [if_true] at hq ⊢
      unfold va_up at hq ⊢
      by_cases e : cel w (nbX w c k) (nbY w c k) = i
      · rw [if_pos e] at hq; omega
      · rw [if_neg e]
  have self : va_up dp i d i = d := by unfold va_up; rw [if_pos rfl]
  have oth : ∀ c, c ≠ i → va_up dp i d c = dp c := fun c hc => by unfold va_up; rw [if_neg hc]
  refine ⟨fun c hc hk => ?_, fun c hc hk => ?_, fun c hc hk k hok q => ?_, fun c hc hk k hok q e => ?_⟩
  · have : c ≠ i := by intro e; subst e; rw [hki] at hk; cases hk
    rw [oth c this]; exact h.1 c hc hk
  · by_cases e : c = i
    · subst e
      rw [self]
      exact Or.inr ⟨hd, Int.le_refl _, j, hj, by rw [up c j (by omega)]; exact hn⟩
    · rw [oth c e]
      rcases h.2.1 c hc hk with q | ⟨q1, q2, k, hok, q3⟩
      · exact Or.inl q
      · exact Or.inr ⟨q1, q2, k, hok, by rw [up c k (by omega)]; exact q3⟩
  · have e1 := dn c k (by omega)
    rw [e1] at q ⊢
    have h3 := h.2.2.1 c hc hk k hok q
    by_cases e : c = i
    · subst e
      rw [self]; omega
    · rw [oth c e]; exact h3
  · have e1 := dn c k (by omega)
    rw [e1] at e
    by_cases e3 : c = i
    · subst e3; rw [self]; exact Int.le_refl _
    · rw [oth c e3]
      refine h.2.2.2 c hc hk k hok ?_ e
      rcases q with q | q
      · exact Or.inl q
      · exact absurd q.1 e3
theorem dm_cel {w g : Nat} {x y : Int} (h : 0 ≤ x ∧ x < w ∧ 0 ≤ y ∧ y < g) : ((cel w x y : Nat) : Int) % (w : Int) = x ∧ ((cel w x y : Nat) : Int) / (w : Int) = y := by
  have h1 := (cel_int h).1
  rw [← h1]
  constructor
  · rw [Int.add_comm, Int.add_mul_emod_self_right]
    exact Int.emod_eq_of_lt h.1 h.2.1
  · rw [Int.add_comm, Int.add_mul_ediv_right _ _ (by omega), Int.ediv_eq_zero_of_lt h.1 h.2.1, Int.zero_add]
theorem dm_bd {w g c : Nat} (hw : 1 ≤ w) (hc : c < w * g) : 0 ≤ (c : Int) % (w : Int) ∧ (c : Int) % (w : Int) < w ∧ 0 ≤ (c : Int) / (w : Int) ∧ (c : Int) / (w : Int) < g := by
  have h := md_rng c w hw
  refine ⟨h.1, h.2.1, h.2.2.1, ?_⟩
  have h2 : c / w < g := Nat.div_lt_of_lt_mul hc
  have h3 : (c : Int) / (w : Int) = ((c / w : Nat) : Int) := rfl
  rw [h3]
  omega
theorem cel_dm {w c : Nat} (hw : 1 ≤ w) : cel w ((c : Int) % (w : Int)) ((c : Int) / (w : Int)) = c := by
  unfold cel
  have := Int.emod_add_mul_ediv (c : Int) (w : Int)
  rw [Int.mul_comm] at this
  omega
/-- the end: no cell is left at 32 -/
theorem Lay_end {w g : Nat} {ik : Nat → Bool} {ch : Bool} {dp : Nat → Int} (hw : 1 ≤ w ∧ w ≤ 32) (h : Lay w g ik ch 32 0 0 dp) : isDep w g ik ch dp := by
  have left : ∀ (n : Nat) (c : Nat), c < w * g → (c : Int) % (w : Int) = (n : Int) → n ≤ 30 → dp c ≤ (n : Int) + 1 := by
    intro n
    induction n with
    | zero =>
      intro c hc e hn
      cases hk : ik c
      · rw [h.1 c hc hk]; omega
      · have hb : isBd w g (nbX w c 6) (nbY w c 6) = false := by
          rw [isBd_f]; unfold nbX sX; rw [e]; simp
        have e0 : nbD w g dp c 6 = 0 := by unfold nbD; rw [hb]; rfl
        have := h.2.2.1 c hc hk 6 ⟨by omega, by omega, Or.inr rfl⟩ (by omega)
        omega
    | succ n ih =>
      intro c hc e hn
      cases hk : ik c
      · rw [h.1 c hc hk]; omega
      · rcases nbD_cases w g dp c 6 with ⟨e1, hb⟩ | ⟨c2, hc2, e1, e2, hb⟩
        · have := h.2.2.1 c hc hk 6 ⟨by omega, by omega, Or.inr rfl⟩ (by omega)
          omega
        · have hx := (dm_cel ((isBd_t _ _ _ _).mp hb)).1
          rw [← e2] at hx
          have hx2 : nbX w c 6 = (n : Int) := by unfold nbX; rw [e]; simp [sX]; omega
          rw [hx2] at hx
          have := ih c2 hc2 hx (by omega)
          have := h.2.2.1 c hc hk 6 ⟨by omega, by omega, Or.inr rfl⟩ (by omega)
          omega
  have no : ∀ c, c < w * g → dp c ≤ 31 := by
    intro c hc
    have hm := dm_bd hw.1 hc
    by_cases q : (c : Int) % (w : Int) ≤ 30
    · have := left ((c : Int) % (w : Int)).toNat c hc (by omega) (by omega)
      omega
    · cases hk : ik c
      · rw [h.1 c hc hk]; omega
      · have hb : isBd w g (nbX w c 2) (nbY w c 2) = false := by
          rw [isBd_f]; unfold nbX; simp [sX]; omega
        have e0 : nbD w g dp c 2 = 0 := by unfold nbD; rw [hb]; rfl
        have := h.2.2.1 c hc hk 2 ⟨by omega, by omega, Or.inr rfl⟩ (by omega)
        omega
  intro c hc
  refine ⟨h.1 c hc, fun hk => ?_⟩
  rcases h.2.1 c hc hk with q | ⟨q1, q2, q3⟩
  · have := no c hc; omega
  · refine ⟨q1, q3, fun k hok => ?_⟩
    have h3 := h.2.2.1 c hc hk k hok
    have := no c hc
    by_cases q : nbD w g dp c k ≤ 32 - 2
    · exact h3 q
    · omega
theorem isDep_rng {w g : Nat} {ik : Nat → Bool} {ch : Bool} {dp : Nat → Int} (hw : 1 ≤ w ∧ w ≤ 32) (h : isDep w g ik ch dp) (c : Nat) (hc : c < w * g) : 0 ≤ dp c ∧ dp c ≤ 32 := by
  have left : ∀ (n : Nat) (c : Nat), c < w * g → (c : Int) % (w : Int) = (n : Int) → dp c ≤ (n : Int) + 1 := by
    intro n
    induction n with
    | zero =>
      intro c hc e
      cases hk : ik c
      · rw [(h c hc).1 hk]; omega
      · have hb : isBd w g (nbX w c 6) (nbY w c 6) = false := by
          rw [isBd_f]; unfold nbX sX; rw [e]; simp
        have e0 : nbD w g dp c 6 = 0 := by unfold nbD; rw [hb]; rfl
        have := ((h c hc).2 hk).2.2 6 ⟨by omega, by omega, Or.inr rfl⟩
        omega
    | succ n ih =>
      intro c hc e
      cases hk : ik c
      · rw [(h c hc).1 hk]; omega
      · have := ((h c hc).2 hk).2.2 6 ⟨by omega, by omega, Or.inr rfl⟩
        rcases nbD_cases w g dp c 6 with ⟨e1, hb⟩ | ⟨c2, hc2, e1, e2, hb⟩
        · omega
        · have hx := (dm_cel ((isBd_t _ _ _ _).mp hb)).1
          rw [← e2] at hx
          have hx2 : nbX w c 6 = (n : Int) := by unfold nbX; rw [e]; simp [sX]; omega
          rw [hx2] at hx
          have := ih c2 hc2 hx
          omega
  have hm := dm_bd hw.1 hc
  have h1 := left ((c : Int) % (w : Int)).toNat c hc (by omega)
  refine ⟨?_, by omega⟩
  cases hk : ik c
  · rw [(h c hc).1 hk]; exact Int.le_refl _
  · have := ((h c hc).2 hk).1; omega
/-- the greatest of the first n -/
def mxF (f : Nat → Int) : Nat → Int
  | 0 => 0
  | n + 1 => max (mxF f n) (f n)
theorem mxF_rng {f : Nat → Int} : ∀ {n : Nat}, (∀ c, c < n → 0 ≤ f c ∧ f c ≤ 32) → 0 ≤ mxF f n ∧ mxF f n ≤ 32
  | 0, _ => by simp [mxF]
  | n + 1, h => by
    have h1 := mxF_rng (n := n) (fun c hc => h c (by omega))
    have h2 := h n (Nat.lt_succ_self n)
    simp only [mxF]
    omega
theorem mxF_cong {f h : Nat → Int} : ∀ {n : Nat}, (∀ c, c < n → f c = h c) → mxF f n = mxF h n
  | 0, _ => rfl
  | n + 1, q => by simp only [mxF]; rw [mxF_cong (fun c hc => q c (by omega)), q n (Nat.lt_succ_self n)]
theorem si_rng {f : Nat → Int} : ∀ {n : Nat}, (∀ c, c < n → 0 ≤ f c ∧ f c ≤ 32) → 0 ≤ fb_si f n ∧ fb_si f n ≤ 32 * n
  | 0, _ => by simp [fb_si]
  | n + 1, h => by
    have h1 := si_rng (n := n) (fun c hc => h c (by omega))
    have h2 := h n (Nat.lt_succ_self n)
    simp only [fb_si]
    omega
/-- all ground looked at -/
def dstC (ch : Bool) (dx dy : Int) : Int := if ch then max dx dy else dx + dy
def lkR (w g : Nat) (ik : Nat → Bool) (x0 y0 : Int) (ch : Bool) (y : Int) : Nat → Int → Int
  | 0, m => m
  | n + 1, m => if isK w g ik ((n : Int) - 1) y then lkR w g ik x0 y0 ch y n m else min (lkR w g ik x0 y0 ch y n m) (dstC ch (tabs (((n : Int) - 1) - x0)) (tabs (y - y0)))
def lkA (w g : Nat) (ik : Nat → Bool) (x0 y0 : Int) (ch : Bool) : Nat → Int → Int
  | 0, m => m
  | n + 1, m => lkR w g ik x0 y0 ch ((n : Int) - 1) (w + 2) (lkA w g ik x0 y0 ch n m)
def lkd (w g : Nat) (ik : Nat → Bool) (ch : Bool) (c : Nat) : Int := lkA w g ik ((c : Int) % (w : Int)) ((c : Int) / (w : Int)) ch (g + 2) 1024
theorem tabs_pos (z : Int) : 0 ≤ tabs z := by unfold tabs; split <;> omega
theorem dstC_pos (ch : Bool) {a b : Int} (ha : 0 ≤ a) (hb : 0 ≤ b) : 0 ≤ dstC ch a b := by unfold dstC; split <;> omega
theorem lkR_rng (w g : Nat) (ik : Nat → Bool) (x0 y0 : Int) (ch : Bool) (y : Int) : ∀ (n : Nat) (m : Int), 0 ≤ m → 0 ≤ lkR w g ik x0 y0 ch y n m ∧ lkR w g ik x0 y0 ch y n m ≤ m := by
  intro n
  induction n with
  | zero => intro m h; exact ⟨h, Int.le_refl _⟩
  | succ n ih =>
    intro m h
    have h1 := ih m h
    have h2 := dstC_pos ch (tabs_pos (((n : Int) - 1) - x0)) (tabs_pos (y - y0))
    simp only [lkR]
    split
    · exact h1
    · omega
theorem lkA_rng (w g : Nat) (ik : Nat → Bool) (x0 y0 : Int) (ch : Bool) : ∀ (n : Nat) (m : Int), 0 ≤ m → 0 ≤ lkA w g ik x0 y0 ch n m ∧ lkA w g ik x0 y0 ch n m ≤ m := by
  intro n
  induction n with
  | zero => intro m h; exact ⟨h, Int.le_refl _⟩
  | succ n ih =>
    intro m h
    have h1 := ih m h
    have h2 := lkR_rng w g ik x0 y0 ch ((n : Int) - 1) (w + 2) (lkA w g ik x0 y0 ch n m) h1.1
    simp only [lkA]
    omega
