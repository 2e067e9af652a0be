/-! WHAT HANGS TOGETHER: cells of one kind, from neighbor to neighbor; the least of them -/
set_option maxRecDepth 100000
def nbC (w : Nat) (a : Nat) (k : Int) : Nat := cel w (nbX w a k) (nbY w a k)
def nbB (w g : Nat) (a : Nat) (k : Int) : Bool := isBd w g (nbX w a k) (nbY w a k)
def adj (w g : Nat) (kd : Nat → Bool) (ch : Bool) (a b : Nat) : Prop := ∃ k : Int, okk ch k ∧ nbB w g a k = true ∧ nbC w a k = b ∧ kd b = true
def conN (w g : Nat) (kd : Nat → Bool) (ch : Bool) : Nat → Nat → Nat → Prop
  | 0, a, b => a = b
  | n + 1, a, b => ∃ c, conN w g kd ch n a c ∧ adj w g kd ch c b
def Con (w g : Nat) (kd : Nat → Bool) (ch : Bool) (a b : Nat) : Prop := ∃ n, conN w g kd ch n a b
theorem nbC_lt {w g a : Nat} {k : Int} (h : nbB w g a k = true) : nbC w a k < w * g := (cel_int ((isBd_t _ _ _ _).mp h)).2
theorem con_rf (w g : Nat) (kd : Nat → Bool) (ch : Bool) (a : Nat) : Con w g kd ch a a := ⟨0, rfl⟩
theorem con_st {w g : Nat} {kd : Nat → Bool} {ch : Bool} {a b c : Nat} (h : Con w g kd ch a b) (h2 : adj w g kd ch b c) : Con w g kd ch a c := by
  obtain ⟨n, hn⟩ := h
  exact ⟨n + 1, b, hn, h2⟩
theorem con_tr {w g : Nat} {kd : Nat → Bool} {ch : Bool} {a b : Nat} (h : Con w g kd ch a b) : ∀ (n c : Nat), conN w g kd ch n b c → Con w g kd ch a c := by
  intro n
  induction n with
  | zero => intro c hc; cases hc; exact h
  | succ n ih =>
    intro c hc
    obtain ⟨d, h1, h2⟩ := hc
    exact con_st (ih d h1) h2
theorem con_trans {w g : Nat} {kd : Nat → Bool} {ch : Bool} {a b c : Nat} (h : Con w g kd ch a b) (h2 : Con w g kd ch b c) : Con w g kd ch a c := by
  obtain ⟨n, hn⟩ := h2
  exact con_tr h n c hn
theorem adj_lt {w g : Nat} {kd : Nat → Bool} {ch : Bool} {a b : Nat} (h : adj w g kd ch a b) : b < w * g ∧ kd b = true := by
  obtain ⟨k, -, h2, h3, h4⟩ := h
  exact ⟨by rw [← h3]; exact nbC_lt h2, h4⟩
theorem con_lt {w g : Nat} {kd : Nat → Bool} {ch : Bool} {a b : Nat} (h : Con w g kd ch a b) (ha : a < w * g) (hk : kd a = true) : b < w * g ∧ kd b = true := by
  obtain ⟨n, hn⟩ := h
  cases n with
  | zero => cases hn; exact ⟨ha, hk⟩
  | succ n => obtain ⟨c, -, h2⟩ := hn; exact adj_lt h2
theorem sXY_opp {k : Int} (h : 0 ≤ k ∧ k < 8) : sX ((k + 4) % 8) = -sX k ∧ sY ((k + 4) % 8) = -sY k := by
  have : k = 0 ∨ k = 1 ∨ k = 2 ∨ k = 3 ∨ k = 4 ∨ k = 5 ∨ k = 6 ∨ k = 7 := by omega
  rcases this with e | e | e | e | e | e | e | e <;> subst e <;> decide
theorem adj_sym {w g : Nat} {kd : Nat → Bool} {ch : Bool} {a b : Nat} (hw : 1 ≤ w) (ha : a < w * g) (hk : kd a = true) (h : adj w g kd ch a b) : adj w g kd ch b a := by
  obtain ⟨k, hok, h2, h3, h4⟩ := h
  have hd := dm_cel ((isBd_t _ _ _ _).mp h2)
  have ho := sXY_opp ⟨hok.1, hok.2.1⟩
  have ex : nbX w b ((k + 4) % 8) = (a : Int) % (w : Int) := by
    unfold nbX
    rw [← h3]
    show ((cel w (nbX w a k) (nbY w a k) : Nat) : Int) % (w : Int) + _ = _
    rw [hd.1, ho.1]
    unfold nbX
    omega
  have ey : nbY w b ((k + 4) % 8) = (a : Int) / (w : Int) := by
    unfold nbY
    rw [← h3]
    show ((cel w (nbX w a k) (nbY w a k) : Nat) : Int) / (w : Int) + _ = _
    rw [hd.2, ho.2]
    unfold nbY
    omega
  refine ⟨(k + 4) % 8, ⟨by omega, by omega, ?_⟩, ?_, ?_, hk⟩
  · rcases hok.2.2 with q | q
    · exact Or.inl q
    · exact Or.inr (by omega)
  · unfold nbB
    rw [ex, ey, isBd_t]
    exact dm_bd hw ha
  · unfold nbC
    rw [ex, ey]
    exact cel_dm hw
theorem con_sym {w g : Nat} {kd : Nat → Bool} {ch : Bool} {a : Nat} (hw : 1 ≤ w) (ha : a < w * g) (hk : kd a = true) : ∀ (n b : Nat), conN w g kd ch n a b → Con w g kd ch b a := by
  intro n
  induction n with
  | zero => intro b h; cases h; exact con_rf _ _ _ _ _
  | succ n ih =>
    intro b h
    obtain ⟨c, h1, h2⟩ := h
    have hc := con_lt ⟨n, h1⟩ ha hk
    have h3 := adj_sym hw hc.1 hc.2 h2
    have hb := adj_lt h2
    exact con_trans ⟨1, b, rfl, h3⟩ (ih c h1)
theorem con_symm {w g : Nat} {kd : Nat → Bool} {ch : Bool} {a b : Nat} (hw : 1 ≤ w) (ha : a < w * g) (hk : kd a = true) (h : Con w g kd ch a b) : Con w g kd ch b a := by
  obtain ⟨n, hn⟩ := h
  exact con_sym hw ha hk n b hn
/-- the least cell of the part -/
def isRep (w g : Nat) (kd : Nat → Bool) (ch : Bool) (c r : Nat) : Prop := r < w * g ∧ kd r = true ∧ Con w g kd ch r c ∧ ∀ j, j < w * g → kd j = true → Con w g kd ch j c → r ≤ j
noncomputable def rep (w g : Nat) (kd : Nat → Bool) (ch : Bool) (c : Nat) : Nat := Classical.epsilon (isRep w g kd ch c)
noncomputable def labF (w g : Nat) (kd : Nat → Bool) (ch : Bool) (c : Nat) : Int := if kd c then ((rep w g kd ch c : Nat) : Int) else -1
theorem rep_ok {w g : Nat} {kd : Nat → Bool} {ch : Bool} {c : Nat} (hc : c < w * g) (hk : kd c = true) : isRep w g kd ch c (rep w g kd ch c) := by
  apply Classical.epsilon_spec (p := isRep w g kd ch c)
  obtain ⟨r, h1, h2⟩ := pk_least (fun r => r < w * g ∧ kd r = true ∧ Con w g kd ch r c) ⟨c, hc, hk, con_rf _ _ _ _ _⟩
  refine ⟨r, h1.1, h1.2.1, h1.2.2, fun j hj hkj hcj => ?_⟩
  exact Nat.not_lt.mp (fun q => h2 j q ⟨hj, hkj, hcj⟩)
theorem rep_one {w g : Nat} {kd : Nat → Bool} {ch : Bool} {c r : Nat} (hc : c < w * g) (hk : kd c = true) (h : isRep w g kd ch c r) : r = rep w g kd ch c := by
  have h2 := rep_ok (ch := ch) hc hk
  exact Nat.le_antisymm (h.2.2.2 _ h2.1 h2.2.1 h2.2.2.1) (h2.2.2.2 _ h.1 h.2.1 h.2.2.1)
/-- the same part: the same least cell -/
theorem rep_con {w g : Nat} {kd : Nat → Bool} {ch : Bool} {a b : Nat} (hw : 1 ≤ w) (ha : a < w * g) (hka : kd a = true) (hb : b < w * g) (hkb : kd b = true) : Con w g kd ch a b ↔ rep w g kd ch a = rep w g kd ch b := by
  have h1 := rep_ok (ch := ch) ha hka
  have h2 := rep_ok (ch := ch) hb hkb
  constructor
  · intro h
    apply rep_one hb hkb
    refine ⟨h1.1, h1.2.1, con_trans h1.2.2.1 h, fun j hj hkj hcj => ?_⟩
    exact h1.2.2.2 j hj hkj (con_trans hcj (con_symm hw ha hka h))
  · intro h
    rw [h] at h1
    exact con_trans (con_symm hw h1.1 h1.2.1 h1.2.2.1) h2.2.2.1
theorem rep_le {w g : Nat} {kd : Nat → Bool} {ch : Bool} {c : Nat} (hc : c < w * g) (hk : kd c = true) : rep w g kd ch c ≤ c := (rep_ok hc hk).2.2.2 c hc hk (con_rf _ _ _ _ _)
theorem labF_rng {w g : Nat} {kd : Nat → Bool} {ch : Bool} {c : Nat} (hc : c < w * g) : -1 ≤ labF w g kd ch c ∧ labF w g kd ch c ≤ c := by
  unfold labF
  cases hk : kd c
  · simp only [Bool.false_eq_true, if_false]
    omega
  · have := rep_le (ch := ch) hc hk
    simp only [if_true]
    omega
/-! numbers that spread -/
def Spi (w g : Nat) (kd : Nat → Bool) (ch : Bool) (pt : Nat → Int) : Prop :=
  ∀ c, c < w * g → (kd c = false → pt c = -1) ∧ (kd c = true → ∃ r : Nat, pt c = (r : Int) ∧ r ≤ c ∧ kd r = true ∧ Con w g kd ch r c)
def Spf (w g : Nat) (kd : Nat → Bool) (ch : Bool) (i : Nat) (j : Int) (pt : Nat → Int) : Prop :=
  ∀ c, c < w * g → kd c = true → ∀ k, okk ch k → (c < i ∨ (c = i ∧ k < j)) → nbB w g c k = true → kd (nbC w c k) = true → pt c ≤ pt (nbC w c k)
def Sps (w g : Nat) (pt : Nat → Int) : Nat := fb_sm (fun c => (pt c + 1).toNat) (w * g)
theorem Spi_0 {w g : Nat} {kd : Nat → Bool} {ch : Bool} {pt : Nat → Int} (h : ∀ c, c < w * g → pt c = if kd c then (c : Int) else -1) : Spi w g kd ch pt := by
  intro c hc
  refine ⟨fun hk => by rw [h c hc, hk]; rfl, fun hk => ⟨c, by rw [h c hc, hk]; rfl, Nat.le_refl _, hk, con_rf _ _ _ _ _⟩⟩
theorem Spi_rng {w g : Nat} {kd : Nat → Bool} {ch : Bool} {pt : Nat → Int} (h : Spi w g kd ch pt) (c : Nat) (hc : c < w * g) : -1 ≤ pt c ∧ pt c ≤ c ∧ (kd c = true ↔ pt c ≠ -1) := by
  cases hk : kd c
  · have := (h c hc).1 hk
    refine ⟨by omega, by omega, ?_⟩
    simp [this]
  · obtain ⟨r, h1, h2, -⟩ := (h c hc).2 hk
    refine ⟨by omega, by omega, ?_⟩
    simp
    omega
theorem Spf_0 (w g : Nat) (kd : Nat → Bool) (ch : Bool) (pt : Nat → Int) : Spf w g kd ch 0 0 pt := by
  intro c hc hk k hok q
  have := hok.1
  omega
theorem Spf_i {w g : Nat} {kd : Nat → Bool} {ch : Bool} {i : Nat} {pt : Nat → Int} (h : Spf w g kd ch i 8 pt) : Spf w g kd ch (i + 1) 0 pt := by
  intro c hc hk k hok q
  refine h c hc hk k hok ?_
  have h1 := hok.1
  have h2 := hok.2.1
  rcases q with q | q
  · rcases Nat.lt_or_ge c i with q2 | q2
    · exact Or.inl q2
    · exact Or.inr ⟨by omega, h2⟩
  · omega
theorem Spf_skip {w g : Nat} {kd : Nat → Bool} {ch : Bool} {i : Nat} {j : Int} {pt : Nat → Int} (h : Spf w g kd ch i j pt) (hs : kd i = false) : Spf w g kd ch (i + 1) 0 pt := by
  intro c hc hk k hok q
  have h1 := hok.1
  refine h c hc hk k hok ?_
  rcases q with q | q
  · rcases Nat.lt_or_ge c i with q2 | q2
    · exact Or.inl q2
    · have : c = i := by omega
      subst this; rw [hs] at hk; cases hk
  · omega
theorem Spf_on {w g : Nat} {kd : Nat → Bool} {ch : Bool} {i : Nat} {j : Int} {pt : Nat → Int} (h : Spf w g kd ch i j pt) (hn : nbB w g i j = true → kd (nbC w i j) = true → pt i ≤ pt (nbC w i j)) : Spf w g kd ch i (j + 1) pt := by
  intro c hc hk k hok q hb hk2
  rcases q with q | ⟨q1, q2⟩
  · exact h c hc hk k hok (Or.inl q) hb hk2
  · rcases Int.lt_or_le k j with q3 | q3
    · exact h c hc hk k hok (Or.inr ⟨q1, q3⟩) hb hk2
    · have : k = j := by omega
      subst this; subst q1; exact hn hb hk2
theorem Spf_2 {w g : Nat} {kd : Nat → Bool} {i : Nat} {j : Int} {pt : Nat → Int} (hj : j % 2 = 0) (h : Spf w g kd false i (j + 1) pt) : Spf w g kd false i (j + 2) pt := by
  intro c hc hk k hok q
  refine h c hc hk k hok ?_
  rcases hok.2.2 with q3 | q3
  · cases q3
  · omega
theorem Spi_set {w g : Nat} {kd : Nat → Bool} {ch : Bool} {i : Nat} {k : Int} {pt : Nat → Int} (hw : 1 ≤ w) (h : Spi w g kd ch pt) (hi : i < w * g) (hok : okk ch k) (hb : nbB w g i k = true) (h1 : pt (nbC w i k) ≠ -1) (h2 : pt (nbC w i k) < pt i) :
    Spi w g kd ch (va_up pt i (pt (nbC w i k))) ∧ Sps w g (va_up pt i (pt (nbC w i k))) < Sps w g pt := by
  have hc2 := nbC_lt hb
  have hk2 := (Spi_rng h _ hc2).2.2.mpr h1
  have hki : kd i = true := (Spi_rng h _ hi).2.2.mpr (by have := (Spi_rng h _ hc2).1; omega)
  obtain ⟨r2, e1, e2, e3, e4⟩ := (h _ hc2).2 hk2
  obtain ⟨r1, f1, f2, f3, f4⟩ := (h _ hi).2 hki
  have ha : adj w g kd ch i (nbC w i k) := ⟨k, hok, hb, rfl, hk2⟩
  have ha2 := adj_sym hw hi hki ha
  constructor
  · intro c hc
    unfold va_up
    by_cases e : c = i
    · subst e
      rw [if_pos rfl]
      refine ⟨fun q => (by rw [hki] at q; cases q), fun _ => ⟨r2, e1, by omega, e3, con_st e4 ha2⟩⟩
    · rw [if_neg e]
      exact h c hc
  · have hu := fb_sm_upd (fun c => (pt c + 1).toNat) ((pt (nbC w i k) + 1).toNat) hi
    have e : (fun j => if j = i then (pt (nbC w i k) + 1).toNat else (fun c => (pt c + 1).toNat) j) = (fun c => (va_up pt i (pt (nbC w i k)) c + 1).toNat) := by
      funext j
      unfold va_up
      by_cases q : j = i
      · rw [if_pos q, if_pos q]
      · rw [if_neg q, if_neg q]
    rw [e] at hu
    unfold Sps
    have hp := (Spi_rng h _ hc2).1
    omega
/-- at rest: each cell has the least number of its part -/
theorem Spi_F {w g : Nat} {kd : Nat → Bool} {ch : Bool} {pt : Nat → Int} (hw : 1 ≤ w) (h : Spi w g kd ch pt) (hf : Spf w g kd ch (w * g) 0 pt) (c : Nat) (hc : c < w * g) : pt c = labF w g kd ch c := by
  have ed : ∀ a b, a < w * g → kd a = true → adj w g kd ch a b → pt a ≤ pt b := by
    intro a b ha hka hab
    obtain ⟨k, hok, h2, h3, h4⟩ := hab
    subst h3
    exact hf a ha hka k hok (Or.inl ha) h2 h4
  have cn : ∀ (n a b : Nat), a < w * g → kd a = true → conN w g kd ch n a b → pt a = pt b := by
    intro n
    induction n with
    | zero => intro a b ha hka hn; cases hn; rfl
    | succ n ih =>
      intro a b ha hka hn
      obtain ⟨d, h1, h2⟩ := hn
      have hd := con_lt ⟨n, h1⟩ ha hka
      have hb := adj_lt h2
      have e1 := ed d b hd.1 hd.2 h2
      have e2 := ed b d hb.1 hb.2 (adj_sym hw hd.1 hd.2 h2)
      rw [ih a d ha hka h1]
      omega
  unfold labF
  cases hk : kd c
  · rw [(h c hc).1 hk]; rfl
  · obtain ⟨r, e1, e2, e3, e4⟩ := (h c hc).2 hk
    have hr : r < w * g := by omega
    rw [e1]
    show (r : Int) = ((rep w g kd ch c : Nat) : Int)
    congr 1
    apply rep_one hc hk
    refine ⟨hr, e3, e4, fun j hj hkj hcj => ?_⟩
    obtain ⟨n, hn⟩ := hcj
    have e5 := cn n j c hj hkj hn
    obtain ⟨r2, f1, f2, -⟩ := (h j hj).2 hkj
    omega
/-- at the side of the board -/
def brd (w g : Nat) (c : Nat) : Bool := decide ((c : Int) % (w : Int) = 0 ∨ (c : Int) % (w : Int) = (w : Int) - 1 ∨ (c : Int) / (w : Int) = 0 ∨ (c : Int) / (w : Int) = (g : Int) - 1)
def opn (w g : Nat) (pt : Nat → Int) (v : Int) : Bool := fb_ct (fun c => decide (pt c = v) && brd w g c) (w * g) != 0
noncomputable def lbI (w g : Nat) (ik : Nat → Bool) (b : Bool) : Nat → Int := labF w g (fun c => ik c == b) b
noncomputable def prtN (w g : Nat) (ik : Nat → Bool) : Nat := fb_ct (fun c => decide (lbI w g ik true c = (c : Int))) (w * g)
noncomputable def holN (w g : Nat) (ik : Nat → Bool) : Nat := fb_ct (fun c => decide (lbI w g ik false c = (c : Int)) && !opn w g (lbI w g ik false) (c : Int)) (w * g)
noncomputable def sizN (w g : Nat) (ik : Nat → Bool) (b : Bool) (v : Int) : Nat := fb_ct (fun c => decide (lbI w g ik b c = v)) (w * g)
noncomputable def filF (w g : Nat) (ik : Nat → Bool) (c0 : Nat) : Nat → Bool := flw (fun j => ik j || decide (lbI w g ik false j = lbI w g ik false c0)) ik (w * g)
theorem flw_cong {α : Type} {f f2 h : Nat → α} {n : Nat} (q : ∀ j, j < n → f j = f2 j) : flw f h n = flw f2 h n := by
  funext j
  unfold flw
  by_cases h1 : j < n
  · rw [if_pos h1, if_pos h1, q j h1]
  · rw [if_neg h1, if_neg h1]
theorem opn_cong {w g : Nat} {pt qt : Nat → Int} {v : Int} (h : ∀ c, c < w * g → pt c = qt c) : opn w g pt v = opn w g qt v := by
  unfold opn
  rw [fb_ct_cong (fun c hc => by rw [h c hc])]
theorem lbI_rng {w g : Nat} {ik : Nat → Bool} {b : Bool} {c : Nat} (hc : c < w * g) : -1 ≤ lbI w g ik b c ∧ lbI w g ik b c ≤ c := labF_rng hc
theorem lbI_kd {w g : Nat} {ik : Nat → Bool} {b : Bool} {c : Nat} : lbI w g ik b c = -1 ↔ ik c ≠ b := by
  unfold lbI labF
  by_cases hk : ik c = b
  · have e : (fun c => ik c == b) c = true := by show (ik c == b) = true; rw [hk]; exact beq_self_eq_true b
    rw [e, if_pos rfl]
    constructor
    · intro h
      have := Int.natCast_nonneg (rep w g (fun c => ik c == b) b c)
      omega
    · intro h; exact absurd hk h
  · have e : (fun c => ik c == b) c = false := beq_eq_false_iff_ne.mpr hk
    rw [e]
    exact ⟨fun _ => hk, fun _ => rfl⟩
theorem sizN_of {w g : Nat} {ik : Nat → Bool} {b : Bool} {pt : Nat → Int} {v : Int} (h : ∀ j, j < w * g → pt j = lbI w g ik b j) : fb_ct (fun j => decide (pt j = v)) (w * g) = sizN w g ik b v := fb_ct_cong (fun j hj => by rw [h j hj])
