/-! pictures: the class's own ways, told by the shared words -/
set_option maxRecDepth 100000
theorem nxt_pos {P : Nat → Bool} {i : Nat} {z : Int} (hz : z = nxt P i) (hi : i ≤ 1024) (h : 0 ≤ z) : ∃ j : Nat, z = (j : Int) ∧ P j = true ∧ i ≤ j ∧ j < 1024 ∧ ∀ q, i ≤ q → q < j → P q = false := by
  rcases nxt_all P hi with ⟨h1, -⟩ | ⟨j, h1, h2⟩
  · omega
  · exact ⟨j, hz.trans h1, h2⟩
theorem nxt_neg {P : Nat → Bool} {i : Nat} {z : Int} (hz : z = nxt P i) (hi : i ≤ 1024) (h : z < 0) : ∀ q, i ≤ q → q < 1024 → P q = false := by
  rcases nxt_all P hi with ⟨h1, h2⟩ | ⟨j, h1, -⟩
  · exact h2
  · omega
theorem gC_le (n r : Nat) : gC n r ≤ 1 := by unfold gC; split <;> omega
theorem gS_le {n r : Nat} (hr : r ≤ 16) : gS n r ≤ 30 := by unfold gS; split <;> omega
theorem orB_none (P : Nat → Bool) : orB (fun _ => false) P = P := by funext j; simp [orB]
theorem egA_skip {w g : Nat} {P : Nat → Bool} {i : Nat} : ∀ {j}, i ≤ j → (∀ q, i ≤ q → q < j → P q = false) → egA w g P j = egA w g P i
  | 0, h, _ => by rw [show i = 0 by omega]
  | j + 1, h, hz => by
    by_cases e : i = j + 1
    · rw [e]
    · rw [egA, egC_0 (hz j (by omega) (by omega)), Nat.add_zero]
      exact egA_skip (by omega) (fun q h1 h2 => hz q h1 (by omega))
def dmd (w g : Nat) (b : Bool) (ik : Nat → Bool) (c : Nat) : Bool :=
  decide (2 ≤ ((arnd w g ik c : Nat) : Int) ∧ ((arnd w g ik c : Nat) : Int) ≤ 6) && decide (((chgs w g ik c : Nat) : Int) = 1) &&
  (if b then !(bes w g ik c 0 && bes w g ik c 2 && bes w g ik c 4) && !(bes w g ik c 2 && bes w g ik c 4 && bes w g ik c 6)
    else !(bes w g ik c 0 && bes w g ik c 2 && bes w g ik c 6) && !(bes w g ik c 0 && bes w g ik c 4 && bes w g ik c 6))
theorem thn_dmd (w g : Nat) (b : Bool) (ik : Nat → Bool) (c : Nat) : thn w g b ik c = (ik c && dmd w g b ik c) := by
  unfold thn dmd
  simp only [Bool.and_assoc]
theorem dmd_1 {w g : Nat} {b : Bool} {ik : Nat → Bool} {c : Nat} {n : Int} (hn : n = ((arnd w g ik c : Nat) : Int)) (h : ¬ (2 ≤ n ∧ n ≤ 6)) : dmd w g b ik c = false := by
  unfold dmd
  rw [decide_eq_false (p := 2 ≤ ((arnd w g ik c : Nat) : Int) ∧ ((arnd w g ik c : Nat) : Int) ≤ 6) (by omega)]; rfl
theorem dmd_2 {w g : Nat} {b : Bool} {ik : Nat → Bool} {c : Nat} {n : Int} (hn : n = ((chgs w g ik c : Nat) : Int)) (h : n ≠ 1) : dmd w g b ik c = false := by
  unfold dmd
  rw [decide_eq_false (p := ((chgs w g ik c : Nat) : Int) = 1) (by omega), Bool.and_false]; rfl
def tri (w g : Nat) (ik : Nat → Bool) (c : Nat) (k : Int) : Bool := bes w g ik c ((k + 6) % 8) && bes w g ik c k && bes w g ik c ((k + 2) % 8)
theorem dmd_3 {w g : Nat} {ik : Nat → Bool} {c : Nat} {n t : Int} (hn : n = ((arnd w g ik c : Nat) : Int)) (h : 2 ≤ n ∧ n ≤ 6) (ht : t = ((chgs w g ik c : Nat) : Int)) (h1 : t = 1) (sec : Bool) :
    dmd w g (!sec) ik c = (!tri w g ik c (if sec then 6 else 4) && !tri w g ik c (if sec then 0 else 2)) := by
  unfold dmd
  rw [decide_eq_true (p := 2 ≤ ((arnd w g ik c : Nat) : Int) ∧ ((arnd w g ik c : Nat) : Int) ≤ 6) (by omega), decide_eq_true (p := ((chgs w g ik c : Nat) : Int) = 1) (by omega)]
  cases sec
  · show (_ && (!_ && !_)) = _
    unfold tri
    simp only [Bool.not_false, if_true, Bool.false_eq_true, if_false, Int.reduceAdd, Int.reduceMod]
    cases bes w g ik c 0 <;> cases bes w g ik c 2 <;> cases bes w g ik c 4 <;> cases bes w g ik c 6 <;> rfl
  · unfold tri
    simp only [Bool.not_true, if_true, Bool.false_eq_true, if_false, Int.reduceAdd, Int.reduceMod]
    cases bes w g ik c 0 <;> cases bes w g ik c 2 <;> cases bes w g ik c 4 <;> cases bes w g ik c 6 <;> rfl
/-- the doomed cells below i -/
def dmI (w g : Nat) (b : Bool) (P : Nat → Bool) (i : Nat) : Nat → Bool := fun j => decide (j < i) && thn w g b P j
theorem dmI_0 (w g : Nat) (b : Bool) (P : Nat → Bool) : dmI w g b P 0 = fun _ => false := by funext j; simp [dmI]
theorem dmI_s {w g : Nat} {b : Bool} {P : Nat → Bool} {i j : Nat} (hj : P j = true) (hij : i ≤ j) (hz : ∀ q, i ≤ q → q < j → P q = false) : setB (dmI w g b P i) j (dmd w g b P j) = dmI w g b P (j + 1) := by
  have ht : thn w g b P j = dmd w g b P j := by rw [thn_dmd, hj, Bool.true_and]
  have key : ∀ q, q ≠ j → dmI w g b P i q = dmI w g b P (j + 1) q := fun q hq => by
    unfold dmI
    by_cases h1 : q < i
    · rw [decide_eq_true h1, decide_eq_true (by omega)]
    · rw [decide_eq_false h1, Bool.false_and]
      by_cases h2 : q < j
      · rw [thn_dmd, hz q (by omega) h2]; simp
      · rw [decide_eq_false (by omega)]; rfl
  funext q
  unfold setB
  by_cases e : q = j
  · subst e
    cases hd : dmd w g b P q with
    | true => rw [if_pos rfl, ins, decide_eq_true rfl, Bool.or_true, dmI, decide_eq_true (by omega), ht, hd]; rfl
    | false => rw [if_neg (by decide), del, decide_eq_true rfl, Bool.not_true, Bool.and_false, dmI, ht, hd, Bool.and_false]
  · cases hd : dmd w g b P j with
    | true => rw [if_pos rfl, ins, decide_eq_false e, Bool.or_false]; exact key q e
    | false => rw [if_neg (by decide), del, decide_eq_false e, Bool.not_false, Bool.and_true]; exact key q e
theorem dmI_ct {w g : Nat} {b : Bool} {P : Nat → Bool} {i j : Nat} (hj : P j = true) (hij : i ≤ j) (hz : ∀ q, i ≤ q → q < j → P q = false) : fb_ct (thn w g b P) (j + 1) = fb_ct (thn w g b P) i + (if dmd w g b P j then 1 else 0) := by
  rw [fb_ct_succ, thn_dmd w g b P j, hj, Bool.true_and]
  congr 1
  obtain ⟨c, rfl⟩ := Nat.exists_eq_add_of_le hij
  rw [fb_ct_split, show fb_ct (fun k => thn w g b P (i + k)) c = 0 from fb_ct_zero.mpr (fun k hk => by rw [thn_dmd, hz (i + k) (by omega) (by omega)]; rfl)]; rfl
theorem dmI_end {w g : Nat} {b : Bool} {P : Nat → Bool} {i : Nat} (hP : ∀ j, w * g ≤ j → P j = false) (hz : ∀ q, i ≤ q → q < 1024 → P q = false) (hwg : w * g ≤ 1024) : anB P (dmI w g b P i) = hlf w g b P := by
  funext j
  unfold anB dmI hlf hlfI
  cases hp : P j with
  | false => rfl
  | true =>
    have h1 : j < w * g := Nat.lt_of_not_le (fun q => by rw [hP j q] at hp; cases hp)
    have h2 : j < i := Nat.lt_of_not_le (fun q => by rw [hz j q (by omega)] at hp; cases hp)
    rw [decide_eq_true h1, decide_eq_true h2]
theorem dmI_BB {w g : Nat} {b : Bool} {P : Nat → Bool} {i n n2 : Nat} (h : BB P n) (h2 : BB (dmI w g b P i) n2) : un (dmI w g b P i) = 0 ↔ fb_ct (thn w g b P) i = 0 := by
  rw [un_0 h2, fb_ct_zero]
  constructor
  · intro q k hk
    have := q k
    rw [dmI, decide_eq_true hk] at this
    exact this
  · intro q k
    rw [dmI]
    by_cases e : k < i
    · rw [q k e, Bool.and_false]
    · rw [decide_eq_false e]; rfl
theorem thn_ext {w g : Nat} {b : Bool} {P : Nat → Bool} {i : Nat} (hP : ∀ j, w * g ≤ j → P j = false) (hz : ∀ q, i ≤ q → q < 1024 → P q = false) (hwg : w * g ≤ 1024) : fb_ct (thn w g b P) i = fb_ct (thn w g b P) (w * g) := by
  have z : ∀ q, (i ≤ q ∨ w * g ≤ q) → thn w g b P q = false := fun q hq => by
    rw [thn_dmd]
    by_cases e : w * g ≤ q
    · rw [hP q e]; rfl
    · rw [hz q (by omega) (by omega)]; rfl
  rcases Nat.le_total i (w * g) with h | h
  · exact (ct_ext h (fun j hj => z j (Or.inl hj))).symm
  · exact ct_ext h (fun j hj => z j (Or.inr hj))
theorem sN_BB {P : Nat → Bool} {n i : Nat} (h : BB P n) (hi : i < 1024) (v : Bool) : 1 ≤ sN n i v ∧ sN n i v ≤ 30 := ⟨(BB_set h hi v).1, (BB_set h hi v).2.1⟩
theorem sC_le (n i : Nat) (v : Bool) : sC n i v ≤ (if v then 1 else 0) := by cases v; exact Nat.le_refl _; exact gC_le _ _
theorem sS_le {n i : Nat} (hi : i < 1024) (v : Bool) : sS n i v ≤ 30 * (if v then 1 else 0) := by cases v; exact Nat.zero_le _; exact gS_le (by omega)
