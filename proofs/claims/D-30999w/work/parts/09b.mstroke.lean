/-! STROKES: cells drawn one behind the other; lines; circles -/
set_option maxRecDepth 100000
def chg (p q : Nat → Bool) (n : Nat) : Nat := fb_ct (fun j => p j != q j) n
def drwL (w g : Nat) (b : Bool) : List (Int × Int) → (Nat → Bool) → (Nat → Bool)
  | [], ik => ik
  | q :: L, ik => drwL w g b L (drw w g q.1 q.2 b ik)
def cntL (w g : Nat) (b : Bool) : List (Int × Int) → (Nat → Bool) → Int
  | [], _ => 0
  | q :: L, ik => drwN w g q.1 q.2 b ik + cntL w g b L (drw w g q.1 q.2 b ik)
theorem drw_at (w g : Nat) (x y : Int) (b : Bool) (ik : Nat → Bool) (j : Nat) : drw w g x y b ik j = if isBd w g x y && cel w x y == j then b else ik j := by
  unfold drw va_up
  cases h : isBd w g x y
  · rfl
  · by_cases h2 : j = cel w x y
    · subst h2; simp
    · have h3 : (cel w x y == j) = false := by
        apply beq_eq_false_iff_ne.mpr; exact fun e => h2 e.symm
      simp [h2, h3]
theorem drwL_at (w g : Nat) (b : Bool) (j : Nat) : ∀ (L : List (Int × Int)) (ik : Nat → Bool), drwL w g b L ik j = if L.any (fun q => isBd w g q.1 q.2 && cel w q.1 q.2 == j) then b else ik j := by
  intro L
  induction L with
  | nil => intro ik; rfl
  | cons q L ih =>
    intro ik
    simp only [drwL, List.any_cons]
    rw [ih, drw_at]
    by_cases h1 : (isBd w g q.1 q.2 && cel w q.1 q.2 == j) = true <;> by_cases h2 : (L.any fun q => isBd w g q.1 q.2 && cel w q.1 q.2 == j) = true <;> simp [h1, h2]
theorem drwL_out (w g : Nat) (b : Bool) (L : List (Int × Int)) (ik : Nat → Bool) {j : Nat} (h : w * g ≤ j) : drwL w g b L ik j = ik j := by
  rw [drwL_at, if_neg]
  intro hc
  obtain ⟨q, -, hq⟩ := List.any_eq_true.mp hc
  rw [Bool.and_eq_true] at hq
  have h1 := (cel_int ((isBd_t w g q.1 q.2).mp hq.1)).2
  have h2 := eq_of_beq hq.2
  omega
theorem drwN_ct (w g : Nat) (x y : Int) (b : Bool) (ik : Nat → Bool) : drwN w g x y b ik = ((chg ik (drw w g x y b ik) (w * g) : Nat) : Int) := by
  unfold drwN drw chg
  cases h : isBd w g x y
  · have : fb_ct (fun _ => false) (w * g) = 0 := fb_ct_zero.mpr (fun k _ => rfl)
    simp [this]
  · have hc := (cel_int ((isBd_t w g x y).mp h)).2
    have e : (fun j => ik j != va_up ik (cel w x y) b j) = (fun k => if k = cel w x y then (ik (cel w x y) != b) else false) := by
      funext j
      unfold va_up
      by_cases hj : j = cel w x y
      · subst hj; simp
      · simp [hj]
    have h1 := fb_ct_upd (fun _ => false) (ik (cel w x y) != b) hc
    have h0 : fb_ct (fun _ => false) (w * g) = 0 := fb_ct_zero.mpr (fun k _ => rfl)
    simp only [if_true]
    rw [e]
    rw [h0] at h1
    cases hb : (ik (cel w x y) != b) <;> rw [hb] at h1 <;> simp at h1 ⊢ <;> omega
theorem cntL_eq (w g : Nat) (b : Bool) : ∀ (L : List (Int × Int)) (ik : Nat → Bool), cntL w g b L ik = ((chg ik (drwL w g b L ik) (w * g) : Nat) : Int) := by
  intro L
  induction L with
  | nil =>
    intro ik
    have : fb_ct (fun _ => false) (w * g) = 0 := fb_ct_zero.mpr (fun k _ => rfl)
    simp [cntL, chg, drwL, this]
  | cons q L ih =>
    intro ik
    simp only [cntL, drwL]
    rw [ih, drwN_ct, ← Int.natCast_add]
    congr 1
    unfold chg
    rw [← fb_ct_or]
    · apply fb_ct_cong
      intro k hk
      rw [drwL_at, drw_at]
      cases (isBd w g q.1 q.2 && cel w q.1 q.2 == k) <;> cases (L.any fun q => isBd w g q.1 q.2 && cel w q.1 q.2 == k) <;> cases ik k <;> cases b <;> rfl
    · intro k hk h
      rw [drwL_at, drw_at] at h
      revert h
      cases (isBd w g q.1 q.2 && cel w q.1 q.2 == k) <;> cases (L.any fun q => isBd w g q.1 q.2 && cel w q.1 q.2 == k) <;> cases ik k <;> cases b <;> decide
theorem drwL_app (w g : Nat) (b : Bool) : ∀ (L M : List (Int × Int)) (ik : Nat → Bool), drwL w g b (L ++ M) ik = drwL w g b M (drwL w g b L ik)
  | [], _, _ => rfl
  | _ :: L, M, ik => drwL_app w g b L M _
theorem cntL_app (w g : Nat) (b : Bool) : ∀ (L M : List (Int × Int)) (ik : Nat → Bool), cntL w g b (L ++ M) ik = cntL w g b L ik + cntL w g b M (drwL w g b L ik)
  | [], M, ik => by simp [cntL, drwL]
  | q :: L, M, ik => by
    simp only [List.cons_append, cntL, drwL]
    rw [cntL_app w g b L M, Int.add_assoc]
/-! lines -/
def lnE (dx dy a b : Nat) : Int := ((b : Int) + 1) * (dx : Int) - ((a : Int) + 1) * (dy : Int)
def lnA (dx dy a b : Nat) : Nat := if -(dy : Int) < 2 * lnE dx dy a b then a + 1 else a
def lnB (dx dy a b : Nat) : Nat := if 2 * lnE dx dy a b < (dx : Int) then b + 1 else b
/-- what is drawn behind the cell a, b steps on -/
def lnT (x1 y1 sx sy : Int) (dx dy : Nat) : Nat → Nat → Nat → List (Int × Int)
  | 0, _, _ => []
  | f + 1, a, b => if a = dx ∧ b = dy then [] else (x1 + sx * (lnA dx dy a b : Int), y1 + sy * (lnB dx dy a b : Int)) :: lnT x1 y1 sx sy dx dy f (lnA dx dy a b) (lnB dx dy a b)
def lnL (x1 y1 x2 y2 : Int) : List (Int × Int) := (x1, y1) :: lnT x1 y1 (tsg (x2 - x1)) (tsg (y2 - y1)) (x2 - x1).natAbs (y2 - y1).natAbs ((x2 - x1).natAbs + (y2 - y1).natAbs) 0 0
theorem lnE_a (dx dy a b : Nat) : lnE dx dy (a + 1) b = lnE dx dy a b - dy := by
  have h1 : ((1 : Nat) : Int) = 1 := rfl
  simp only [lnE, Int.natCast_add, h1, Int.add_mul, Int.one_mul]
  omega
theorem lnE_b (dx dy a b : Nat) : lnE dx dy a (b + 1) = lnE dx dy a b + dx := by
  have h1 : ((1 : Nat) : Int) = 1 := rfl
  simp only [lnE, Int.natCast_add, h1, Int.add_mul, Int.one_mul]
  omega
theorem lnE_rng {dx dy a b : Nat} (hx : dx ≤ 112) (hy : dy ≤ 112) (ha : a ≤ dx) (hb : b ≤ dy) : -20000 ≤ lnE dx dy a b ∧ lnE dx dy a b ≤ 20000 := by
  have h1 : (b + 1) * dx ≤ 113 * 112 := Nat.mul_le_mul (by omega) hx
  have h2 : (a + 1) * dy ≤ 113 * 112 := Nat.mul_le_mul (by omega) hy
  have h3 : lnE dx dy a b = (((b + 1) * dx : Nat) : Int) - (((a + 1) * dy : Nat) : Int) := by
    unfold lnE
    rw [Int.natCast_mul, Int.natCast_mul, Int.natCast_add, Int.natCast_add]
    rfl
  rw [h3]
  omega
/-- never too far: a step in x only while there is one to go -/
theorem ln_a {dx dy a b : Nat} (ha : a ≤ dx) (hb : b ≤ dy) (hn : ¬ (a = dx ∧ b = dy)) (h : -(dy : Int) < 2 * lnE dx dy a b) : a < dx := by
  rcases Nat.lt_or_ge a dx with q | q
  · exact q
  · have e : a = dx := Nat.le_antisymm ha q
    subst e
    have hb2 : b < dy := by omega
    have h1 : ((b : Int) + 1) * (a : Int) ≤ (dy : Int) * (a : Int) := Int.mul_le_mul_of_nonneg_right (by omega) (by omega)
    unfold lnE at h
    rw [Int.add_mul (a : Int) 1, Int.one_mul, Int.mul_comm (a : Int) (dy : Int)] at h
    omega
theorem ln_b {dx dy a b : Nat} (ha : a ≤ dx) (hb : b ≤ dy) (hn : ¬ (a = dx ∧ b = dy)) (h : 2 * lnE dx dy a b < (dx : Int)) : b < dy := by
  rcases Nat.lt_or_ge b dy with q | q
  · exact q
  · have e : b = dy := Nat.le_antisymm hb q
    subst e
    have ha2 : a < dx := by omega
    have h1 : ((a : Int) + 1) * (b : Int) ≤ (dx : Int) * (b : Int) := Int.mul_le_mul_of_nonneg_right (by omega) (by omega)
    unfold lnE at h
    rw [Int.add_mul (b : Int) 1, Int.one_mul, Int.mul_comm (b : Int) (dx : Int)] at h
    omega
theorem ln_ab {dx dy a b : Nat} (ha : a ≤ dx) (hb : b ≤ dy) (hn : ¬ (a = dx ∧ b = dy)) : -(dy : Int) < 2 * lnE dx dy a b ∨ 2 * lnE dx dy a b < (dx : Int) := by
  omega
/-- one step on -/
theorem ln_step {dx dy a b : Nat} (ha : a ≤ dx) (hb : b ≤ dy) (hn : ¬ (a = dx ∧ b = dy)) : lnA dx dy a b ≤ dx ∧ lnB dx dy a b ≤ dy ∧ (dx - lnA dx dy a b) + (dy - lnB dx dy a b) < (dx - a) + (dy - b) := by
  have h1 := ln_a ha hb hn
  have h2 := ln_b ha hb hn
  have h3 := ln_ab ha hb hn
  unfold lnA lnB
  by_cases q1 : -(dy : Int) < 2 * lnE dx dy a b
  · rw [if_pos q1]
    have := h1 q1
    by_cases q2 : 2 * lnE dx dy a b < (dx : Int)
    · rw [if_pos q2]; have := h2 q2; omega
    · rw [if_neg q2]; omega
  · rw [if_neg q1]
    rcases h3 with q2 | q2
    · exact absurd q2 q1
    · rw [if_pos q2]; have := h2 q2; omega
theorem tsg_abs (z : Int) : tsg z * (z.natAbs : Int) = z := by
  unfold tsg
  split
  · omega
  · split <;> omega
theorem tsg_mul (z : Int) (a : Nat) : -(a : Int) ≤ tsg z * (a : Int) ∧ tsg z * (a : Int) ≤ a := by
  unfold tsg
  split
  · omega
  · split <;> omega
theorem tsg_end {z : Int} {a : Nat} (h : a ≤ z.natAbs) : tsg z * (a : Int) = z ↔ a = z.natAbs := by
  unfold tsg
  split
  · omega
  · split <;> omega
theorem tsg_mid {z : Int} {a : Nat} (h : a < z.natAbs) : tsg (z - tsg z * (a : Int)) = tsg z := by
  unfold tsg
  by_cases h1 : z < 0
  · rw [if_pos h1, if_pos (by omega)]
  · rw [if_neg h1]
    by_cases h2 : z = 0
    · omega
    · rw [if_neg h2, if_neg (by omega), if_neg (by omega)]
theorem tabs_nat (z : Int) : tabs z = (z.natAbs : Int) := by
  unfold tabs
  split <;> omega
/-! circles -/
/-- the eight cells, by the number k -/
def ei1 (cx cy u v : Int) (k : Nat) : Int × Int :=
  (cx + (if k % 2 = 0 then (if k < 4 then u else v) else -(if k < 4 then u else v)), cy + (if k % 4 < 2 then (if k < 4 then v else u) else -(if k < 4 then v else u)))
def eiL (cx cy u v : Int) : Nat → List (Int × Int)
  | 0 => []
  | n + 1 => eiL cx cy u v n ++ [ei1 cx cy u v n]
def crL (cx cy : Int) : Nat → Int → Int → Int → List (Int × Int)
  | 0, _, _, _ => []
  | f + 1, u, v, e => if u < v then [] else eiL cx cy u v 8 ++ (if e < 0 then crL cx cy f u (v + 1) (e + (2 * (v + 1) + 1)) else crL cx cy f (u + (-1)) (v + 1) (e + (2 * ((v + 1) - (u + (-1))) + 1)))
def crA (cx cy r : Int) : List (Int × Int) := crL cx cy (r + 1).toNat r 0 (1 - r)
theorem crL_fuel (cx cy : Int) : ∀ (f f2 : Nat) (u v e : Int), u - v + 1 ≤ (f : Int) → u - v + 1 ≤ (f2 : Int) → crL cx cy f u v e = crL cx cy f2 u v e := by
  intro f
  induction f with
  | zero =>
    intro f2 u v e h1 h2
    cases f2 with
    | zero => rfl
    | succ f2 => simp only [crL]; rw [if_pos (by omega)]
  | succ f ih =>
    intro f2 u v e h1 h2
    cases f2 with
    | zero => simp only [crL]; rw [if_pos (by omega)]
    | succ f2 =>
      simp only [crL]
      by_cases q : u < v
      · rw [if_pos q, if_pos q]
      · rw [if_neg q, if_neg q, ih f2 u (v + 1) _ (by omega) (by omega), ih f2 (u + (-1)) (v + 1) _ (by omega) (by omega)]
theorem crL_end {cx cy u v e : Int} {f : Nat} (h : u < v) : crL cx cy f u v e = [] := by
  cases f with
  | zero => rfl
  | succ f => simp only [crL]; rw [if_pos h]
theorem crL_go {cx cy u v e : Int} {f : Nat} (h : v ≤ u) (hf : u - v + 1 ≤ (f : Int)) : ∃ f2 : Nat, f = f2 + 1 ∧ crL cx cy f u v e = eiL cx cy u v 8 ++ (if e < 0 then crL cx cy f2 u (v + 1) (e + (2 * (v + 1) + 1)) else crL cx cy f2 (u + (-1)) (v + 1) (e + (2 * ((v + 1) - (u + (-1))) + 1))) := by
  cases f with
  | zero => omega
  | succ f => exact ⟨f, rfl, by simp only [crL]; rw [if_neg (by omega)]⟩
theorem lnT_end (x1 y1 sx sy : Int) (dx dy f : Nat) : lnT x1 y1 sx sy dx dy f dx dy = [] := by
  cases f with
  | zero => rfl
  | succ f => simp [lnT]
theorem lnT_go {x1 y1 sx sy : Int} {dx dy f a b : Nat} (ha : a ≤ dx) (hb : b ≤ dy) (hn : ¬ (a = dx ∧ b = dy)) (hf : (dx - a) + (dy - b) ≤ f) : ∃ f2 : Nat, f = f2 + 1 ∧ lnT x1 y1 sx sy dx dy f a b = (x1 + sx * (lnA dx dy a b : Int), y1 + sy * (lnB dx dy a b : Int)) :: lnT x1 y1 sx sy dx dy f2 (lnA dx dy a b) (lnB dx dy a b) := by
  cases f with
  | zero => omega
  | succ f => exact ⟨f, rfl, by simp only [lnT]; rw [if_neg hn]⟩
