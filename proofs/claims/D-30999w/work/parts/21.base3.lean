/-! arraycopy of longs; the words of two BitSets together -/
set_option maxRecDepth 100000
section TB3
variable {p : Program} {l : Launch} {e : Env} {R : Room} {s : State} {m : MethodId} {args : Array Value} {below : List Frame} {meth : Method} {c : Code} {H : Heap} {locs : List Loc} {cells slots : Nat} {Q : State → Prop}
variable {cc : ByteArray} {pc : Nat} {ls : Array Slot} {rest : List Value} {D : TG} {E : TE} {A : Nat → Prop} {ws : va_W} {H0 : Heap} {a : Nat}
theorem ta_copyl (hx : p.tables.exec = Jvm.exec) (hb : c.code = cc) (hml : c.maxLocals = ls.size) {own : String} {index : Nat} (hown : s.vm.findClass own = some m.cls) (hlink : (Cond.methodLink own index arraycopyName).before args s = true) (hnat : (Cond.native arraycopyName).before args s = true) (hstat : (Cond.static arraycopyName).before args s = true) (hini : (Cond.initialized "java/lang/System").before args s = true)
    (hK : tK D s) (hP : va_P D.1 clAll ws H) (hD : va_D A ws) (hS : va_S A H0 H locs) (q0 q1 : Nat) {a0 : Nat} {n0 n1 : Nat} {f g : Nat → Int64} (ha0 : ws[q0]? = some (a0, .inl (D.2 2, n0, .inr (.inl f)))) (ha1 : ws[q1]? = some (a, .inl (D.2 2, n1, .inr (.inl g))))
    (sp dp n : Nat) {zs zd zn : Int} (h : zs = (sp : Int) ∧ zd = (dp : Int) ∧ zn = (n : Int) ∧ sp + n ≤ n0 ∧ dp + n ≤ n1 ∧ n0 < 2147483648 ∧ n1 < 2147483648)
    (hframes : 1 ≤ R.frames) (hlocals : (rest.map fun v => v.category).sum + (nativeFrameWords "java/lang/System" "arraycopy" 5 + 11) ≤ R.locals) (hdg : decode cc pc = .ok (.invokestatic index, 3))
    (kk : ∀ (H1 : Heap) (locs1 : List Loc), va_P D.1 clAll (ws.set q1 (a, .inl (D.2 2, n1, .inr (.inl (va_cpy f g sp dp n))))) H1 → va_D A (ws.set q1 (a, .inl (D.2 2, n1, .inr (.inl (va_cpy f g sp dp n))))) → va_S A H0 H1 locs1 → W p l e R s m args below meth c H1 locs1 cells slots Q (F0 m (pc + 3) ls rest)) : W p l e R s m args below meth c H locs cells slots Q (F0 m pc ls (.int (iI zn) :: .int (iI zd) :: .ref a :: .int (iI zs) :: .ref a0 :: rest)) := by
  obtain ⟨e1, e2, e3, h4, h5, h6, h7⟩ := h
  have c1 := iI_clamp e1 (by omega)
  have c2 := iI_clamp e2 (by omega)
  have c3 := iI_clamp e3 (by omega)
  refine va_copyl hx hb hml hown hlink hnat hstat hini hK hP hD hS q0 q1 2 2 ha0 ha1 rfl rfl rfl ?_ ?_ ?_ (by rw [c1, c3]; exact h4) (by rw [c2, c3]; exact h5) (fun _ _ => rfl) hframes hlocals hdg (fun H1 locs1 hP hD hS => ?_)
  · rw [iI_0, iI_lt ⟨by omega, by omega, by omega, by omega⟩]; omega
  · rw [iI_0, iI_lt ⟨by omega, by omega, by omega, by omega⟩]; omega
  · rw [iI_0, iI_lt ⟨by omega, by omega, by omega, by omega⟩]; omega
  · rw [c1, c2, c3] at hP hD
    exact kk H1 locs1 hP hD hS
end TB3
/-- words below i told by another set -/
theorem flw_wd {P Q : Nat → Bool} (n : Nat) (h : ∀ k, n ≤ k → wd P k = wd Q k) : flw (wd Q) (wd P) n = wd Q := by
  funext k
  unfold flw
  split
  · rfl
  · exact h k (by omega)
theorem wd_cpy2 {P Q R : Nat → Bool} {m n : Nat} (h1 : ∀ k, m ≤ k → k < n → wd Q k = wd R k) (h2 : ∀ k, n ≤ k → wd P k = wd R k) (hm : m ≤ n) : va_cpy (wd Q) (flw (wd R) (wd P) m) m m (n - m) = wd R := by
  funext k
  unfold va_cpy flw
  by_cases q : m ≤ k ∧ k < m + (n - m)
  · rw [if_pos q, show m + (k - m) = k by omega]; exact h1 k q.1 (by omega)
  · rw [if_neg q]
    split
    · rfl
    · exact h2 k (by omega)
def setB (P : Nat → Bool) (i : Nat) (v : Bool) : Nat → Bool := if v then ins P i else del P i
def sN (n i : Nat) (v : Bool) : Nat := if v then gN n (i / 64 + 1) else n
def sC (n i : Nat) (v : Bool) : Nat := if v then gC n (i / 64 + 1) else 0
def sS (n i : Nat) (v : Bool) : Nat := if v then gS n (i / 64 + 1) else 0
theorem BB_set {P : Nat → Bool} {n i : Nat} (h : BB P n) (hi : i < 1024) (v : Bool) : BB (setB P i v) (sN n i v) := by
  cases v
  · exact BB_del h
  · exact BB_ins h hi
theorem del_no {P : Nat → Bool} {i : Nat} (h : P i = false) : del P i = P := by
  funext j
  unfold del
  by_cases e : j = i
  · subst e; rw [h]; rfl
  · rw [decide_eq_false e]; simp
def orB (P Q : Nat → Bool) : Nat → Bool := fun j => P j || Q j
def andB (P Q : Nat → Bool) : Nat → Bool := fun j => P j && Q j
def xorB (P Q : Nat → Bool) : Nat → Bool := fun j => P j ^^ Q j
def anB (P Q : Nat → Bool) : Nat → Bool := fun j => P j && !Q j
theorem BB_or {P Q : Nat → Bool} {n n2 : Nat} (h : BB P n) (h2 : BB Q n2) : BB (orB P Q) (gN n (un Q)) := by
  have h3 := un_le h2
  have h4 := BB_grow h (r := un Q) h3.2
  have h5 := gN_le ⟨h.1, h.2.1⟩ h3.2
  refine ⟨h4.1, h4.2.1, fun j hj => ?_, fun j hj => ?_⟩
  · rw [orB, h.2.2.1 j hj, h2.2.2.1 j hj]; rfl
  · rw [orB, h4.2.2.2 j hj, un_out h2 (by omega)]; rfl
theorem BB_xor {P Q : Nat → Bool} {n n2 : Nat} (h : BB P n) (h2 : BB Q n2) : BB (xorB P Q) (gN n (un Q)) := by
  have h3 := un_le h2
  have h4 := BB_grow h (r := un Q) h3.2
  have h5 := gN_le ⟨h.1, h.2.1⟩ h3.2
  refine ⟨h4.1, h4.2.1, fun j hj => ?_, fun j hj => ?_⟩
  · rw [xorB, h.2.2.1 j hj, h2.2.2.1 j hj]; rfl
  · rw [xorB, h4.2.2.2 j hj, un_out h2 (by omega)]; rfl
theorem BB_and {P Q : Nat → Bool} {n : Nat} (h : BB P n) : BB (andB P Q) n := BB_sub h (fun j q => by rw [andB, q]; rfl)
theorem BB_an {P Q : Nat → Bool} {n : Nat} (h : BB P n) : BB (anB P Q) n := BB_sub h (fun j q => by rw [anB, q]; rfl)
theorem un_or {P Q : Nat → Bool} {n n2 : Nat} (h : BB P n) (h2 : BB Q n2) : un (orB P Q) = max (un P) (un Q) := by
  have hB := BB_or h h2
  have l1 := un_le h
  have l2 := un_le h2
  have key : ∀ k, wd (orB P Q) k = 0 → wd P k = 0 ∧ wd Q k = 0 := fun k z => by
    rw [wd_zero_iff] at z
    have z2 : ∀ i, i < 64 → P (64 * k + i) = false ∧ Q (64 * k + i) = false := fun i hi => by have := z i hi; rw [orB, Bool.or_eq_false_iff] at this; exact this
    exact ⟨wd_zero (fun i hi => (z2 i hi).1), wd_zero (fun i hi => (z2 i hi).2)⟩
  refine un_of hB (by omega) (fun k hk => wd_zero (fun i hi => ?_)) ?_
  · rw [orB, un_out h (j := 64 * k + i) (by omega), un_out h2 (j := 64 * k + i) (by omega)]; rfl
  · by_cases z : max (un P) (un Q) = 0
    · left; exact z
    · right
      intro y
      have y2 := key _ y
      by_cases q : un P ≤ un Q
      · rw [show max (un P) (un Q) = un Q by omega] at y2
        exact un_nz (by omega) y2.2
      · rw [show max (un P) (un Q) = un P by omega] at y2
        exact un_nz (by omega) y2.1
/-- the numbers below N the other way round -/
def flp (P : Nat → Bool) (N : Nat) : Nat → Bool := fun j => P j ^^ decide (j < N)
theorem BB_flp {P : Nat → Bool} {n N : Nat} (h : BB P n) (hN : 1 ≤ N ∧ N ≤ 1024) : BB (flp P N) (gN n ((N - 1) / 64 + 1)) := by
  have h4 := BB_grow h (r := (N - 1) / 64 + 1) (by omega)
  have h5 := gN_le ⟨h.1, h.2.1⟩ (show (N - 1) / 64 + 1 ≤ 16 by omega)
  refine ⟨h4.1, h4.2.1, fun j hj => ?_, fun j hj => ?_⟩
  · rw [flp, h.2.2.1 j hj, decide_eq_false (by omega)]; rfl
  · rw [flp, h4.2.2.2 j hj, decide_eq_false (by omega)]; rfl
theorem flp_full {P : Nat → Bool} {N k : Nat} (hk : k < (N - 1) / 64) : wd P k ^^^ (-1) = wd (flp P N) k := wd_eq (fun i hi => by rw [wbt_xor, wbt_m1 i hi, wd_bit P k hi, flp, decide_eq_true (by omega)])
theorem flp_last {P : Nat → Bool} {N : Nat} (hN : 1 ≤ N ∧ N ≤ 1024) : wd P ((N - 1) / 64) ^^^ (((-1 : Int64).toUInt64 >>> ((iI (-(N : Int))).toInt64.toUInt64 &&& Int64.toUInt64 63)).toInt64) = wd (flp P N) ((N - 1) / 64) := wd_eq (fun i hi => by
  rw [← iI_neg, w_um N (by omega), wbt_xor, wd_bit P _ hi, w_m1u _ (by omega) i hi, flp]
  congr 1
  rw [decide_eq_decide]
  omega)
theorem flp_m0 : ((-1 : Int64) <<< ((iI 0).toInt64 &&& 63)) = -1 := by decide +kernel
theorem flp_far {P : Nat → Bool} {N k : Nat} (hk : (N - 1) / 64 < k) : wd (flp P N) k = wd P k := wd_congr (fun i hi => by rw [flp, decide_eq_false (by omega), Bool.xor_false])
/-- the mask of the numbers from i on -/
theorem nx_mask (P : Nat → Bool) {i j : Nat} (hi : i < 2048) (hj : j < 64) : wbt (wd P (i / 64) &&& ((-1 : Int64) <<< ((iI (i : Int)).toInt64 &&& 63))) j = (P (64 * (i / 64) + j) && decide (i ≤ 64 * (i / 64) + j)) := by
  rw [w_sm i hi, wbt_and, wd_bit P _ hj, w_m1s _ (Nat.mod_lt _ (by decide)) j hj]
  congr 1
  rw [decide_eq_decide]
  omega
/-- a word that isn't 0 has a lowest bit -/
theorem wbt_low {x : Int64} (h : x ≠ 0) : ∃ t, t < 64 ∧ wbt x t = true ∧ ∀ i, i < t → wbt x i = false := by
  have key : ∀ n, n ≤ 64 → (∀ i, i < n → wbt x i = false) ∨ ∃ t, t < n ∧ wbt x t = true ∧ ∀ i, i < t → wbt x i = false := by
    intro n
    induction n with
    | zero => intro _; exact Or.inl (fun i hi => by omega)
    | succ n ih =>
      intro hn
      rcases ih (by omega) with h1 | ⟨t, h1, h2, h3⟩
      · cases hb : wbt x n with
        | true => exact Or.inr ⟨n, by omega, hb, h1⟩
        | false => exact Or.inl (fun i hi => by
            by_cases e : i = n
            · subst e; exact hb
            · exact h1 i (by omega))
      · exact Or.inr ⟨t, by omega, h2, h3⟩
  rcases key 64 (Nat.le_refl _) with h1 | h1
  · exact absurd (wbt_ext (fun i hi => by rw [h1 i hi, wbt_0])) h
  · exact h1
