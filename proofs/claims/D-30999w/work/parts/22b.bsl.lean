/-! rows for BitSet's walks -/
set_option maxRecDepth 100000
section TB4
variable {p : Program} {l : Launch} {e : Env} {R : Room} {s : State} {m : MethodId} {args : Array Value} {below : List Frame} {meth : Method} {c : Code} {H : Heap} {locs : List Loc} {cells slots : Nat} {Q : State → Prop}
variable {cc : ByteArray} {pc : Nat} {ls : Array Slot} {rest : List Value}
theorem tl_if_eq (hx : p.tables.exec = Jvm.exec) (hb : c.code = cc) {x y : Int64} {off : Int} {tgt : Nat} (hdg : decode cc pc = .ok (.ifCond .eq off, 3)) (ht : (pc : Int) + off = (tgt : Int))
    (kt : x = y → W p l e R s m args below meth c H locs cells slots Q (F0 m tgt ls rest)) (kf : ¬ x = y → W p l e R s m args below meth c H locs cells slots Q (F0 m (pc + 3) ls rest)) : W p l e R s m args below meth c H locs cells slots Q (F0 m pc ls (.int (lg_cmp x y) :: rest)) :=
  lv_if_eq hx hb hdg ht (fun q => kt ((lg_cmp_eq x y).mp q)) (fun q => kf (fun z => q ((lg_cmp_eq x y).mpr z)))
theorem tl_if_ne (hx : p.tables.exec = Jvm.exec) (hb : c.code = cc) {x y : Int64} {off : Int} {tgt : Nat} (hdg : decode cc pc = .ok (.ifCond .ne off, 3)) (ht : (pc : Int) + off = (tgt : Int))
    (kt : ¬ x = y → W p l e R s m args below meth c H locs cells slots Q (F0 m tgt ls rest)) (kf : x = y → W p l e R s m args below meth c H locs cells slots Q (F0 m (pc + 3) ls rest)) : W p l e R s m args below meth c H locs cells slots Q (F0 m pc ls (.int (lg_cmp x y) :: rest)) :=
  lv_if_ne hx hb hdg ht (fun q => kt (fun z => q ((lg_cmp_eq x y).mpr z))) (fun q => kf ((lg_cmp_eq x y).mp q))
end TB4
theorem an_m1 (x : Int64) : (-1 : Int64) &&& x = x := wbt_ext (fun i hi => by rw [wbt_and, wbt_m1 i hi, Bool.true_and])
def flM (N : Nat) : Int64 := ((-1 : Int64).toUInt64 >>> ((iI (-(N : Int))).toInt64.toUInt64 &&& Int64.toUInt64 63)).toInt64
theorem flp_last' {P : Nat → Bool} {N : Nat} (hN : 1 ≤ N ∧ N ≤ 1024) : wd P ((N - 1) / 64) ^^^ flM N = wd (flp P N) ((N - 1) / 64) := flp_last hN
theorem flp_end {P : Nat → Bool} {N : Nat} (hN : 1 ≤ N ∧ N ≤ 1024) : va_up (flw (wd (flp P N)) (wd P) ((N - 1) / 64)) ((N - 1) / 64) (wd P ((N - 1) / 64) ^^^ flM N) = wd (flp P N) := by
  rw [flp_last' hN, flw_s]
  exact flw_wd _ (fun k hk => (flp_far (by omega)).symm)
theorem flp_one {P : Nat → Bool} {N : Nat} (hN : 1 ≤ N ∧ N ≤ 1024) (h0 : (N - 1) / 64 = 0) : va_up (wd P) ((N - 1) / 64) (wd P ((N - 1) / 64) ^^^ ((-1 : Int64) &&& flM N)) = wd (flp P N) := by
  have h := flp_end (P := P) hN
  rw [an_m1]
  rw [show flw (wd (flp P N)) (wd P) ((N - 1) / 64) = wd P by rw [h0, flw_0]] at h
  exact h
theorem flp_go {P : Nat → Bool} {N k : Nat} (hk : k < (N - 1) / 64) : va_up (flw (wd (flp P N)) (wd P) k) k (wd P k ^^^ (-1)) = flw (wd (flp P N)) (wd P) (k + 1) := by
  rw [flp_full hk, flw_s]
theorem flw_dn {α : Type} (f h : Nat → α) {u : Nat} (hu : 1 ≤ u) : va_up (flw f h u) (u - 1) (h (u - 1)) = flw f h (u - 1) := by
  funext k
  unfold va_up flw
  by_cases e : k = u - 1
  · subst e; rw [if_pos rfl, if_neg (by omega)]
  · rw [if_neg e]
    by_cases q : k < u - 1
    · rw [if_pos q, if_pos (by omega)]
    · rw [if_neg q, if_neg (by omega)]
theorem flw_same {α : Type} {f h : Nat → α} {u : Nat} (hz : ∀ k, u ≤ k → h k = f k) : flw f h u = f := by
  funext k
  unfold flw
  split
  · rfl
  · exact hz k (by omega)
theorem flw_up {α : Type} {f h : Nat → α} {i : Nat} {x : α} (hx : x = f i) : va_up (flw f h i) i x = flw f h (i + 1) := by rw [hx, flw_s]
theorem orB_z {P Q : Nat → Bool} {k : Nat} (h : wd Q k = 0) : wd P k = wd (orB P Q) k := wd_congr (fun i hi => by rw [orB, (wd_zero_iff Q k).mp h i hi, Bool.or_false])
theorem orB_z2 {P Q : Nat → Bool} {k : Nat} (h : wd P k = 0) : wd Q k = wd (orB P Q) k := wd_congr (fun i hi => by rw [orB, (wd_zero_iff P k).mp h i hi, Bool.false_or])
theorem xorB_z {P Q : Nat → Bool} {k : Nat} (h : wd Q k = 0) : wd P k = wd (xorB P Q) k := wd_congr (fun i hi => by rw [xorB, (wd_zero_iff Q k).mp h i hi, Bool.xor_false])
theorem xorB_z2 {P Q : Nat → Bool} {k : Nat} (h : wd P k = 0) : wd Q k = wd (xorB P Q) k := wd_congr (fun i hi => by rw [xorB, (wd_zero_iff P k).mp h i hi, Bool.false_xor])
theorem andB_z {P Q : Nat → Bool} {k : Nat} (h : wd P k = 0 ∨ wd Q k = 0) : wd (andB P Q) k = 0 := wd_zero (fun i hi => by
  rcases h with h | h
  · rw [andB, (wd_zero_iff P k).mp h i hi, Bool.false_and]
  · rw [andB, (wd_zero_iff Q k).mp h i hi, Bool.and_false])
theorem anB_z {P Q : Nat → Bool} {k : Nat} (h : wd P k = 0 ∨ wd Q k = 0) : wd P k = wd (anB P Q) k := wd_congr (fun i hi => by
  rcases h with h | h
  · rw [anB, (wd_zero_iff P k).mp h i hi, Bool.false_and]
  · rw [anB, (wd_zero_iff Q k).mp h i hi]; simp)
theorem xorB_far {P Q : Nat → Bool} {n n2 k : Nat} (h : BB P n) (h2 : BB Q n2) (hk : max (un P) (un Q) ≤ k) : wd (xorB P Q) k = 0 := by
  rw [← xorB_z (un_z h2 (by omega))]; exact un_z h (by omega)
theorem anB_far {P Q : Nat → Bool} {n k : Nat} (h : BB P n) (hk : un P ≤ k) : wd (anB P Q) k = 0 := wd_zero (fun i hi => by rw [anB, (wd_zero_iff P k).mp (un_z h hk) i hi]; rfl)
theorem del_far {P : Nat → Bool} {n k i : Nat} (h : BB P n) (hk : un P ≤ k) : wd (del P i) k = 0 := wd_zero (fun j hj => by rw [del, (wd_zero_iff P k).mp (un_z h hk) j hj]; rfl)
theorem flp_farz {P : Nat → Bool} {n k N : Nat} (h : BB P n) (hk : max (un P) ((N - 1) / 64 + 1) ≤ k) : wd (flp P N) k = 0 := by
  rw [flp_far (by omega)]; exact un_z h (by omega)
