/-! THE BASE: ints told by whole numbers (iI), booleans (zI); rows over them; one kind of contract for every method -/
set_option maxRecDepth 100000
def iI (z : Int) : Int32 := Int32.ofInt z
def zI (b : Bool) : Int32 := if b then 1 else 0
theorem iI_add (a b : Int) : iI a + iI b = iI (a + b) := (Int32.ofInt_add a b).symm
theorem iI_mul (a b : Int) : iI a * iI b = iI (a * b) := (Int32.ofInt_mul a b).symm
theorem iI_neg (a : Int) : -iI a = iI (-a) := Int32.neg_ofInt
theorem iI_sub (a b : Int) : iI a - iI b = iI (a - b) := by
  rw [Int32.sub_eq_add_neg, iI_neg, iI_add, Int.sub_eq_add_neg]
theorem iI_toInt {z : Int} (h1 : -2147483648 ≤ z) (h2 : z < 2147483648) : (iI z).toInt = z := Int32.toInt_ofInt_of_le (by omega) (by omega)
theorem iI_of (x : Int32) : iI x.toInt = x := Int32.ofInt_toInt x
theorem iI_rng (x : Int32) : -2147483648 ≤ x.toInt ∧ x.toInt < 2147483648 := by
  have h1 := Int32.le_toInt x
  have h2 := Int32.toInt_lt x
  exact ⟨by omega, by omega⟩
theorem iI_le {a b : Int} (h : -2147483648 ≤ a ∧ a < 2147483648 ∧ -2147483648 ≤ b ∧ b < 2147483648) : iI a ≤ iI b ↔ a ≤ b := by
  rw [Int32.le_iff_toInt_le, iI_toInt h.1 h.2.1, iI_toInt h.2.2.1 h.2.2.2]
theorem iI_lt {a b : Int} (h : -2147483648 ≤ a ∧ a < 2147483648 ∧ -2147483648 ≤ b ∧ b < 2147483648) : iI a < iI b ↔ a < b := by
  rw [Int32.lt_iff_toInt_lt, iI_toInt h.1 h.2.1, iI_toInt h.2.2.1 h.2.2.2]
theorem iI_eq {a b : Int} (h : -2147483648 ≤ a ∧ a < 2147483648 ∧ -2147483648 ≤ b ∧ b < 2147483648) : iI a = iI b ↔ a = b := by
  rw [← Int32.toInt_inj, iI_toInt h.1 h.2.1, iI_toInt h.2.2.1 h.2.2.2]
theorem iI_0 : (0 : Int32) = iI 0 := rfl
theorem iI_clamp {z : Int} {k : Nat} (hz : z = (k : Int)) (hk : k < 2147483648) : (iI z).toNatClampNeg = k := by
  subst hz
  rw [iI, Int32.toNatClampNeg_ofInt_of_le (by omega) (by omega)]
  rfl
theorem iI_in {z : Int} {k n : Nat} (hz : z = (k : Int)) (hk : k < n) (hn : n < 2147483648) : vp_in (iI z) n := by
  intro h
  rcases h with h | h
  · rw [iI_0, iI_lt ⟨by omega, by omega, by omega, by omega⟩] at h
    omega
  · rw [iI_clamp hz (by omega)] at h
    omega
theorem iI_nI (k : Nat) : nI k = iI (k : Int) := by
  rw [nI, iI, Int32.ofInt_eq_ofNat]
theorem zI_nz (b : Bool) : zI b = 0 ↔ b = false := by cases b <;> decide
theorem zI_inj {a b : Bool} : zI a = zI b ↔ a = b := by cases a <;> cases b <;> decide
theorem zI_t : zI true = iI 1 := rfl
theorem zI_f : zI false = iI 0 := rfl
theorem zI_iI (b : Bool) : zI b = iI (if b then 1 else 0) := by cases b <;> rfl
theorem zI_and (a b : Bool) : zI a &&& zI b = zI (a && b) := by cases a <;> cases b <;> decide
theorem zI_or (a b : Bool) : zI a ||| zI b = zI (a || b) := by cases a <;> cases b <;> decide
theorem zI_xor (a b : Bool) : zI a ^^^ zI b = zI (a ^^ b) := by cases a <;> cases b <;> decide
theorem zI_nar (b : Bool) : narrow .boolean (.int (zI b)) = .int (zI b) := by cases b <;> decide
theorem zI_vnar (b : Bool) : vp_nar .boolean (zI b) = zI b := by cases b <;> decide
theorem zI_fits (b : Bool) : fits .boolean (.int (zI b)) = true := by cases b <;> decide
theorem iI_div {a b : Int} (h : 0 ≤ a ∧ a < 2147483648 ∧ 0 < b ∧ b < 2147483648) : iI a / iI b = iI (a / b) := by
  obtain ⟨h1, h2, h3, h4⟩ := h
  have hq : 0 ≤ a / b := Int.ediv_nonneg h1 (by omega)
  have hq2 : a / b ≤ a := Int.ediv_le_self _ h1
  have e : (iI a / iI b).toInt = a / b := by
    rw [Int32.toInt_div_of_ne_right _ _ (fun e => by
      have := congrArg Int32.toInt e
      rw [iI_toInt (by omega) h4] at this
      have e1 : (-1 : Int32).toInt = -1 := by decide
      omega), iI_toInt (by omega) h2, iI_toInt (by omega) h4, Int.tdiv_eq_ediv_of_nonneg h1]
  rw [← Int32.toInt_inj, e, iI_toInt (by omega) (by omega)]
theorem iI_rem {a b : Int} (h : 0 ≤ a ∧ a < 2147483648 ∧ 0 < b ∧ b < 2147483648) : iI a - iI a / iI b * iI b = iI (a % b) := by
  rw [iI_div h, iI_mul, iI_sub]
  congr 1
  have := Int.emod_add_mul_ediv a b
  rw [Int.mul_comm] at this
  omega
theorem iI_nz {b : Int} (h : 0 < b ∧ b < 2147483648) : ¬ iI b = 0 := by
  rw [iI_0, iI_eq ⟨by omega, by omega, by omega, by omega⟩]
  omega
theorem iI_short {a : Int} (h1 : -32768 ≤ a) (h2 : a < 32768) : (iI a).toInt16.toInt32 = iI a := by
  rw [← Int32.toInt_inj, Int16.toInt_toInt32, iI, Int32.toInt16_ofInt, Int16.toInt_ofInt_of_le (by omega) (by omega), Int32.toInt_ofInt_of_le (by omega) (by omega)]
theorem iI_vshort {a : Int} (h1 : -32768 ≤ a) (h2 : a < 32768) : vp_nar .short (iI a) = iI a := by
  rw [vp_nar_short, iI_short h1 h2]
theorem upd_zI (f : Nat → Bool) (k : Nat) (b : Bool) : upd (fun j => zI (f j)) k (zI b) = fun j => zI (va_up f k b j) := by
  funext j
  simp only [upd, va_up]
  split <;> rfl
theorem upd_iI (f : Nat → Int) (k : Nat) (b : Int) : upd (fun j => iI (f j)) k (iI b) = fun j => iI (va_up f k b j) := by
  funext j
  simp only [upd, va_up]
  split <;> rfl
section TB
variable {p : Program} {l : Launch} {e : Env} {R : Room} {s : State} {m : MethodId} {args : Array Value} {below : List Frame} {meth : Method} {c : Code} {H : Heap} {locs : List Loc} {cells slots : Nat} {Q : State → Prop}
variable {cc : ByteArray} {pc : Nat} {ls : Array Slot} {rest : List Value}
theorem ti_iadd (hx : p.tables.exec = Jvm.exec) (hb : c.code = cc) {a b : Int} (hdg : decode cc pc = .ok (.iadd, 1)) (k : W p l e R s m args below meth c H locs cells slots Q (F0 m (pc + 1) ls (.int (iI (a + b)) :: rest))) : W p l e R s m args below meth c H locs cells slots Q (F0 m pc ls (.int (iI b) :: .int (iI a) :: rest)) := lv_iadd hx hb hdg (by rw [iI_add]; exact k)
theorem ti_isub (hx : p.tables.exec = Jvm.exec) (hb : c.code = cc) {a b : Int} (hdg : decode cc pc = .ok (.isub, 1)) (k : W p l e R s m args below meth c H locs cells slots Q (F0 m (pc + 1) ls (.int (iI (a - b)) :: rest))) : W p l e R s m args below meth c H locs cells slots Q (F0 m pc ls (.int (iI b) :: .int (iI a) :: rest)) := lv_isub hx hb hdg (by rw [iI_sub]; exact k)
theorem ti_imul (hx : p.tables.exec = Jvm.exec) (hb : c.code = cc) {a b : Int} (hdg : decode cc pc = .ok (.imul, 1)) (k : W p l e R s m args below meth c H locs cells slots Q (F0 m (pc + 1) ls (.int (iI (a * b)) :: rest))) : W p l e R s m args below meth c H locs cells slots Q (F0 m pc ls (.int (iI b) :: .int (iI a) :: rest)) := lv_imul hx hb hdg (by rw [iI_mul]; exact k)
theorem ti_ineg (hx : p.tables.exec = Jvm.exec) (hb : c.code = cc) {a : Int} (hdg : decode cc pc = .ok (.ineg, 1)) (k : W p l e R s m args below meth c H locs cells slots Q (F0 m (pc + 1) ls (.int (iI (-a)) :: rest))) : W p l e R s m args below meth c H locs cells slots Q (F0 m pc ls (.int (iI a) :: rest)) := lv_ineg hx hb hdg (by rw [iI_neg]; exact k)
theorem ti_idiv (hx : p.tables.exec = Jvm.exec) (hb : c.code = cc) {a b : Int} (h : 0 ≤ a ∧ a < 2147483648 ∧ 0 < b ∧ b < 2147483648) (hdg : decode cc pc = .ok (.idiv, 1)) (k : W p l e R s m args below meth c H locs cells slots Q (F0 m (pc + 1) ls (.int (iI (a / b)) :: rest))) : W p l e R s m args below meth c H locs cells slots Q (F0 m pc ls (.int (iI b) :: .int (iI a) :: rest)) := lv_idiv hx hb hdg (iI_nz h.2.2) (by rw [iI_div h]; exact k)
theorem ti_irem (hx : p.tables.exec = Jvm.exec) (hb : c.code = cc) {a b : Int} (h : 0 ≤ a ∧ a < 2147483648 ∧ 0 < b ∧ b < 2147483648) (hdg : decode cc pc = .ok (.irem, 1)) (k : W p l e R s m args below meth c H locs cells slots Q (F0 m (pc + 1) ls (.int (iI (a % b)) :: rest))) : W p l e R s m args below meth c H locs cells slots Q (F0 m pc ls (.int (iI b) :: .int (iI a) :: rest)) := lv_irem hx hb hdg (iI_nz h.2.2) (by rw [iI_rem h]; exact k)
theorem tz_iand (hx : p.tables.exec = Jvm.exec) (hb : c.code = cc) {a b : Bool} (hdg : decode cc pc = .ok (.iand, 1)) (k : W p l e R s m args below meth c H locs cells slots Q (F0 m (pc + 1) ls (.int (zI (a && b)) :: rest))) : W p l e R s m args below meth c H locs cells slots Q (F0 m pc ls (.int (zI b) :: .int (zI a) :: rest)) := lv_iand hx hb hdg (by rw [zI_and]; exact k)
theorem tz_ior (hx : p.tables.exec = Jvm.exec) (hb : c.code = cc) {a b : Bool} (hdg : decode cc pc = .ok (.ior, 1)) (k : W p l e R s m args below meth c H locs cells slots Q (F0 m (pc + 1) ls (.int (zI (a || b)) :: rest))) : W p l e R s m args below meth c H locs cells slots Q (F0 m pc ls (.int (zI b) :: .int (zI a) :: rest)) := lv_ior hx hb hdg (by rw [zI_or]; exact k)
theorem ti_i2s (hx : p.tables.exec = Jvm.exec) (hb : c.code = cc) {a : Int} (h : -32768 ≤ a ∧ a < 32768) (hdg : decode cc pc = .ok (.i2s, 1)) (k : W p l e R s m args below meth c H locs cells slots Q (F0 m (pc + 1) ls (.int (iI a) :: rest))) : W p l e R s m args below meth c H locs cells slots Q (F0 m pc ls (.int (iI a) :: rest)) := lv_i2s hx hb hdg (iI_short h.1 h.2) k
theorem ti_iinc (hx : p.tables.exec = Jvm.exec) (hb : c.code = cc) {i nL k : Nat} {n : Int} {a : Int} {lv lv' : List (Nat × Value)} (hdg : decode cc pc = .ok (.iinc i n, 3)) (h : lv_has ls nL lv) (hk : lv[k]? = some (i, .int (iI a))) (hn : i < nL) (hl : (i, Value.int (iI (a + n))) :: lv.filter (fun q => !(q.1 == i) && !(q.1 + 1 == i && q.2.category == 2)) = lv')
    (kk : ∀ ls' : Array Slot, lv_has ls' nL lv' → W p l e R s m args below meth c H locs cells slots Q (F0 m (pc + 3) ls' rest)) : W p l e R s m args below meth c H locs cells slots Q (F0 m pc ls rest) := lv_iinc hx hb hdg h hk (show iI a + iI n = _ from iI_add a n) hn hl kk
theorem ti_icmp_eq (hx : p.tables.exec = Jvm.exec) (hb : c.code = cc) {a b : Int} {off : Int} {tgt : Nat} (h : -2147483648 ≤ a ∧ a < 2147483648 ∧ -2147483648 ≤ b ∧ b < 2147483648) (hdg : decode cc pc = .ok (.if_icmp .eq off, 3)) (ht : (pc : Int) + off = (tgt : Int)) (kt : a = b → W p l e R s m args below meth c H locs cells slots Q (F0 m tgt ls rest)) (kf : a ≠ b → W p l e R s m args below meth c H locs cells slots Q (F0 m (pc + 3) ls rest)) : W p l e R s m args below meth c H locs cells slots Q (F0 m pc ls (.int (iI b) :: .int (iI a) :: rest)) := by
  have h' : -2147483648 ≤ b ∧ b < 2147483648 ∧ -2147483648 ≤ a ∧ a < 2147483648 := ⟨h.2.2.1, h.2.2.2, h.1, h.2.1⟩
  refine lv_icmp_eq hx hb hdg ht (fun q => kt ?_) (fun q => kf ?_)
  · first | (rw [iI_lt h] at q) | (rw [iI_le h] at q) | (rw [iI_lt h'] at q) | (rw [iI_le h'] at q) | (rw [ne_eq, iI_eq h] at q) | (rw [iI_eq h] at q)
    omega
  · first | (rw [iI_lt h] at q) | (rw [iI_le h] at q) | (rw [iI_lt h'] at q) | (rw [iI_le h'] at q) | (rw [iI_eq h] at q) | (rw [ne_eq, iI_eq h] at q)
    omega
theorem ti_icmp_ne (hx : p.tables.exec = Jvm.exec) (hb : c.code = cc) {a b : Int} {off : Int} {tgt : Nat} (h : -2147483648 ≤ a ∧ a < 2147483648 ∧ -2147483648 ≤ b ∧ b < 2147483648) (hdg : decode cc pc = .ok (.if_icmp .ne off, 3)) (ht : (pc : Int) + off = (tgt : Int)) (kt : a ≠ b → W p l e R s m args below meth c H locs cells slots Q (F0 m tgt ls rest)) (kf : a = b → W p l e R s m args below meth c H locs cells slots Q (F0 m (pc + 3) ls rest)) : W p l e R s m args below meth c H locs cells slots Q (F0 m pc ls (.int (iI b) :: .int (iI a) :: rest)) := by
  have h' : -2147483648 ≤ b ∧ b < 2147483648 ∧ -2147483648 ≤ a ∧ a < 2147483648 := ⟨h.2.2.1, h.2.2.2, h.1, h.2.1⟩
  refine lv_icmp_ne hx hb hdg ht (fun q => kt ?_) (fun q => kf ?_)
  · first | (rw [iI_lt h] at q) | (rw [iI_le h] at q) | (rw [iI_lt h'] at q) | (rw [iI_le h'] at q) | (rw [ne_eq, iI_eq h] at q) | (rw [iI_eq h] at q)
    omega
  · first | (rw [iI_lt h] at q) | (rw [iI_le h] at q) | (rw [iI_lt h'] at q) | (rw [iI_le h'] at q) | (rw [iI_eq h] at q) | (rw [ne_eq, iI_eq h] at q)
    omega
theorem ti_icmp_lt (hx : p.tables.exec = Jvm.exec) (hb : c.code = cc) {a b : Int} {off : Int} {tgt : Nat} (h : -2147483648 ≤ a ∧ a < 2147483648 ∧ -2147483648 ≤ b ∧ b < 2147483648) (hdg : decode cc pc = .ok (.if_icmp .lt off, 3)) (ht : (pc : Int) + off = (tgt : Int)) (kt : a < b → W p l e R s m args below meth c H locs cells slots Q (F0 m tgt ls rest)) (kf : b ≤ a → W p l e R s m args below meth c H locs cells slots Q (F0 m (pc + 3) ls rest)) : W p l e R s m args below meth c H locs cells slots Q (F0 m pc ls (.int (iI b) :: .int (iI a) :: rest)) := by
  have h' : -2147483648 ≤ b ∧ b < 2147483648 ∧ -2147483648 ≤ a ∧ a < 2147483648 := ⟨h.2.2.1, h.2.2.2, h.1, h.2.1⟩
  refine lv_icmp_lt hx hb hdg ht (fun q => kt ?_) (fun q => kf ?_)
  · first | (rw [iI_lt h] at q) | (rw [iI_le h] at q) | (rw [iI_lt h'] at q) | (rw [iI_le h'] at q) | (rw [ne_eq, iI_eq h] at q) | (rw [iI_eq h] at q)
    omega
  · first | (rw [iI_lt h] at q) | (rw [iI_le h] at q) | (rw [iI_lt h'] at q) | (rw [iI_le h'] at q) | (rw [iI_eq h] at q) | (rw [ne_eq, iI_eq h] at q)
    omega
theorem ti_icmp_ge (hx : p.tables.exec = Jvm.exec) (hb : c.code = cc) {a b : Int} {off : Int} {tgt : Nat} (h : -2147483648 ≤ a ∧ a < 2147483648 ∧ -2147483648 ≤ b ∧ b < 2147483648) (hdg : decode cc pc = .ok (.if_icmp .ge off, 3)) (ht : (pc : Int) + off = (tgt : Int)) (kt : b ≤ a → W p l e R s m args below meth c H locs cells slots Q (F0 m tgt ls rest)) (kf : a < b → W p l e R s m args below meth c H locs cells slots Q (F0 m (pc + 3) ls rest)) : W p l e R s m args below meth c H locs cells slots Q (F0 m pc ls (.int (iI b) :: .int (iI a) :: rest)) := by
  have h' : -2147483648 ≤ b ∧ b < 2147483648 ∧ -2147483648 ≤ a ∧ a < 2147483648 := ⟨h.2.2.1, h.2.2.2, h.1, h.2.1⟩
  refine lv_icmp_ge hx hb hdg ht (fun q => kt ?_) (fun q => kf ?_)
  · first | (rw [iI_lt h] at q) | (rw [iI_le h] at q) | (rw [iI_lt h'] at q) | (rw [iI_le h'] at q) | (rw [ne_eq, iI_eq h] at q) | (rw [iI_eq h] at q)
    omega
  · first | (rw [iI_lt h] at q) | (rw [iI_le h] at q) | (rw [iI_lt h'] at q) | (rw [iI_le h'] at q) | (rw [iI_eq h] at q) | (rw [ne_eq, iI_eq h] at q)
    omega
theorem ti_icmp_gt (hx : p.tables.exec = Jvm.exec) (hb : c.code = cc) {a b : Int} {off : Int} {tgt : Nat} (h : -2147483648 ≤ a ∧ a < 2147483648 ∧ -2147483648 ≤ b ∧ b < 2147483648) (hdg : decode cc pc = .ok (.if_icmp .gt off, 3)) (ht : (pc : Int) + off = (tgt : Int)) (kt : b < a → W p l e R s m args below meth c H locs cells slots Q (F0 m tgt ls rest)) (kf : a ≤ b → W p l e R s m args below meth c H locs cells slots Q (F0 m (pc + 3) ls rest)) : W p l e R s m args below meth c H locs cells slots Q (F0 m pc ls (.int (iI b) :: .int (iI a) :: rest)) := by
  have h' : -2147483648 ≤ b ∧ b < 2147483648 ∧ -2147483648 ≤ a ∧ a < 2147483648 := ⟨h.2.2.1, h.2.2.2, h.1, h.2.1⟩
  refine lv_icmp_gt hx hb hdg ht (fun q => kt ?_) (fun q => kf ?_)
  · first | (rw [iI_lt h] at q) | (rw [iI_le h] at q) | (rw [iI_lt h'] at q) | (rw [iI_le h'] at q) | (rw [ne_eq, iI_eq h] at q) | (rw [iI_eq h] at q)
    omega
  · first | (rw [iI_lt h] at q) | (rw [iI_le h] at q) | (rw [iI_lt h'] at q) | (rw [iI_le h'] at q) | (rw [iI_eq h] at q) | (rw [ne_eq, iI_eq h] at q)
    omega
theorem ti_icmp_le (hx : p.tables.exec = Jvm.exec) (hb : c.code = cc) {a b : Int} {off : Int} {tgt : Nat} (h : -2147483648 ≤ a ∧ a < 2147483648 ∧ -2147483648 ≤ b ∧ b < 2147483648) (hdg : decode cc pc = .ok (.if_icmp .le off, 3)) (ht : (pc : Int) + off = (tgt : Int)) (kt : a ≤ b → W p l e R s m args below meth c H locs cells slots Q (F0 m tgt ls rest)) (kf : b < a → W p l e R s m args below meth c H locs cells slots Q (F0 m (pc + 3) ls rest)) : W p l e R s m args below meth c H locs cells slots Q (F0 m pc ls (.int (iI b) :: .int (iI a) :: rest)) := by
  have h' : -2147483648 ≤ b ∧ b < 2147483648 ∧ -2147483648 ≤ a ∧ a < 2147483648 := ⟨h.2.2.1, h.2.2.2, h.1, h.2.1⟩
  refine lv_icmp_le hx hb hdg ht (fun q => kt ?_) (fun q => kf ?_)
  · first | (rw [iI_lt h] at q) | (rw [iI_le h] at q) | (rw [iI_lt h'] at q) | (rw [iI_le h'] at q) | (rw [ne_eq, iI_eq h] at q) | (rw [iI_eq h] at q)
    omega
  · first | (rw [iI_lt h] at q) | (rw [iI_le h] at q) | (rw [iI_lt h'] at q) | (rw [iI_le h'] at q) | (rw [iI_eq h] at q) | (rw [ne_eq, iI_eq h] at q)
    omega
theorem ti_if_eq (hx : p.tables.exec = Jvm.exec) (hb : c.code = cc) {a : Int} {off : Int} {tgt : Nat} (h : -2147483648 ≤ a ∧ a < 2147483648) (hdg : decode cc pc = .ok (.ifCond .eq off, 3)) (ht : (pc : Int) + off = (tgt : Int)) (kt : a = 0 → W p l e R s m args below meth c H locs cells slots Q (F0 m tgt ls rest)) (kf : a ≠ 0 → W p l e R s m args below meth c H locs cells slots Q (F0 m (pc + 3) ls rest)) : W p l e R s m args below meth c H locs cells slots Q (F0 m pc ls (.int (iI a) :: rest)) := by
  have h1 : -2147483648 ≤ a ∧ a < 2147483648 ∧ -2147483648 ≤ (0 : Int) ∧ (0 : Int) < 2147483648 := ⟨h.1, h.2, by decide, by decide⟩
  have h' : -2147483648 ≤ (0 : Int) ∧ (0 : Int) < 2147483648 ∧ -2147483648 ≤ a ∧ a < 2147483648 := ⟨by decide, by decide, h.1, h.2⟩
  refine lv_if_eq hx hb hdg ht (fun q => kt ?_) (fun q => kf ?_)
  · rw [iI_0] at q
    first | (rw [iI_lt h1] at q) | (rw [iI_le h1] at q) | (rw [iI_lt h'] at q) | (rw [iI_le h'] at q) | (rw [ne_eq, iI_eq h1] at q) | (rw [iI_eq h1] at q)
    omega
  · rw [iI_0] at q
    first | (rw [iI_lt h1] at q) | (rw [iI_le h1] at q) | (rw [iI_lt h'] at q) | (rw [iI_le h'] at q) | (rw [iI_eq h1] at q) | (rw [ne_eq, iI_eq h1] at q)
    omega
theorem ti_if_ne (hx : p.tables.exec = Jvm.exec) (hb : c.code = cc) {a : Int} {off : Int} {tgt : Nat} (h : -2147483648 ≤ a ∧ a < 2147483648) (hdg : decode cc pc = .ok (.ifCond .ne off, 3)) (ht : (pc : Int) + off = (tgt : Int)) (kt : a ≠ 0 → W p l e R s m args below meth c H locs cells slots Q (F0 m tgt ls rest)) (kf : a = 0 → W p l e R s m args below meth c H locs cells slots Q (F0 m (pc + 3) ls rest)) : W p l e R s m args below meth c H locs cells slots Q (F0 m pc ls (.int (iI a) :: rest)) := by
  have h1 : -2147483648 ≤ a ∧ a < 2147483648 ∧ -2147483648 ≤ (0 : Int) ∧ (0 : Int) < 2147483648 := ⟨h.1, h.2, by decide, by decide⟩
  have h' : -2147483648 ≤ (0 : Int) ∧ (0 : Int) < 2147483648 ∧ -2147483648 ≤ a ∧ a < 2147483648 := ⟨by decide, by decide, h.1, h.2⟩
  refine lv_if_ne hx hb hdg ht (fun q => kt ?_) (fun q => kf ?_)
  · rw [iI_0] at q
    first | (rw [iI_lt h1] at q) | (rw [iI_le h1] at q) | (rw [iI_lt h'] at q) | (rw [iI_le h'] at q) | (rw [ne_eq, iI_eq h1] at q) | (rw [iI_eq h1] at q)
    omega
  · rw [iI_0] at q
    first | (rw [iI_lt h1] at q) | (rw [iI_le h1] at q) | (rw [iI_lt h'] at q) | (rw [iI_le h'] at q) | (rw [iI_eq h1] at q) | (rw [ne_eq, iI_eq h1] at q)
    omega
theorem ti_if_lt (hx : p.tables.exec = Jvm.exec) (hb : c.code = cc) {a : Int} {off : Int} {tgt : Nat} (h : -2147483648 ≤ a ∧ a < 2147483648) (hdg : decode cc pc = .ok (.ifCond .lt off, 3)) (ht : (pc : Int) + off = (tgt : Int)) (kt : a < 0 → W p l e R s m args below meth c H locs cells slots Q (F0 m tgt ls rest)) (kf : 0 ≤ a → W p l e R s m args below meth c H locs cells slots Q (F0 m (pc + 3) ls rest)) : W p l e R s m args below meth c H locs cells slots Q (F0 m pc ls (.int (iI a) :: rest)) := by
  have h1 : -2147483648 ≤ a ∧ a < 2147483648 ∧ -2147483648 ≤ (0 : Int) ∧ (0 : Int) < 2147483648 := ⟨h.1, h.2, by decide, by decide⟩
  have h' : -2147483648 ≤ (0 : Int) ∧ (0 : Int) < 2147483648 ∧ -2147483648 ≤ a ∧ a < 2147483648 := ⟨by decide, by decide, h.1, h.2⟩
  refine lv_if_lt hx hb hdg ht (fun q => kt ?_) (fun q => kf ?_)
  · rw [iI_0] at q
    first | (rw [iI_lt h1] at q) | (rw [iI_le h1] at q) | (rw [iI_lt h'] at q) | (rw [iI_le h'] at q) | (rw [ne_eq, iI_eq h1] at q) | (rw [iI_eq h1] at q)
    omega
  · rw [iI_0] at q
    first | (rw [iI_lt h1] at q) | (rw [iI_le h1] at q) | (rw [iI_lt h'] at q) | (rw [iI_le h'] at q) | (rw [iI_eq h1] at q) | (rw [ne_eq, iI_eq h1] at q)
    omega
theorem ti_if_ge (hx : p.tables.exec = Jvm.exec) (hb : c.code = cc) {a : Int} {off : Int} {tgt : Nat} (h : -2147483648 ≤ a ∧ a < 2147483648) (hdg : decode cc pc = .ok (.ifCond .ge off, 3)) (ht : (pc : Int) + off = (tgt : Int)) (kt : 0 ≤ a → W p l e R s m args below meth c H locs cells slots Q (F0 m tgt ls rest)) (kf : a < 0 → W p l e R s m args below meth c H locs cells slots Q (F0 m (pc + 3) ls rest)) : W p l e R s m args below meth c H locs cells slots Q (F0 m pc ls (.int (iI a) :: rest)) := by
  have h1 : -2147483648 ≤ a ∧ a < 2147483648 ∧ -2147483648 ≤ (0 : Int) ∧ (0 : Int) < 2147483648 := ⟨h.1, h.2, by decide, by decide⟩
  have h' : -2147483648 ≤ (0 : Int) ∧ (0 : Int) < 2147483648 ∧ -2147483648 ≤ a ∧ a < 2147483648 := ⟨by decide, by decide, h.1, h.2⟩
  refine lv_if_ge hx hb hdg ht (fun q => kt ?_) (fun q => kf ?_)
  · rw [iI_0] at q
    first | (rw [iI_lt h1] at q) | (rw [iI_le h1] at q) | (rw [iI_lt h'] at q) | (rw [iI_le h'] at q) | (rw [ne_eq, iI_eq h1] at q) | (rw [iI_eq h1] at q)
    omega
  · rw [iI_0] at q
    first | (rw [iI_lt h1] at q) | (rw [iI_le h1] at q) | (rw [iI_lt h'] at q) | (rw [iI_le h'] at q) | (rw [iI_eq h1] at q) | (rw [ne_eq, iI_eq h1] at q)
    omega
theorem ti_if_gt (hx : p.tables.exec = Jvm.exec) (hb : c.code = cc) {a : Int} {off : Int} {tgt : Nat} (h : -2147483648 ≤ a ∧ a < 2147483648) (hdg : decode cc pc = .ok (.ifCond .gt off, 3)) (ht : (pc : Int) + off = (tgt : Int)) (kt : 0 < a → W p l e R s m args below meth c H locs cells slots Q (F0 m tgt ls rest)) (kf : a ≤ 0 → W p l e R s m args below meth c H locs cells slots Q (F0 m (pc + 3) ls rest)) : W p l e R s m args below meth c H locs cells slots Q (F0 m pc ls (.int (iI a) :: rest)) := by
  have h1 : -2147483648 ≤ a ∧ a < 2147483648 ∧ -2147483648 ≤ (0 : Int) ∧ (0 : Int) < 2147483648 := ⟨h.1, h.2, by decide, by decide⟩
  have h' : -2147483648 ≤ (0 : Int) ∧ (0 : Int) < 2147483648 ∧ -2147483648 ≤ a ∧ a < 2147483648 := ⟨by decide, by decide, h.1, h.2⟩
  refine lv_if_gt hx hb hdg ht (fun q => kt ?_) (fun q => kf ?_)
  · rw [iI_0] at q
    first | (rw [iI_lt h1] at q) | (rw [iI_le h1] at q) | (rw [iI_lt h'] at q) | (rw [iI_le h'] at q) | (rw [ne_eq, iI_eq h1] at q) | (rw [iI_eq h1] at q)
    omega
  · rw [iI_0] at q
    first | (rw [iI_lt h1] at q) | (rw [iI_le h1] at q) | (rw [iI_lt h'] at q) | (rw [iI_le h'] at q) | (rw [iI_eq h1] at q) | (rw [ne_eq, iI_eq h1] at q)
    omega
theorem ti_if_le (hx : p.tables.exec = Jvm.exec) (hb : c.code = cc) {a : Int} {off : Int} {tgt : Nat} (h : -2147483648 ≤ a ∧ a < 2147483648) (hdg : decode cc pc = .ok (.ifCond .le off, 3)) (ht : (pc : Int) + off = (tgt : Int)) (kt : a ≤ 0 → W p l e R s m args below meth c H locs cells slots Q (F0 m tgt ls rest)) (kf : 0 < a → W p l e R s m args below meth c H locs cells slots Q (F0 m (pc + 3) ls rest)) : W p l e R s m args below meth c H locs cells slots Q (F0 m pc ls (.int (iI a) :: rest)) := by
  have h1 : -2147483648 ≤ a ∧ a < 2147483648 ∧ -2147483648 ≤ (0 : Int) ∧ (0 : Int) < 2147483648 := ⟨h.1, h.2, by decide, by decide⟩
  have h' : -2147483648 ≤ (0 : Int) ∧ (0 : Int) < 2147483648 ∧ -2147483648 ≤ a ∧ a < 2147483648 := ⟨by decide, by decide, h.1, h.2⟩
  refine lv_if_le hx hb hdg ht (fun q => kt ?_) (fun q => kf ?_)
  · rw [iI_0] at q
    first | (rw [iI_lt h1] at q) | (rw [iI_le h1] at q) | (rw [iI_lt h'] at q) | (rw [iI_le h'] at q) | (rw [ne_eq, iI_eq h1] at q) | (rw [iI_eq h1] at q)
    omega
  · rw [iI_0] at q
    first | (rw [iI_lt h1] at q) | (rw [iI_le h1] at q) | (rw [iI_lt h'] at q) | (rw [iI_le h'] at q) | (rw [iI_eq h1] at q) | (rw [ne_eq, iI_eq h1] at q)
    omega
theorem tz_if_eq (hx : p.tables.exec = Jvm.exec) (hb : c.code = cc) {a : Bool} {off : Int} {tgt : Nat} (hdg : decode cc pc = .ok (.ifCond .eq off, 3)) (ht : (pc : Int) + off = (tgt : Int)) (kt : a = false → W p l e R s m args below meth c H locs cells slots Q (F0 m tgt ls rest)) (kf : a = true → W p l e R s m args below meth c H locs cells slots Q (F0 m (pc + 3) ls rest)) : W p l e R s m args below meth c H locs cells slots Q (F0 m pc ls (.int (zI a) :: rest)) := by
  refine lv_if_eq hx hb hdg ht (fun q => kt ?_) (fun q => kf ?_)
  · first | (rw [ne_eq, zI_nz] at q) | (rw [zI_nz] at q)
    cases a <;> simp_all
  · first | (rw [zI_nz] at q) | (rw [ne_eq, zI_nz] at q)
    cases a <;> simp_all
theorem tz_if_ne (hx : p.tables.exec = Jvm.exec) (hb : c.code = cc) {a : Bool} {off : Int} {tgt : Nat} (hdg : decode cc pc = .ok (.ifCond .ne off, 3)) (ht : (pc : Int) + off = (tgt : Int)) (kt : a = true → W p l e R s m args below meth c H locs cells slots Q (F0 m tgt ls rest)) (kf : a = false → W p l e R s m args below meth c H locs cells slots Q (F0 m (pc + 3) ls rest)) : W p l e R s m args below meth c H locs cells slots Q (F0 m pc ls (.int (zI a) :: rest)) := by
  refine lv_if_ne hx hb hdg ht (fun q => kt ?_) (fun q => kf ?_)
  · first | (rw [ne_eq, zI_nz] at q) | (rw [zI_nz] at q)
    cases a <;> simp_all
  · first | (rw [zI_nz] at q) | (rw [ne_eq, zI_nz] at q)
    cases a <;> simp_all
theorem tz_icmp_eq (hx : p.tables.exec = Jvm.exec) (hb : c.code = cc) {a b : Bool} {off : Int} {tgt : Nat} (hdg : decode cc pc = .ok (.if_icmp .eq off, 3)) (ht : (pc : Int) + off = (tgt : Int)) (kt : a = b → W p l e R s m args below meth c H locs cells slots Q (F0 m tgt ls rest)) (kf : a ≠ b → W p l e R s m args below meth c H locs cells slots Q (F0 m (pc + 3) ls rest)) : W p l e R s m args below meth c H locs cells slots Q (F0 m pc ls (.int (zI b) :: .int (zI a) :: rest)) := by
  refine lv_icmp_eq hx hb hdg ht (fun q => kt ?_) (fun q => kf ?_)
  · first | (rw [ne_eq, zI_inj] at q) | (rw [zI_inj] at q)
    simp_all
  · first | (rw [zI_inj] at q) | (rw [ne_eq, zI_inj] at q)
    simp_all
theorem tz_icmp_ne (hx : p.tables.exec = Jvm.exec) (hb : c.code = cc) {a b : Bool} {off : Int} {tgt : Nat} (hdg : decode cc pc = .ok (.if_icmp .ne off, 3)) (ht : (pc : Int) + off = (tgt : Int)) (kt : a ≠ b → W p l e R s m args below meth c H locs cells slots Q (F0 m tgt ls rest)) (kf : a = b → W p l e R s m args below meth c H locs cells slots Q (F0 m (pc + 3) ls rest)) : W p l e R s m args below meth c H locs cells slots Q (F0 m pc ls (.int (zI b) :: .int (zI a) :: rest)) := by
  refine lv_icmp_ne hx hb hdg ht (fun q => kt ?_) (fun q => kf ?_)
  · first | (rw [ne_eq, zI_inj] at q) | (rw [zI_inj] at q)
    simp_all
  · first | (rw [zI_inj] at q) | (rw [ne_eq, zI_inj] at q)
    simp_all
end TB
/-! ===== the world: the classes, the array classes, what stands still ===== -/
abbrev TG : Type := va_G × (Nat → ClassId)
abbrev TE : Type := (Nat → Nat) × (Nat → Nat) × Nat × Nat × Nat × ClassId
abbrev clAll : List vw_C := [(RX3, TX3, 9), (RX1, TX1, 2), (RX2, TX2, 3), (RJ0, TJ0, 3), (RJ20, TJ20, 3), (RJ17, TJ17, 1), (RJ24, TJ24, 4), (RJ25, TJ25, 3), (RX5, TX5, 2), (RJ27, TJ27, 5)]
abbrev tyAll (D : TG) : List (ClassId × FieldType) := [(D.2 0, .boolean), (D.2 1, .int), (D.2 2, .long), (D.2 3, .short), (D.2 4, .array .short), (D.2 5, .object "java/lang/Object"), (D.2 6, .object "TufaSteps$Way")]
abbrev tK (D : TG) (U : State) : Prop := va_K D.1 clAll (tyAll D) U
/-- words of the tables that don't ride in lw_all, but hold all through a run -/
def tNok (w : Cond) : Bool := match w with
  | .fieldLinkNest _ _ _ _ _ _ => true
  | .methodLinkNest _ _ _ _ => true
  | .castable _ _ => true
  | .declares _ => true
  | _ => false
theorem tNok.warm {w : Cond} (h : tNok w = true) {s U : State} (hW : s.WarmedH U.vm) (hw : va_Nw w s) : va_Nw w U := by
  unfold tNok at h
  split at h
  · exact va_Nw.warmF hW hw
  · exact va_Nw.warmM hW hw
  · exact va_Nw.warmC hW hw
  · exact va_Nw.warmD hW hw
  · cases h
theorem tNok.tab {w : Cond} (h : tNok w = true) : w.onTables = true := by
  unfold tNok at h
  split at h
  · rfl
  · rfl
  · rfl
  · rfl
  · cases h
def tN (U : State) : Prop := ∀ w ∈ lw_tbl, tNok w = true → va_Nw w U
def tWay (k : Nat) : String := match k with
  | 0 => "TufaSteps$Way$1"
  | 1 => "TufaSteps$Way$2"
  | 2 => "TufaSteps$Way$3"
  | _ => "TufaSteps$Way$4"
/-- the pen's site: what it captures, what it calls -/
def tSh : Lambda.Shape := { iface := "TufaSteps$Pen", name := "draw", sam := ⟨[.int, .int], none⟩, captured := [.object "TufaSteps$Picture", .boolean], kind := 5, implClass := "TufaSteps$Picture", implName := "lambda$pen$0", implDesc := ⟨[.boolean, .int, .int], none⟩, implItf := false, inst := ⟨[.int, .int], none⟩ }
def tPen : MethodName := ⟨"TufaSteps$Picture", "pen", "(Z)LTufaSteps$Pen;"⟩
/-- the pen's site makes objects of the class c -/
def tLam (c : ClassId) (U : State) : Prop := U.lambdaAt? tPen 2 70 tSh = some (c, none)
theorem tLam.moved {c : ClassId} {s t : State} (hW : s.WarmedH t.vm) (h : tLam c s) : tLam c t := by
  obtain ⟨m, kc, cf, i0, p0, l, hm, hk, hcf, hsh, hin, hfind, hmade, hcall, hl⟩ := State.lambdaAt?_spec h
  obtain ⟨m2, k2, hm2, hk2, hjdk, howes⟩ := State.lambdaAt?_road h
  cases hm.symm.trans hm2
  cases hk.symm.trans hk2
  rcases hl with ⟨_, _, -, e, -⟩ | ⟨rfl, -, hcap⟩
  · cases e
  obtain ⟨kt, hkt, he⟩ := hW.alike.2.2 _ _ hk
  have a1 : t.methodNamed? tPen = some m := (State.methodNamed?_setVm (s := s) hW.alike tPen).trans hm
  have a2 : kt.cf = some cf := by rw [he]; exact hcf
  have hin' : (m.idx, 2, 70, tSh) ∈ Lambda.sitesOf kt := by rw [he]; exact hin
  have a3 : ((Lambda.sitesOf kt).any fun y => decide (y = (m.idx, 2, 70, tSh))) = true := by simpa using hin'
  have a4 : (kt.callSites.find? fun y => y.1 == m.idx && y.2.1 == 2) = some (i0, p0, .makes c) := by rw [he]; exact hfind
  have a5 := Lambda.isMade_warmer hW hmade
  have a6 : t.lambdaCallable tSh c = true := by
    simp only [State.lambdaCallable, hW.alike.findClass, hW.alike.assignable, hW.alike.superclasses, hW.alike.declaredIn] at hcall ⊢
    exact hcall
  have a7 : jdkName kt.name = false := by rw [he]; exact hjdk
  have a8 : (t.vm.findClass tSh.iface).bind (Lambda.owesInit t.vm) = none := by
    rw [hW.alike.findClass]
    cases hfi : s.vm.findClass tSh.iface with
    | none => rfl
    | some i => rw [hfi] at howes; simpa [Lambda.owesInit_alike hW.alike] using howes
  unfold tLam
  simp [State.lambdaAt?, guard, a1, hkt, a2, hsh, a7, a8, a3, a4, hcap, a5, a6]
theorem tLam.same {c : ClassId} {s t : State} (hvm : s.vm = t.vm) (h : tLam c s) : tLam c t := by
  obtain ⟨m, kc, cf, i0, p0, l, hm, hk, hcf, hsh, hin, hfind, hmade, hcall, hl⟩ := State.lambdaAt?_spec h
  obtain ⟨m2, k2, hm2, hk2, hjdk, howes⟩ := State.lambdaAt?_road h
  cases hm.symm.trans hm2
  cases hk.symm.trans hk2
  rcases hl with ⟨_, _, -, e, -⟩ | ⟨rfl, -, hcap⟩
  · cases e
  have hA : s.vm.Alike t.vm := by rw [hvm]; exact Vm.Alike.refl _
  have a1 : t.methodNamed? tPen = some m := (State.methodNamed?_setVm (s := s) hA tPen).trans hm
  have a3 : ((Lambda.sitesOf kc).any fun y => decide (y = (m.idx, 2, 70, tSh))) = true := by simpa using hin
  have a6 : t.lambdaCallable tSh c = true := by
    simp only [State.lambdaCallable] at hcall ⊢
    rw [← hvm]; exact hcall
  rw [hvm] at hk howes hmade
  unfold tLam
  simp [State.lambdaAt?, guard, a1, hk, hcf, hsh, hjdk, howes, a3, hfind, hcap, hmade, a6]
/-- what the tables say beside, and no other reader carries: the list's iterator behind its interface, arrays of arrays of shorts, the pen's interface -/
def tItH : MethodName := ⟨"java/util/Iterator", "hasNext", "()Z"⟩
def tItN : MethodName := ⟨"java/util/Iterator", "next", "()Ljava/lang/Object;"⟩
def tPenD : MethodName := ⟨"TufaSteps$Pen", "draw", "(II)V"⟩
def tAO2 (U : State) : Prop := (Cond.arrayOver (.array .short)).before #[] U = true
theorem tAO2.moved {u U : State} (hvm : u.vm.Alike U.vm) (h : tAO2 u) : tAO2 U := by
  unfold tAO2 Cond.before Cond.holds at h
  simp only [Cond.value, beq_iff_eq] at h
  cases hc : u.vm.findClass (FieldType.array .short).toString with
  | none => simp [hc] at h
  | some comp =>
    simp only [hc, Option.bind_some, Option.bind_eq_some_iff, Option.map_eq_some_iff] at h
    obtain ⟨c, hi, k, hk, hb⟩ := h
    obtain ⟨k', hk', he⟩ := hvm.2.2 _ _ hk
    have hbr : U.vm.bare = u.vm.bare := by first | exact hvm.bare_eq | exact hvm.bare_eq.symm
    have hi1 := (va_idx_bare U.vm comp).symm
    rw [hbr] at hi1
    have hi2 := hi1.trans ((va_idx_bare u.vm comp).trans hi)
    have f1 : U.vm.findClass (FieldType.array .short).toString = some comp := by rw [hvm.findClass]; exact hc
    have f2 : U.vm.findClass ("[" ++ (FieldType.array .short).toString) = u.vm.findClass ("[" ++ (FieldType.array .short).toString) := by rw [hvm.findClass]
    unfold tAO2 Cond.before Cond.holds
    simp only [Cond.value]
    rw [f1, Option.bind_some]
    refine (congrArg (fun o : Option Nat => (o.bind (fun c => (U.vm.classes[c]?).map fun (k : Class) => match k.kind with | .array _ ty => decide (ty = FieldType.array .short) && decide (U.vm.findClass ("[" ++ (FieldType.array .short).toString) = some c) | _ => false) == some true)) hi2).trans ?_
    have hkk : k'.kind = k.kind := by rw [he]
    simp only [Option.bind_some, hk', Option.map_some, hkk, f2, beq_iff_eq, Option.some.injEq]
    exact hb
def tPf (U : State) : Prop := (Cond.declares tPenD).before #[] U = true ∧ (Cond.interfaceMethod "TufaSteps$Pen" "TufaSteps$Pen" "draw" "(II)V").before #[] U = true
theorem tPf.moved {u U : State} (hvm : u.vm.Alike U.vm) (h : tPf u) : tPf U := by
  obtain ⟨h1, h2⟩ := h
  obtain ⟨r, meth, hn, -⟩ := Cond.declares_spec h1
  have tr : ∀ {c : Cond}, c.onTables = true → c.before #[] (u.setVm U.vm) = true → c.before #[] U = true := by
    intro c hc h
    have e := Cond.onTables_vm (A := #[]) (A' := #[]) (U := u) (U' := U) U.vm c hc
    have hU : U.setVm U.vm = U := rfl
    rw [hU] at e
    rw [← e]
    exact h
  exact ⟨tr rfl (by rw [Cond.declares_setVm hvm]; exact h1), tr rfl (by rw [Cond.interfaceMethod_setVm hvm (r := r) hn (by decide)]; exact h2)⟩
def tTb (U : State) : Prop := va_Fw "java/util/LinkedList$ListItr" tItH ⟨"java/util/LinkedList$ListItr", "hasNext", "()Z"⟩ U ∧ va_Fw "java/util/LinkedList$ListItr" tItN ⟨"java/util/LinkedList$ListItr", "next", "()Ljava/lang/Object;"⟩ U ∧ tAO2 U ∧ tPf U
theorem tTb.moved {u U : State} (hvm : u.vm.Alike U.vm) (h : tTb u) : tTb U := ⟨h.1.moved (by decide) hvm, h.2.1.moved (by decide) hvm, h.2.2.1.moved hvm, h.2.2.2.moved hvm⟩
/-- the array of the ways: just four places, its class the one of that name -/
def tWv (t : Nat) (f : Nat → Nat) (A : Nat → Prop) (U : State) (H : Heap) : Prop := ∃ cell : Cell, H[t]? = some cell ∧ U.isArrayOf cell (.object "TufaSteps$Way") ∧ cell.vm ≠ .unknown ∧ U.vm.findClass "[LTufaSteps$Way;" = some cell.cls ∧ cell.slots.size = 4 ∧ (∀ j : Nat, j < 4 → cell.slots[j]? = some (.ref (f j))) ∧ ¬ A t
theorem tWv.moved {t : Nat} {f : Nat → Nat} {A : Nat → Prop} {u U : State} {H : Heap} (hvm : u.vm.Alike U.vm) (h : tWv t f A u H) : tWv t f A U H := by
  obtain ⟨cell, h1, h2, h3, h4, h5⟩ := h
  exact ⟨cell, h1, State.isArrayOf_alike hvm h2, h3, by rw [hvm.findClass]; exact h4, h5⟩
theorem tWv.kept {t : Nat} {f : Nat → Nat} {A : Nat → Prop} {U : State} {H H1 : Heap} (h : tWv t f A U H) (hq : ∀ a : Nat, a < H.size → ¬ A a → H1[a]? = H[a]?) : tWv t f A U H1 := by
  obtain ⟨cell, h1, h2, h3, h4, h5, h6, h7⟩ := h
  exact ⟨cell, by rw [hq t (Array.getElem?_eq_some_iff.mp h1).1 h7]; exact h1, h2, h3, h4, h5, h6, h7⟩
theorem tWv.narrow {t : Nat} {f : Nat → Nat} {A B : Nat → Prop} {U : State} {H : Heap} (h : tWv t f A U H) (hAB : ∀ q, B q → A q) : tWv t f B U H := by
  obtain ⟨cell, h1, h2, h3, h4, h5, h6, h7⟩ := h
  exact ⟨cell, h1, h2, h3, h4, h5, h6, fun z => h7 (hAB t z)⟩
def tX (E : TE) (A : Nat → Prop) (U : State) (H : Heap) : Prop :=
  tN U ∧ vb_C E.1 A U H ∧ va_Z "java/util/BitSet" "$assertionsDisabled" "Z" (.int 1) A U H ∧ va_Z "java/lang/Integer$IntegerCache" "high" "I" (.int 127) A U H ∧
  va_Z "java/lang/Integer$IntegerCache" "cache" "[Ljava/lang/Integer;" (.ref E.2.2.1) A U H ∧ va_T (.object "java/lang/Integer") E.2.2.1 256 (fun k => .ref (E.1 k)) A U H ∧
  va_Z "TufaSteps$Way" "$VALUES" "[LTufaSteps$Way;" (.ref E.2.2.2.1) A U H ∧ tWv E.2.2.2.1 E.2.1 A U H ∧ (∀ k, k < 4 → va_O (tWay k) (E.2.1 k) A U H) ∧
  va_AO "java/lang/Object" U ∧ va_AO "TufaSteps$Way" U ∧ vx_Zq Bundle.tN "UNASSIGNED_STACK" Bundle.steD A U H ∧ vx_Zq Bundle.tN "SUPPRESSED_SENTINEL" Bundle.listD A U H ∧
  va_Mi "[Ljava/lang/Object;" E.2.2.2.2.1 U ∧ tLam E.2.2.2.2.2 U ∧ tTb U
theorem tX.warm {E : TE} {A : Nat → Prop} {s U : State} {H : Heap} (hW : s.WarmedH U.vm) (h : tX E A s H) : tX E A U H := by
  obtain ⟨h1, h2, h3, h4, h5, h6, h7, h8, h9, h10, h11, h12, h13, h14, h15, h16⟩ := h
  exact ⟨fun w hw ho => tNok.warm ho hW (h1 w hw ho), h2.moved hW.alike, h3.moved hW.alike, h4.moved hW.alike, h5.moved hW.alike, h6.moved hW.alike, h7.moved hW.alike, h8.moved hW.alike, fun k hk => (h9 k hk).moved hW.alike, h10.moved hW.alike, h11.moved hW.alike, h12.moved hW.alike, h13.moved hW.alike, h14.moved hW.alike, h15.moved hW, h16.moved hW.alike⟩
theorem tX.same {E : TE} {A : Nat → Prop} {s U : State} {H : Heap} (hvm : s.vm = U.vm) (h : tX E A s H) : tX E A U H := by
  have ha : s.vm.Alike U.vm := by rw [hvm]; exact Vm.Alike.refl _
  obtain ⟨h1, h2, h3, h4, h5, h6, h7, h8, h9, h10, h11, h12, h13, h14, h15, h16⟩ := h
  exact ⟨fun w hw ho => va_Nw.same (tNok.tab ho) hvm (h1 w hw ho), h2.moved ha, h3.moved ha, h4.moved ha, h5.moved ha, h6.moved ha, h7.moved ha, h8.moved ha, fun k hk => (h9 k hk).moved ha, h10.moved ha, h11.moved ha, h12.moved ha, h13.moved ha, h14.moved ha, h15.same hvm, h16.moved ha⟩
theorem tX.kept {E : TE} {A : Nat → Prop} {U : State} {H H1 : Heap} (h : tX E A U H) (hq : ∀ a : Nat, a < H.size → ¬ A a → H1[a]? = H[a]?) : tX E A U H1 := by
  obtain ⟨h1, h2, h3, h4, h5, h6, h7, h8, h9, h10, h11, h12, h13, h14, h15, h16⟩ := h
  exact ⟨h1, h2.kept hq, h3.kept hq, h4.kept hq, h5.kept hq, h6.kept hq, h7.kept hq, h8.kept hq, fun k hk => (h9 k hk).kept hq, h10, h11, h12.kept hq, h13.kept hq, h14, h15, h16⟩
theorem tX.narrow {E : TE} {A B : Nat → Prop} {U : State} {H : Heap} (h : tX E A U H) (hAB : ∀ q, B q → A q) : tX E B U H := by
  obtain ⟨h1, h2, h3, h4, h5, h6, h7, h8, h9, h10, h11, h12, h13, h14, h15, h16⟩ := h
  exact ⟨h1, h2.narrow hAB, h3.narrow hAB, h4.narrow hAB, h5.narrow hAB, h6.narrow hAB, h7.narrow hAB, h8.narrow hAB, fun k hk => (h9 k hk).narrow hAB, h10, h11, h12.narrow hAB, h13.narrow hAB, h14, h15, h16⟩
/-! ===== one kind of contract ===== -/
def tPre (D : TG) (E : TE) (wi : va_W) (sz : Nat) (Y : (Nat → Prop) → State → Prop) : State → Prop := fun U =>
  U.heap.size = sz ∧ va_P D.1 clAll wi U.heap ∧ tK D U ∧ va_D (fun _ => True) wi ∧ tX E (va_A wi sz) U U.heap ∧ Y (va_A wi sz) U
def tY0 : (Nat → Prop) → State → Prop := fun _ _ => True
def tQ {S : Type} (D : TG) (A : Nat → Prop) (post : S → Prop) (rv : S → Option Value) (wo : S → va_W) : Array Value → State → Outcome → State → Prop := fun _ st oc t =>
  (∃ u : S, oc = .returned (rv u) ∧ post u ∧ va_P D.1 clAll (wo u) t.heap ∧ va_D A (wo u)) ∧ va_F A st t
def tQr (r : Option Value) : Array Value → State → Outcome → State → Prop := fun _ st oc t => oc = .returned r ∧ t.heap = st.heap
def tMet (l : Launch) (y : MethodName) (cc : ByteArray) (nL : Nat) (ret : Option FieldType) (fr lo mc ms : Nat) (as : List Value) (D : TG) (E : TE) (wi : va_W) (Y : (Nat → Prop) → State → Prop) {S : Type} (post : S → Prop) (rv : S → Option Value) (wo : S → va_W) : Prop :=
  ∀ sz : Nat, Met l y (ws_ y cc nL ret) ({ frames := fr, cells := mc, slots := ms, locals := lo }) (va_Pc as (tPre D E wi sz Y)) (tQ D (va_A wi sz) post rv wo) mc ms (va_A wi sz)
def tRd (l : Launch) (y : MethodName) (cc : ByteArray) (nL : Nat) (ret : Option FieldType) (fr lo : Nat) (as : List Value) (D : TG) (E : TE) (wi : va_W) (Y : (Nat → Prop) → State → Prop) (r : Option Value) : Prop :=
  ∀ sz : Nat, Met l y (ws_ y cc nL ret) ({ frames := fr, cells := 0, slots := 0, locals := lo }) (va_Pc as (tPre D E wi sz Y)) (tQr r) 0 0 (fun _ => False)
/-- what every row of a walk needs of its method -/
def tC (p : Program) (s : State) (m : MethodId) (args : Array Value) (meth : Method) (c : Code) (cc : ByteArray) (nL : Nat) (ret : Option FieldType) (y : MethodName) : Prop :=
  p.tables.exec = Jvm.exec ∧ c.code = cc ∧ c.maxLocals = nL ∧ s.vm.findClass y.cls = some m.cls ∧ (∀ w ∈ lw_all, w.before args s = true) ∧ meth.sig.returnType = ret ∧ meth.locks = false ∧ meth.name = y.name
theorem tu_met {l : Launch} {y : MethodName} {cc : ByteArray} {nL : Nat} {ret : Option FieldType} {fr lo mc ms : Nat} {as : List Value} {D : TG} {E : TE} {wi : va_W} {Y : (Nat → Prop) → State → Prop} {S : Type} {post : S → Prop} {rv : S → Option Value} {wo : S → va_W}
    (hy : plainName y.cls = true) (hn : (lg_sl as).length ≤ nL)
    (body : ∀ (p : Program) (e : Env) (s : State) (m : MethodId) (below : List Frame) (meth : Method) (c : Code) (A : Nat → Prop) (ls : Array Slot) (args : Array Value) (Q : State → Prop), args = as.toArray → MQ below (tQ D A post rv wo) args s mc ms A = Q → tC p s m args meth c cc nL ret y → tK D s → tX E A s s.heap → Y A s → va_P D.1 clAll wi s.heap → va_D A wi → (∀ q : Nat, s.heap.size ≤ q → A q) → A = va_A wi s.heap.size → lv_has ls nL (lv_args 0 as) →
      W p l e ({ frames := fr, cells := mc, slots := ms, locals := lo }) s m args below meth c s.heap [] 0 0 Q (F0 m 0 ls [])) : tMet l y cc nL ret fr lo mc ms as D E wi Y post rv wo := by
  intro sz
  refine Met.ofW (cc := cc) (maxL := nL) (ret := ret) hy rfl ?_
  intro p e s m args below meth c s₁ B hml hv
  obtain ⟨rfl, hsz, hP, hK, hD0, hX, hY⟩ := hv
  subst hsz
  have hts := atoms_spec (ws := ws_ y cc nL ret) B.pre
  have hl := lv_entry as (n := nL) hn
  rw [lg_entry_eq]
  exact body p e s m below meth c (va_A wi s.heap.size) _ _ _ rfl rfl ⟨B.exec, B.bytes, hml, findClass_of_methodNamed B.named, fun w h => hts w (List.mem_cons_of_mem _ h), B.returns, B.notSynchronized, (name_of_methodNamed B.named B.method).1⟩ hK hX hY hP hD0.self (fun q h => Or.inr h) rfl hl
theorem tu_rd {l : Launch} {y : MethodName} {cc : ByteArray} {nL : Nat} {ret : Option FieldType} {fr lo : Nat} {as : List Value} {D : TG} {E : TE} {wi : va_W} {Y : (Nat → Prop) → State → Prop} {r : Option Value}
    (hy : plainName y.cls = true) (hn : (lg_sl as).length ≤ nL)
    (body : ∀ (p : Program) (e : Env) (s : State) (m : MethodId) (below : List Frame) (meth : Method) (c : Code) (A : Nat → Prop) (ls : Array Slot) (args : Array Value) (Q : State → Prop), args = as.toArray → MQ below (tQr r) args s 0 0 (fun _ => False) = Q → tC p s m args meth c cc nL ret y → tK D s → tX E A s s.heap → Y A s → va_P D.1 clAll wi s.heap → va_D A wi → (∀ q : Nat, s.heap.size ≤ q → A q) → A = va_A wi s.heap.size → lv_has ls nL (lv_args 0 as) →
      W p l e ({ frames := fr, cells := 0, slots := 0, locals := lo }) s m args below meth c s.heap [] 0 0 Q (F0 m 0 ls [])) : tRd l y cc nL ret fr lo as D E wi Y r := by
  intro sz
  refine Met.ofW (cc := cc) (maxL := nL) (ret := ret) hy rfl ?_
  intro p e s m args below meth c s₁ B hml hv
  obtain ⟨rfl, hsz, hP, hK, hD0, hX, hY⟩ := hv
  subst hsz
  have hts := atoms_spec (ws := ws_ y cc nL ret) B.pre
  have hl := lv_entry as (n := nL) hn
  rw [lg_entry_eq]
  exact body p e s m below meth c (va_A wi s.heap.size) _ _ _ rfl rfl ⟨B.exec, B.bytes, hml, findClass_of_methodNamed B.named, fun w h => hts w (List.mem_cons_of_mem _ h), B.returns, B.notSynchronized, (name_of_methodNamed B.named B.method).1⟩ hK hX hY hP hD0.self (fun q h => Or.inr h) rfl hl
section TC
variable {p : Program} {l : Launch} {e : Env} {R : Room} {s : State} {m : MethodId} {args : Array Value} {below : List Frame} {meth : Method} {c : Code} {H : Heap} {locs : List Loc} {cells slots : Nat} {Q : State → Prop}
variable {cc : ByteArray} {pc nL : Nat} {ls : Array Slot} {rest : List Value} {D : TG} {E : TE} {A : Nat → Prop} {ret : Option FieldType} {y : MethodName}
/-! ends of a reading method -/
theorem tr_iret {r : Option Value} {v : Int32} (C : tC p s m args meth c cc nL ret y) (hr : ret = some .int) (hv : r = some (.int v)) (hdg : decode cc pc = .ok (.ireturn, 1)) : W p l e R s m args below meth c s.heap [] 0 0 (MQ below (tQr r) args s 0 0 (fun _ => False)) (F0 m pc ls [.int v]) := by
  obtain ⟨h1, h2, h3, h4, h5, h6, h7, h8⟩ := C
  subst hr hv
  exact W.iret h1 h2 h6 (fun t ht hW => ⟨rfl, ht⟩) (fun q h => by cases h) hdg h7
theorem tr_zret {r : Option Value} {b : Bool} (C : tC p s m args meth c cc nL ret y) (hr : ret = some .boolean) (hv : r = some (.int (zI b))) (hdg : decode cc pc = .ok (.ireturn, 1)) : W p l e R s m args below meth c s.heap [] 0 0 (MQ below (tQr r) args s 0 0 (fun _ => False)) (F0 m pc ls [.int (zI b)]) := by
  obtain ⟨h1, h2, h3, h4, h5, h6, h7, h8⟩ := C
  subst hr hv
  exact W.zret h1 h2 h6 (zI_nar b) (fun t ht hW => ⟨rfl, ht⟩) (fun q h => by cases h) hdg h7
theorem tr_lret {r : Option Value} {v : Int64} (C : tC p s m args meth c cc nL ret y) (hr : ret = some .long) (hv : r = some (.long v)) (hdg : decode cc pc = .ok (.lreturn, 1)) : W p l e R s m args below meth c s.heap [] 0 0 (MQ below (tQr r) args s 0 0 (fun _ => False)) (F0 m pc ls [.long v]) := by
  obtain ⟨h1, h2, h3, h4, h5, h6, h7, h8⟩ := C
  subst hr hv
  exact W.lret h1 h2 h6 (fun t ht hW => ⟨rfl, ht⟩) (fun q h => by cases h) hdg h7
theorem tr_vret {r : Option Value} (C : tC p s m args meth c cc nL ret y) (hr : ret = none) (hv : r = none) (hdg : decode cc pc = .ok (.return_, 1)) : W p l e R s m args below meth c s.heap [] 0 0 (MQ below (tQr r) args s 0 0 (fun _ => False)) (F0 m pc ls []) := by
  obtain ⟨h1, h2, h3, h4, h5, h6, h7, h8⟩ := C
  subst hr hv
  exact W.vret h1 h2 h6 (fun t ht hW => ⟨rfl, ht⟩) (fun q h => by cases h) hdg h7
theorem tr_aret {r : Option Value} {v : Value} {rt : FieldType} (C : tC p s m args meth c cc nL ret y) (hr : ret = some rt) (hrt : (∃ n, rt = .object n) ∨ ∃ t, rt = .array t) (hav : v = .null ∨ ∃ a, v = .ref a) (hv : r = some v) (hdg : decode cc pc = .ok (.areturn, 1)) : W p l e R s m args below meth c s.heap [] 0 0 (MQ below (tQr r) args s 0 0 (fun _ => False)) (F0 m pc ls [v]) := by
  obtain ⟨h1, h2, h3, h4, h5, h6, h7, h8⟩ := C
  subst hr hv
  exact W.aret h1 h2 h6 hrt hav (fun t ht hW => ⟨rfl, ht⟩) (fun q h => by cases h) hdg h7
/-! ends of a writing method -/
variable {S : Type} {post : S → Prop} {rv : S → Option Value} {wo : S → va_W} {mc ms : Nat}
theorem tq_of (u : S) (hp : post u) (hP : va_P D.1 clAll (wo u) H) (hD : va_D A (wo u)) (hS : va_S A s.heap H locs) {o : Option Value} (ho : rv u = o) : ∀ t : State, t.heap = H → s.WarmedH t.vm → tQ D A post rv wo args s (.returned o) t := by
  intro t ht hW
  exact ⟨⟨u, by rw [ho], hp, by rw [ht]; exact hP, hD⟩, hS.F ht⟩
theorem tm_iret (C : tC p s m args meth c cc nL ret y) (u : S) (hp : post u) (hP : va_P D.1 clAll (wo u) H) (hD : va_D A (wo u)) (hS : va_S A s.heap H locs) (hc : cells ≤ mc) (hs : slots ≤ ms) {v : Int32} (hv : rv u = some (.int v)) (hr : ret = some .int) (hdg : decode cc pc = .ok (.ireturn, 1)) : W p l e R s m args below meth c H locs cells slots (MQ below (tQ D A post rv wo) args s mc ms A) (F0 m pc ls [.int v]) := by
  obtain ⟨h1, h2, h3, h4, h5, h6, h7, h8⟩ := C
  subst hr
  exact W.widen hc hs (W.iret h1 h2 h6 (tq_of u hp hP hD hS hv) hS.2.2 hdg h7)
theorem tm_zret (C : tC p s m args meth c cc nL ret y) (u : S) (hp : post u) (hP : va_P D.1 clAll (wo u) H) (hD : va_D A (wo u)) (hS : va_S A s.heap H locs) (hc : cells ≤ mc) (hs : slots ≤ ms) {b : Bool} (hv : rv u = some (.int (zI b))) (hr : ret = some .boolean) (hdg : decode cc pc = .ok (.ireturn, 1)) : W p l e R s m args below meth c H locs cells slots (MQ below (tQ D A post rv wo) args s mc ms A) (F0 m pc ls [.int (zI b)]) := by
  obtain ⟨h1, h2, h3, h4, h5, h6, h7, h8⟩ := C
  subst hr
  exact W.widen hc hs (W.zret h1 h2 h6 (zI_nar b) (tq_of u hp hP hD hS hv) hS.2.2 hdg h7)
theorem tm_lret (C : tC p s m args meth c cc nL ret y) (u : S) (hp : post u) (hP : va_P D.1 clAll (wo u) H) (hD : va_D A (wo u)) (hS : va_S A s.heap H locs) (hc : cells ≤ mc) (hs : slots ≤ ms) {v : Int64} (hv : rv u = some (.long v)) (hr : ret = some .long) (hdg : decode cc pc = .ok (.lreturn, 1)) : W p l e R s m args below meth c H locs cells slots (MQ below (tQ D A post rv wo) args s mc ms A) (F0 m pc ls [.long v]) := by
  obtain ⟨h1, h2, h3, h4, h5, h6, h7, h8⟩ := C
  subst hr
  exact W.widen hc hs (W.lret h1 h2 h6 (tq_of u hp hP hD hS hv) hS.2.2 hdg h7)
theorem tm_fret (C : tC p s m args meth c cc nL ret y) (u : S) (hp : post u) (hP : va_P D.1 clAll (wo u) H) (hD : va_D A (wo u)) (hS : va_S A s.heap H locs) (hc : cells ≤ mc) (hs : slots ≤ ms) {v : UInt32} (hv : rv u = some (.float v)) (hr : ret = some .float) (hdg : decode cc pc = .ok (.freturn, 1)) : W p l e R s m args below meth c H locs cells slots (MQ below (tQ D A post rv wo) args s mc ms A) (F0 m pc ls [.float v]) := by
  obtain ⟨h1, h2, h3, h4, h5, h6, h7, h8⟩ := C
  subst hr
  exact W.widen hc hs (W.fret h1 h2 h6 (tq_of u hp hP hD hS hv) hS.2.2 hdg h7)
theorem tm_dret (C : tC p s m args meth c cc nL ret y) (u : S) (hp : post u) (hP : va_P D.1 clAll (wo u) H) (hD : va_D A (wo u)) (hS : va_S A s.heap H locs) (hc : cells ≤ mc) (hs : slots ≤ ms) {v : UInt64} (hv : rv u = some (.double v)) (hr : ret = some .double) (hdg : decode cc pc = .ok (.dreturn, 1)) : W p l e R s m args below meth c H locs cells slots (MQ below (tQ D A post rv wo) args s mc ms A) (F0 m pc ls [.double v]) := by
  obtain ⟨h1, h2, h3, h4, h5, h6, h7, h8⟩ := C
  subst hr
  exact W.widen hc hs (W.dret h1 h2 h6 (tq_of u hp hP hD hS hv) hS.2.2 hdg h7)
theorem tm_vret (C : tC p s m args meth c cc nL ret y) (u : S) (hp : post u) (hP : va_P D.1 clAll (wo u) H) (hD : va_D A (wo u)) (hS : va_S A s.heap H locs) (hc : cells ≤ mc) (hs : slots ≤ ms) (hv : rv u = none) (hr : ret = none) (hdg : decode cc pc = .ok (.return_, 1)) : W p l e R s m args below meth c H locs cells slots (MQ below (tQ D A post rv wo) args s mc ms A) (F0 m pc ls []) := by
  obtain ⟨h1, h2, h3, h4, h5, h6, h7, h8⟩ := C
  subst hr
  exact W.widen hc hs (W.vret h1 h2 h6 (tq_of u hp hP hD hS hv) hS.2.2 hdg h7)
theorem tm_aret (C : tC p s m args meth c cc nL ret y) (u : S) (hp : post u) (hP : va_P D.1 clAll (wo u) H) (hD : va_D A (wo u)) (hS : va_S A s.heap H locs) (hc : cells ≤ mc) (hs : slots ≤ ms) {v : Value} {rt : FieldType} (hv : rv u = some v) (hr : ret = some rt) (hrt : (∃ n, rt = .object n) ∨ ∃ t, rt = .array t) (hav : v = .null ∨ ∃ a, v = .ref a) (hdg : decode cc pc = .ok (.areturn, 1)) : W p l e R s m args below meth c H locs cells slots (MQ below (tQ D A post rv wo) args s mc ms A) (F0 m pc ls [v]) := by
  obtain ⟨h1, h2, h3, h4, h5, h6, h7, h8⟩ := C
  subst hr
  exact W.widen hc hs (W.aret h1 h2 h6 hrt hav (tq_of u hp hP hD hS hv) hS.2.2 hdg h7)
end TC
/-! ===== calls ===== -/
theorem va_P.subM {D : va_G} {cl : List vw_C} {ws ws' : va_W} {H : Heap} (h : va_P D cl ws H) (is : List Nat) (hs : is.map (fun i => ws[i]?) = ws'.map some) : va_P D cl ws' H := by
  intro k q hk
  have h1 : (is.map (fun i => ws[i]?))[k]? = some (some q) := by rw [hs, List.getElem?_map, hk]; rfl
  rw [List.getElem?_map] at h1
  cases hi : is[k]? with
  | none => rw [hi] at h1; cases h1
  | some i => rw [hi] at h1; exact h i q (Option.some.inj h1)
def tYb (Y : (Nat → Prop) → State → Prop) : Prop := ∀ (A : Nat → Prop) (U : State) (g : JFrame) (mk : MethodId) (a : Array Value), Y A U → Y A (U.calling g mk a)
theorem tYb_0 : tYb tY0 := fun _ _ _ _ _ h => h
theorem t_blind {D : TG} {E : TE} {wi : va_W} {sz : Nat} {Y : (Nat → Prop) → State → Prop} {as : List Value} (hY : tYb Y) : FrameBlind (va_Pc as (tPre D E wi sz Y)) := by
  intro a U g mk h
  obtain ⟨h1, h2, h3, h4, h5, h6, h7⟩ := h
  exact ⟨h1, h2, h3, va_K.moved (u := U) (U := U.calling g mk a) (Vm.Alike.refl U.vm) h4, h5, tX.same (s := U) (U := U.calling g mk a) rfl h6, hY _ _ _ _ _ h7⟩
section TCALL
variable {p : Program} {l : Launch} {e : Env} {R : Room} {s : State} {m : MethodId} {args : Array Value} {below : List Frame} {meth : Method} {c : Code} {H : Heap} {locs : List Loc} {cells slots : Nat} {Q : State → Prop}
variable {cc : ByteArray} {pc nL : Nat} {ls : Array Slot} {rest st0 : List Value} {D : TG} {E : TE} {A : Nat → Prop} {ret : Option FieldType} {y : MethodName}
variable {y2 : MethodName} {bytes : ByteArray} {maxL index n fr lo mc ms b : Nat} {ret2 : Option FieldType} {As : List Value} {ws wc wr : va_W} {Y : (Nat → Prop) → State → Prop} {S : Type} {post : S → Prop} {rv : S → Option Value} {wo : S → va_W} {C2 : String} {r : Option Value}
theorem t_pre (hK : tK D s) (hX : tX E A s s.heap) (hP : va_P D.1 clAll ws H) (hD : va_D A ws) (hS : va_S A s.heap H locs) (hA : ∀ q : Nat, s.heap.size ≤ q → A q) (isC : List Nat) (hn : va_nd isC = true) (hC : isC.map (fun i => ws[i]?) = wc.map some) (hY : ∀ U : State, U.heap = H → s.WarmedH U.vm → Y (va_A wc H.size) U) :
    ∀ U : State, U.heap = H → s.WarmedH U.vm → tPre D E wc H.size Y U := by
  intro U hU hW
  have hF := va_free (wc := wc) hD hS hA isC hC
  refine ⟨by rw [hU], by rw [hU]; exact hP.subM isC hC, va_K.moved hW.alike hK, (hD.sub isC hn hC).weaken (fun _ _ _ _ => trivial), ?_, hY U hU hW⟩
  rw [hU]
  exact ((tX.warm hW hX).kept hS.2.1).narrow hF
theorem t_after {g : JFrame} {a : Array Value} (hg : g = F0 m pc ls st0) (hr : va_Run p l e R s m args below meth c H locs cells slots mc ms g rest (tQ D (va_A wc H.size) post rv wo a) (va_A wc H.size)) (hP : va_P D.1 clAll ws H) (hD : va_D A ws) (hS : va_S A s.heap H locs) (hA : ∀ q : Nat, s.heap.size ≤ q → A q) (isC isR : List Nat) (hC : isC.map (fun i => ws[i]?) = wc.map some) (hR : isR.map (fun i => ws[i]?) = wr.map some) (hn : va_nd isR = true) (hdis : ∀ i ∈ isR, i ∉ isC)
    (kk : ∀ (u : S) (H1 : Heap) (locs1 : List Loc), post u → va_P D.1 clAll (wr ++ wo u) H1 → va_D A (wr ++ wo u) → va_S A s.heap H1 locs1 → W p l e R s m args below meth c H1 locs1 (cells + mc) (slots + ms) Q (F0 m (pc + 3) ls ((rv u).toList ++ rest))) : W p l e R s m args below meth c H locs cells slots Q (F0 m pc ls st0) := by
  subst hg
  intro T hT X
  obtain ⟨v, st₀, t, T', L, h0, X', hL, e1, e2, ⟨⟨u, hv, hp, hPo, hDo⟩, hz, hk⟩, st⟩ := hr T hT X
  cases hv
  rw [h0] at hz hk
  have hF := va_free (wc := wc) hD hS hA isC hC
  obtain ⟨hP1, hD1⟩ := va_join (wr := wr) (w1 := wo u) hP hD isC isR hC hR hn hdis (H1 := T'.heap) (fun q h1 h2 => by rw [e1]; exact hk q h1 h2) hF (by rw [e1]; exact hPo) hDo
  obtain ⟨t2, a1, b1⟩ := kk u T'.heap (locs ++ L) hp hP1 hD1 ⟨Nat.le_trans hS.1 (by rw [e1]; exact hz), fun q h1 h2 => by rw [e1, hk q (Nat.lt_of_lt_of_le h1 hS.1) (fun z => h2 (hF q z))]; exact hS.2.1 q h1 h2, fun q hq => by
      rcases List.mem_append.mp hq with h | h
      · exact hS.2.2 q h
      · exact hF _ (hL q h)⟩ T' rfl X'
  exact ⟨t2, st t2 a1, b1⟩
theorem t_afterR {g : JFrame} {a : Array Value} (hg : g = F0 m pc ls st0) (hr : va_Run p l e R s m args below meth c H locs cells slots 0 0 g rest (tQr r a) (fun _ => False))
    (kk : W p l e R s m args below meth c H locs cells slots Q (F0 m (pc + 3) ls (r.toList ++ rest))) : W p l e R s m args below meth c H locs cells slots Q (F0 m pc ls st0) := by
  subst hg
  intro T hT X
  obtain ⟨v, st₀, t, T', L, h0, X', hL, e1, e2, ⟨hv, hh⟩, st⟩ := hr T hT X
  cases hv
  obtain ⟨t2, a1, b1⟩ := kk T' (by rw [e1, hh, h0]) (Stand.forget X' (fun q h => (hL q h).elim))
  exact ⟨t2, st t2 a1, b1⟩
theorem t_callV (C : tC p s m args meth c cc nL ret y) (hM : tMet l y2 bytes maxL ret2 fr lo mc ms (.ref b :: As) D E wc Y post rv wo)
    (cw : CallW R s args y.cls C2 index y2 bytes maxL ret2 (ws_ y2 bytes maxL ret2) ({ frames := fr, cells := mc, slots := ms, locals := lo }) mc ms n)
    (hv : ∃ cell : Cell, H[b]? = some cell ∧ cell.vm.isStatics = false ∧ s.vm.findClass C2 = some cell.cls)
    (hK : tK D s) (hX : tX E A s s.heap) (hP : va_P D.1 clAll ws H) (hD : va_D A ws) (hS : va_S A s.heap H locs) (hA : ∀ q : Nat, s.heap.size ≤ q → A q) (isC isR : List Nat) (hC : isC.map (fun i => ws[i]?) = wc.map some) (hR : isR.map (fun i => ws[i]?) = wr.map some) (hnC : va_nd isC = true) (hnR : va_nd isR = true) (hdis : ∀ i ∈ isR, i ∉ isC) (hYb : tYb Y) (hY : ∀ U : State, U.heap = H → s.WarmedH U.vm → Y (va_A wc H.size) U)
    (hn : As.length = n) (hsz : ls.size = nL) (hst : st0 = As.reverse ++ .ref b :: rest) (hW : (rest.map fun v => v.category).sum ≤ 8) (hdg : decode cc pc = .ok (.invokevirtual index, 3)) (hf : cells + mc ≤ R.cells ∧ slots + ms ≤ R.slots)
    (kk : ∀ (u : S) (H1 : Heap) (locs1 : List Loc), post u → va_P D.1 clAll (wr ++ wo u) H1 → va_D A (wr ++ wo u) → va_S A s.heap H1 locs1 → W p l e R s m args below meth c H1 locs1 (cells + mc) (slots + ms) Q (F0 m (pc + 3) ls ((rv u).toList ++ rest))) : W p l e R s m args below meth c H locs cells slots Q (F0 m pc ls st0) := by
  obtain ⟨h1, h2, h3, h4, h5, -⟩ := C
  exact t_after rfl (va_runV (g := F0 m pc ls st0) (rest := rest) ⟨h1, h2, h3, h4, h5⟩ (hM H.size) cw ⟨t_blind hYb, hv, fun U hU hW => ⟨rfl, t_pre hK hX hP hD hS hA isC hnC hC hY U hU hW⟩⟩ rfl hn hsz hst (lv_room hW) hdg hf) hP hD hS hA isC isR hC hR hnR hdis kk
theorem t_callS (C : tC p s m args meth c cc nL ret y) (hM : tMet l y2 bytes maxL ret2 fr lo mc ms As D E wc Y post rv wo)
    (cw : CallB R s args y.cls index y2 bytes maxL ret2 (ws_ y2 bytes maxL ret2) ({ frames := fr, cells := mc, slots := ms, locals := lo }) mc ms n ∧ (Cond.static y2).before args s = true)
    (hK : tK D s) (hX : tX E A s s.heap) (hP : va_P D.1 clAll ws H) (hD : va_D A ws) (hS : va_S A s.heap H locs) (hA : ∀ q : Nat, s.heap.size ≤ q → A q) (isC isR : List Nat) (hC : isC.map (fun i => ws[i]?) = wc.map some) (hR : isR.map (fun i => ws[i]?) = wr.map some) (hnC : va_nd isC = true) (hnR : va_nd isR = true) (hdis : ∀ i ∈ isR, i ∉ isC) (hYb : tYb Y) (hY : ∀ U : State, U.heap = H → s.WarmedH U.vm → Y (va_A wc H.size) U)
    (hn : As.length = n) (hsz : ls.size = nL) (hst : st0 = As.reverse ++ rest) (hW : (rest.map fun v => v.category).sum ≤ 8) (hdg : decode cc pc = .ok (.invokestatic index, 3)) (hf : cells + mc ≤ R.cells ∧ slots + ms ≤ R.slots)
    (kk : ∀ (u : S) (H1 : Heap) (locs1 : List Loc), post u → va_P D.1 clAll (wr ++ wo u) H1 → va_D A (wr ++ wo u) → va_S A s.heap H1 locs1 → W p l e R s m args below meth c H1 locs1 (cells + mc) (slots + ms) Q (F0 m (pc + 3) ls ((rv u).toList ++ rest))) : W p l e R s m args below meth c H locs cells slots Q (F0 m pc ls st0) := by
  obtain ⟨h1, h2, h3, h4, h5, -⟩ := C
  exact t_after rfl (va_runS (g := F0 m pc ls st0) (rest := rest) ⟨h1, h2, h3, h4, h5⟩ (hM H.size) cw ⟨t_blind hYb, fun U hU hW => ⟨rfl, t_pre hK hX hP hD hS hA isC hnC hC hY U hU hW⟩⟩ rfl hn hsz hst (lv_room hW) hdg hf) hP hD hS hA isC isR hC hR hnR hdis kk
theorem t_callI (C : tC p s m args meth c cc nL ret y) (hM : tMet l y2 bytes maxL none fr lo mc ms (.ref b :: As) D E wc Y post rv wo)
    (cw : CallB R s args y.cls index y2 bytes maxL none (ws_ y2 bytes maxL none) ({ frames := fr, cells := mc, slots := ms, locals := lo }) mc ms n ∧ y2.name = "<init>" ∧ (Cond.instanceMethod y2).before args s = true)
    (hK : tK D s) (hX : tX E A s s.heap) (hP : va_P D.1 clAll ws H) (hD : va_D A ws) (hS : va_S A s.heap H locs) (hA : ∀ q : Nat, s.heap.size ≤ q → A q) (isC isR : List Nat) (hC : isC.map (fun i => ws[i]?) = wc.map some) (hR : isR.map (fun i => ws[i]?) = wr.map some) (hnC : va_nd isC = true) (hnR : va_nd isR = true) (hdis : ∀ i ∈ isR, i ∉ isC) (hYb : tYb Y) (hY : ∀ U : State, U.heap = H → s.WarmedH U.vm → Y (va_A wc H.size) U)
    (hn : As.length = n) (hsz : ls.size = nL) (hst : st0 = As.reverse ++ .ref b :: rest) (hW : (rest.map fun v => v.category).sum ≤ 8) (hdg : decode cc pc = .ok (.invokespecial index, 3)) (hf : cells + mc ≤ R.cells ∧ slots + ms ≤ R.slots)
    (kk : ∀ (u : S) (H1 : Heap) (locs1 : List Loc), post u → va_P D.1 clAll (wr ++ wo u) H1 → va_D A (wr ++ wo u) → va_S A s.heap H1 locs1 → W p l e R s m args below meth c H1 locs1 (cells + mc) (slots + ms) Q (F0 m (pc + 3) ls ((rv u).toList ++ rest))) : W p l e R s m args below meth c H locs cells slots Q (F0 m pc ls st0) := by
  obtain ⟨h1, h2, h3, h4, h5, -⟩ := C
  exact t_after rfl (va_runI (g := F0 m pc ls st0) (rest := rest) ⟨h1, h2, h3, h4, h5⟩ (hM H.size) cw ⟨t_blind hYb, fun U hU hW => ⟨rfl, t_pre hK hX hP hD hS hA isC hnC hC hY U hU hW⟩⟩ rfl hn hsz hst (lv_room hW) hdg hf) hP hD hS hA isC isR hC hR hnR hdis kk
/-- a call of a method that only reads -/
theorem t_callRV (C : tC p s m args meth c cc nL ret y) (hM : tRd l y2 bytes maxL ret2 fr lo (.ref b :: As) D E wc Y r)
    (cw : CallW R s args y.cls C2 index y2 bytes maxL ret2 (ws_ y2 bytes maxL ret2) ({ frames := fr, cells := 0, slots := 0, locals := lo }) 0 0 n)
    (hv : ∃ cell : Cell, H[b]? = some cell ∧ cell.vm.isStatics = false ∧ s.vm.findClass C2 = some cell.cls)
    (hK : tK D s) (hX : tX E A s s.heap) (hP : va_P D.1 clAll ws H) (hD : va_D A ws) (hS : va_S A s.heap H locs) (hA : ∀ q : Nat, s.heap.size ≤ q → A q) (isC : List Nat) (hC : isC.map (fun i => ws[i]?) = wc.map some) (hnC : va_nd isC = true) (hYb : tYb Y) (hY : ∀ U : State, U.heap = H → s.WarmedH U.vm → Y (va_A wc H.size) U)
    (hn : As.length = n) (hsz : ls.size = nL) (hst : st0 = As.reverse ++ .ref b :: rest) (hW : (rest.map fun v => v.category).sum ≤ 8) (hdg : decode cc pc = .ok (.invokevirtual index, 3)) (hf : cells ≤ R.cells ∧ slots ≤ R.slots)
    (kk : W p l e R s m args below meth c H locs cells slots Q (F0 m (pc + 3) ls (r.toList ++ rest))) : W p l e R s m args below meth c H locs cells slots Q (F0 m pc ls st0) := by
  obtain ⟨h1, h2, h3, h4, h5, -⟩ := C
  exact t_afterR rfl (va_runV (g := F0 m pc ls st0) (rest := rest) ⟨h1, h2, h3, h4, h5⟩ (hM H.size) cw ⟨t_blind hYb, hv, fun U hU hW => ⟨rfl, t_pre hK hX hP hD hS hA isC hnC hC hY U hU hW⟩⟩ rfl hn hsz hst (lv_room hW) hdg hf) kk
theorem t_callRS (C : tC p s m args meth c cc nL ret y) (hM : tRd l y2 bytes maxL ret2 fr lo As D E wc Y r)
    (cw : CallB R s args y.cls index y2 bytes maxL ret2 (ws_ y2 bytes maxL ret2) ({ frames := fr, cells := 0, slots := 0, locals := lo }) 0 0 n ∧ (Cond.static y2).before args s = true)
    (hK : tK D s) (hX : tX E A s s.heap) (hP : va_P D.1 clAll ws H) (hD : va_D A ws) (hS : va_S A s.heap H locs) (hA : ∀ q : Nat, s.heap.size ≤ q → A q) (isC : List Nat) (hC : isC.map (fun i => ws[i]?) = wc.map some) (hnC : va_nd isC = true) (hYb : tYb Y) (hY : ∀ U : State, U.heap = H → s.WarmedH U.vm → Y (va_A wc H.size) U)
    (hn : As.length = n) (hsz : ls.size = nL) (hst : st0 = As.reverse ++ rest) (hW : (rest.map fun v => v.category).sum ≤ 8) (hdg : decode cc pc = .ok (.invokestatic index, 3)) (hf : cells ≤ R.cells ∧ slots ≤ R.slots)
    (kk : W p l e R s m args below meth c H locs cells slots Q (F0 m (pc + 3) ls (r.toList ++ rest))) : W p l e R s m args below meth c H locs cells slots Q (F0 m pc ls st0) := by
  obtain ⟨h1, h2, h3, h4, h5, -⟩ := C
  exact t_afterR rfl (va_runS (g := F0 m pc ls st0) (rest := rest) ⟨h1, h2, h3, h4, h5⟩ (hM H.size) cw ⟨t_blind hYb, fun U hU hW => ⟨rfl, t_pre hK hX hP hD hS hA isC hnC hC hY U hU hW⟩⟩ rfl hn hsz hst (lv_room hW) hdg hf) kk
/-! ===== arrays ===== -/
variable {H0 : Heap} {a q0 k : Nat} {z : Int}
theorem ta_zald (C : tC p s m args meth c cc nL ret y) (hK : tK D s) (hP : va_P D.1 clAll ws H) (q0 : Nat) {f : Nat → Bool} (ha : ws[q0]? = some (a, .inl (D.2 0, n, .inl (fun j => zI (f j))))) (k : Nat) (h : z = (k : Int) ∧ k < n ∧ n < 2147483648) (hdg : decode cc pc = .ok (.baload, 1)) (kk : W p l e R s m args below meth c H locs cells slots Q (F0 m (pc + 1) ls (.int (zI (f k)) :: rest))) : W p l e R s m args below meth c H locs cells slots Q (F0 m pc ls (.int (iI z) :: .ref a :: rest)) :=
  va_zald C.1 C.2.1 hK hP q0 0 ha rfl (iI_in h.1 h.2.1 h.2.2) hdg (by rw [iI_clamp h.1 (by omega)]; exact kk)
theorem ta_iald (C : tC p s m args meth c cc nL ret y) (hK : tK D s) (hP : va_P D.1 clAll ws H) (q0 : Nat) {f : Nat → Int} (ha : ws[q0]? = some (a, .inl (D.2 1, n, .inl (fun j => iI (f j))))) (k : Nat) (h : z = (k : Int) ∧ k < n ∧ n < 2147483648) (hdg : decode cc pc = .ok (.iaload, 1)) (kk : W p l e R s m args below meth c H locs cells slots Q (F0 m (pc + 1) ls (.int (iI (f k)) :: rest))) : W p l e R s m args below meth c H locs cells slots Q (F0 m pc ls (.int (iI z) :: .ref a :: rest)) :=
  va_iald C.1 C.2.1 hK hP q0 1 ha rfl (iI_in h.1 h.2.1 h.2.2) hdg (by rw [iI_clamp h.1 (by omega)]; exact kk)
theorem ta_lald (C : tC p s m args meth c cc nL ret y) (hK : tK D s) (hP : va_P D.1 clAll ws H) (q0 : Nat) {f : Nat → Int64} (ha : ws[q0]? = some (a, .inl (D.2 2, n, .inr (.inl f)))) (k : Nat) (h : z = (k : Int) ∧ k < n ∧ n < 2147483648) (hdg : decode cc pc = .ok (.laload, 1)) (kk : W p l e R s m args below meth c H locs cells slots Q (F0 m (pc + 1) ls (.long (f k) :: rest))) : W p l e R s m args below meth c H locs cells slots Q (F0 m pc ls (.int (iI z) :: .ref a :: rest)) :=
  va_lald C.1 C.2.1 hK hP q0 2 ha rfl (iI_in h.1 h.2.1 h.2.2) hdg (by rw [iI_clamp h.1 (by omega)]; exact kk)
theorem ta_sald (C : tC p s m args meth c cc nL ret y) (hK : tK D s) (hP : va_P D.1 clAll ws H) (q0 : Nat) {f : Nat → Int} (ha : ws[q0]? = some (a, .inl (D.2 3, n, .inl (fun j => iI (f j))))) (k : Nat) (h : z = (k : Int) ∧ k < n ∧ n < 2147483648) (hdg : decode cc pc = .ok (.saload, 1)) (kk : W p l e R s m args below meth c H locs cells slots Q (F0 m (pc + 1) ls (.int (iI (f k)) :: rest))) : W p l e R s m args below meth c H locs cells slots Q (F0 m pc ls (.int (iI z) :: .ref a :: rest)) :=
  va_sald C.1 C.2.1 hK hP q0 3 ha rfl (iI_in h.1 h.2.1 h.2.2) hdg (by rw [iI_clamp h.1 (by omega)]; exact kk)
theorem ta_zast (C : tC p s m args meth c cc nL ret y) (hK : tK D s) (hP : va_P D.1 clAll ws H) (hD : va_D A ws) (hS : va_S A H0 H locs) (q0 : Nat) {f : Nat → Bool} (ha : ws[q0]? = some (a, .inl (D.2 0, n, .inl (fun j => zI (f j))))) (k : Nat) {x : Bool} (h : z = (k : Int) ∧ k < n ∧ n < 2147483648) (hdg : decode cc pc = .ok (.bastore, 1))
    (kk : ∀ (H1 : Heap) (locs1 : List Loc), va_P D.1 clAll (ws.set q0 (a, .inl (D.2 0, n, .inl (fun j => zI (va_up f k x j))))) H1 → va_D A (ws.set q0 (a, .inl (D.2 0, n, .inl (fun j => zI (va_up f k x j))))) → va_S A H0 H1 locs1 → W p l e R s m args below meth c H1 locs1 cells slots Q (F0 m (pc + 1) ls rest)) : W p l e R s m args below meth c H locs cells slots Q (F0 m pc ls (.int (zI x) :: .int (iI z) :: .ref a :: rest)) := by
  refine va_zast C.1 C.2.1 hK hP hD hS q0 0 ha rfl (iI_in h.1 h.2.1 h.2.2) hdg (fun H1 locs1 hP hD hS => ?_)
  have e0 := iI_clamp h.1 (Nat.lt_trans h.2.1 h.2.2)
  rw [e0, zI_vnar, upd_zI] at hP hD
  exact kk H1 locs1 hP hD hS
theorem ta_iast (C : tC p s m args meth c cc nL ret y) (hK : tK D s) (hP : va_P D.1 clAll ws H) (hD : va_D A ws) (hS : va_S A H0 H locs) (q0 : Nat) {f : Nat → Int} (ha : ws[q0]? = some (a, .inl (D.2 1, n, .inl (fun j => iI (f j))))) (k : Nat) {x : Int} (h : z = (k : Int) ∧ k < n ∧ n < 2147483648) (hdg : decode cc pc = .ok (.iastore, 1))
    (kk : ∀ (H1 : Heap) (locs1 : List Loc), va_P D.1 clAll (ws.set q0 (a, .inl (D.2 1, n, .inl (fun j => iI (va_up f k x j))))) H1 → va_D A (ws.set q0 (a, .inl (D.2 1, n, .inl (fun j => iI (va_up f k x j))))) → va_S A H0 H1 locs1 → W p l e R s m args below meth c H1 locs1 cells slots Q (F0 m (pc + 1) ls rest)) : W p l e R s m args below meth c H locs cells slots Q (F0 m pc ls (.int (iI x) :: .int (iI z) :: .ref a :: rest)) := by
  refine va_iast C.1 C.2.1 hK hP hD hS q0 1 ha rfl (iI_in h.1 h.2.1 h.2.2) hdg (fun H1 locs1 hP hD hS => ?_)
  have e0 := iI_clamp h.1 (Nat.lt_trans h.2.1 h.2.2)
  rw [e0, upd_iI] at hP hD
  exact kk H1 locs1 hP hD hS
theorem ta_last (C : tC p s m args meth c cc nL ret y) (hK : tK D s) (hP : va_P D.1 clAll ws H) (hD : va_D A ws) (hS : va_S A H0 H locs) (q0 : Nat) {f : Nat → Int64} (ha : ws[q0]? = some (a, .inl (D.2 2, n, .inr (.inl f)))) (k : Nat) {x : Int64} (h : z = (k : Int) ∧ k < n ∧ n < 2147483648) (hdg : decode cc pc = .ok (.lastore, 1))
    (kk : ∀ (H1 : Heap) (locs1 : List Loc), va_P D.1 clAll (ws.set q0 (a, .inl (D.2 2, n, .inr (.inl (va_up f k x))))) H1 → va_D A (ws.set q0 (a, .inl (D.2 2, n, .inr (.inl (va_up f k x))))) → va_S A H0 H1 locs1 → W p l e R s m args below meth c H1 locs1 cells slots Q (F0 m (pc + 1) ls rest)) : W p l e R s m args below meth c H locs cells slots Q (F0 m pc ls (.long x :: .int (iI z) :: .ref a :: rest)) := by
  refine va_last C.1 C.2.1 hK hP hD hS q0 2 ha rfl (iI_in h.1 h.2.1 h.2.2) hdg (fun H1 locs1 hP hD hS => ?_)
  have e0 := iI_clamp h.1 (Nat.lt_trans h.2.1 h.2.2)
  rw [e0] at hP hD
  exact kk H1 locs1 hP hD hS
theorem ta_sast (C : tC p s m args meth c cc nL ret y) (hK : tK D s) (hP : va_P D.1 clAll ws H) (hD : va_D A ws) (hS : va_S A H0 H locs) (q0 : Nat) {f : Nat → Int} (ha : ws[q0]? = some (a, .inl (D.2 3, n, .inl (fun j => iI (f j))))) (k : Nat) {x : Int} (h : z = (k : Int) ∧ k < n ∧ n < 2147483648) (hr : -32768 ≤ x ∧ x < 32768) (hdg : decode cc pc = .ok (.sastore, 1))
    (kk : ∀ (H1 : Heap) (locs1 : List Loc), va_P D.1 clAll (ws.set q0 (a, .inl (D.2 3, n, .inl (fun j => iI (va_up f k x j))))) H1 → va_D A (ws.set q0 (a, .inl (D.2 3, n, .inl (fun j => iI (va_up f k x j))))) → va_S A H0 H1 locs1 → W p l e R s m args below meth c H1 locs1 cells slots Q (F0 m (pc + 1) ls rest)) : W p l e R s m args below meth c H locs cells slots Q (F0 m pc ls (.int (iI x) :: .int (iI z) :: .ref a :: rest)) := by
  refine va_sast C.1 C.2.1 hK hP hD hS q0 3 ha rfl (iI_in h.1 h.2.1 h.2.2) hdg (fun H1 locs1 hP hD hS => ?_)
  have e0 := iI_clamp h.1 (Nat.lt_trans h.2.1 h.2.2)
  rw [e0, iI_vshort hr.1 hr.2, upd_iI] at hP hD
  exact kk H1 locs1 hP hD hS
theorem t_cA {cA : ClassId} {ty : FieldType} {tys : List (ClassId × FieldType)} {cl : List vw_C} {G : va_G} (hp : ∀ C, ty ≠ .object C) (hK : va_K G cl tys s) (t0 : Nat) {cB : ClassId} (ht : tys[t0]? = some (cB, ty)) (hn : va_K G cl (tys ++ [(cA, ty)]) s) : cA = cB := by
  have h1 := (hK.2 t0 _ ht).2
  have h2 := (hn.2 tys.length (cA, ty) (by rw [List.getElem?_append_right (Nat.le_refl _), Nat.sub_self]; rfl)).2
  unfold va_RA at h1 h2
  cases ty with
  | object C => exact absurd rfl (hp C)
  | _ => exact Option.some.inj (h2.symm.trans h1)
theorem ta_newZ (C : tC p s m args meth c cc nL ret y) (harr : (Cond.arrayClass .boolean).before args s = true) (hK : tK D s) (hP : va_P D.1 clAll ws H) (hD : va_D A ws) (hS : va_S A H0 H locs) (hA : ∀ q : Nat, H0.size ≤ q → A q) (k : Nat) (h : z = (k : Int) ∧ k < 60000000) (hc : cells + 1 ≤ R.cells ∧ slots + k ≤ R.slots) (hdg : decode cc pc = .ok (.newarray .boolean, 2))
    (kk : ∀ (q : Nat) (H1 : Heap), va_P D.1 clAll (ws ++ [(q, .inl (D.2 0, k, .inl (fun j => zI ((fun _ => false) j))))]) H1 → va_D A (ws ++ [(q, .inl (D.2 0, k, .inl (fun j => zI ((fun _ => false) j))))]) → va_S A H0 H1 locs → W p l e R s m args below meth c H1 locs (cells + 1) (slots + k) Q (F0 m (pc + 2) ls (.ref q :: rest))) : W p l e R s m args below meth c H locs cells slots Q (F0 m pc ls (.int (iI z) :: rest)) := by
  refine va_newa (atype := .boolean) (ty := .boolean) (N' := k) (a0 := (k, .inl (fun j => zI ((fun _ => false) j)))) C.1 C.2.1 harr rfl hK hP hD hS hA (fun _ => rfl) ?_ (iI_clamp h.1 (by omega)) ?_ hc.1 hc.2 hdg (fun q cA H1 hK1 hP1 hD1 hS1 => ?_)
  · rw [iI_0, iI_lt ⟨by omega, by omega, by omega, by omega⟩]
    omega
  · show k * _ ≤ _
    simp only [componentBytes]
    omega
  · have e := t_cA (fun _ h => by cases h) hK 0 rfl hK1
    subst e
    exact kk q H1 hP1 hD1 hS1
theorem ta_newI (C : tC p s m args meth c cc nL ret y) (harr : (Cond.arrayClass .int).before args s = true) (hK : tK D s) (hP : va_P D.1 clAll ws H) (hD : va_D A ws) (hS : va_S A H0 H locs) (hA : ∀ q : Nat, H0.size ≤ q → A q) (k : Nat) (h : z = (k : Int) ∧ k < 60000000) (hc : cells + 1 ≤ R.cells ∧ slots + k ≤ R.slots) (hdg : decode cc pc = .ok (.newarray .int, 2))
    (kk : ∀ (q : Nat) (H1 : Heap), va_P D.1 clAll (ws ++ [(q, .inl (D.2 1, k, .inl (fun j => iI ((fun _ => 0) j))))]) H1 → va_D A (ws ++ [(q, .inl (D.2 1, k, .inl (fun j => iI ((fun _ => 0) j))))]) → va_S A H0 H1 locs → W p l e R s m args below meth c H1 locs (cells + 1) (slots + k) Q (F0 m (pc + 2) ls (.ref q :: rest))) : W p l e R s m args below meth c H locs cells slots Q (F0 m pc ls (.int (iI z) :: rest)) := by
  refine va_newa (atype := .int) (ty := .int) (N' := k) (a0 := (k, .inl (fun j => iI ((fun _ => 0) j)))) C.1 C.2.1 harr rfl hK hP hD hS hA (fun _ => rfl) ?_ (iI_clamp h.1 (by omega)) ?_ hc.1 hc.2 hdg (fun q cA H1 hK1 hP1 hD1 hS1 => ?_)
  · rw [iI_0, iI_lt ⟨by omega, by omega, by omega, by omega⟩]
    omega
  · show k * _ ≤ _
    simp only [componentBytes]
    omega
  · have e := t_cA (fun _ h => by cases h) hK 1 rfl hK1
    subst e
    exact kk q H1 hP1 hD1 hS1
theorem ta_newJ (C : tC p s m args meth c cc nL ret y) (harr : (Cond.arrayClass .long).before args s = true) (hK : tK D s) (hP : va_P D.1 clAll ws H) (hD : va_D A ws) (hS : va_S A H0 H locs) (hA : ∀ q : Nat, H0.size ≤ q → A q) (k : Nat) (h : z = (k : Int) ∧ k < 60000000) (hc : cells + 1 ≤ R.cells ∧ slots + k ≤ R.slots) (hdg : decode cc pc = .ok (.newarray .long, 2))
    (kk : ∀ (q : Nat) (H1 : Heap), va_P D.1 clAll (ws ++ [(q, .inl (D.2 2, k, .inr (.inl (fun _ => 0))))]) H1 → va_D A (ws ++ [(q, .inl (D.2 2, k, .inr (.inl (fun _ => 0))))]) → va_S A H0 H1 locs → W p l e R s m args below meth c H1 locs (cells + 1) (slots + k) Q (F0 m (pc + 2) ls (.ref q :: rest))) : W p l e R s m args below meth c H locs cells slots Q (F0 m pc ls (.int (iI z) :: rest)) := by
  refine va_newa (atype := .long) (ty := .long) (N' := k) (a0 := (k, .inr (.inl (fun _ => 0)))) C.1 C.2.1 harr rfl hK hP hD hS hA (fun _ => rfl) ?_ (iI_clamp h.1 (by omega)) ?_ hc.1 hc.2 hdg (fun q cA H1 hK1 hP1 hD1 hS1 => ?_)
  · rw [iI_0, iI_lt ⟨by omega, by omega, by omega, by omega⟩]
    omega
  · show k * _ ≤ _
    simp only [componentBytes]
    omega
  · have e := t_cA (fun _ h => by cases h) hK 2 rfl hK1
    subst e
    exact kk q H1 hP1 hD1 hS1
end TCALL
