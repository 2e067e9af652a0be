/-! more rows of the base: Math, arrays told by other functions -/
set_option maxRecDepth 100000
def tabs (z : Int) : Int := if 0 ≤ z then z else -z
def tsg (z : Int) : Int := if z < 0 then -1 else if z = 0 then 0 else 1
theorem sg_all : ∀ n : Nat, n < 401 → (((iI ((n : Int) - 200)) >>> (iI 31 &&& 31)) ||| ((-(iI ((n : Int) - 200))).toUInt32 >>> ((iI 31).toUInt32 &&& Int32.toUInt32 31)).toInt32) = iI (tsg ((n : Int) - 200)) := by decide +kernel
theorem sg_eq {z : Int} (h : -200 ≤ z ∧ z ≤ 200) : ((iI z) >>> (iI 31 &&& 31)) ||| ((iI (-z)).toUInt32 >>> ((iI 31).toUInt32 &&& Int32.toUInt32 31)).toInt32 = iI (tsg z) := by
  have h1 := sg_all (z + 200).toNat (by omega)
  rw [show (((z + 200).toNat : Nat) : Int) - 200 = z from by omega, iI_neg] at h1
  exact h1
theorem tx_ofNat (n : Nat) : Int32.ofNat n = iI (n : Int) := by rw [iI, Int32.ofInt_eq_ofNat]
theorem iI_min {a b : Int} (h : -2147483648 ≤ a ∧ a < 2147483648 ∧ -2147483648 ≤ b ∧ b < 2147483648) : (if iI b < iI a then iI b else iI a) = iI (min a b) := by
  have h' : -2147483648 ≤ b ∧ b < 2147483648 ∧ -2147483648 ≤ a ∧ a < 2147483648 := ⟨h.2.2.1, h.2.2.2, h.1, h.2.1⟩
  by_cases q : b < a
  · rw [if_pos ((iI_lt h').mpr q), show min a b = b from by omega]
  · rw [if_neg (fun z => q ((iI_lt h').mp z)), show min a b = a from by omega]
theorem iI_max {a b : Int} (h : -2147483648 ≤ a ∧ a < 2147483648 ∧ -2147483648 ≤ b ∧ b < 2147483648) : (if iI a < iI b then iI b else iI a) = iI (max a b) := by
  by_cases q : a < b
  · rw [if_pos ((iI_lt h).mpr q), show max a b = b from by omega]
  · rw [if_neg (fun z => q ((iI_lt h).mp z)), show max a b = a from by omega]
theorem iI_abs {a : Int} (h : -2147483648 ≤ a ∧ a < 2147483648) : (if 0 ≤ iI a then iI a else 0 - iI a) = iI (tabs a) := by
  have h1 : -2147483648 ≤ (0 : Int) ∧ (0 : Int) < 2147483648 ∧ -2147483648 ≤ a ∧ a < 2147483648 := ⟨by decide, by decide, h.1, h.2⟩
  by_cases q : 0 ≤ a
  · rw [if_pos (by rw [iI_0]; exact (iI_le h1).mpr q), tabs, if_pos q]
  · rw [if_neg (by rw [iI_0]; exact fun z => q ((iI_le h1).mp z)), tabs, if_neg q, iI_0, iI_sub, Int.zero_sub]
section TB2
variable {p : Program} {l : Launch} {e : Env} {R : Room} {s : State} {m : MethodId} {args : Array Value} {below : List Frame} {meth : Method} {c : Code} {H : Heap} {locs : List Loc} {cells slots : Nat} {Q : State → Prop}
variable {cc : ByteArray} {pc : Nat} {ls : Array Slot} {rest : List Value}
theorem ti_mmin (hx : p.tables.exec = Jvm.exec) (hb : c.code = cc) (hml : c.maxLocals = ls.size) {own : String} {index : Nat} (hown : s.vm.findClass own = some m.cls) (hlink : (Cond.methodLink own index Lib.Math.min.name).before args s = true) (hstat : (Cond.static Lib.Math.min.name).before args s = true) (hini : (Cond.initialized "java/lang/Math").before args s = true) (hcode : (Cond.code Lib.Math.min.name Lib.Math.min.code 2 (some .int)).before args s = true)
    (hframes : 1 ≤ R.frames) (hlocals : (rest.map fun v => v.category).sum + 13 ≤ R.locals) (hc : cells ≤ R.cells) (hs : slots ≤ R.slots) {a b : Int} (h : -2147483648 ≤ a ∧ a < 2147483648 ∧ -2147483648 ≤ b ∧ b < 2147483648) (hdg : decode cc pc = .ok (.invokestatic index, 3))
    (kk : W p l e R s m args below meth c H locs cells slots Q (F0 m (pc + 3) ls (.int (iI (min a b)) :: rest))) : W p l e R s m args below meth c H locs cells slots Q (F0 m pc ls (.int (iI b) :: .int (iI a) :: rest)) :=
  va_mmin hx hb hml hown hlink hstat hini hcode hframes hlocals hc hs hdg (by rw [iI_min h]; exact kk)
theorem ti_mmax (hx : p.tables.exec = Jvm.exec) (hb : c.code = cc) (hml : c.maxLocals = ls.size) {own : String} {index : Nat} (hown : s.vm.findClass own = some m.cls) (hlink : (Cond.methodLink own index Lib.Math.max.name).before args s = true) (hstat : (Cond.static Lib.Math.max.name).before args s = true) (hini : (Cond.initialized "java/lang/Math").before args s = true) (hcode : (Cond.code Lib.Math.max.name Lib.Math.max.code 2 (some .int)).before args s = true)
    (hframes : 1 ≤ R.frames) (hlocals : (rest.map fun v => v.category).sum + 13 ≤ R.locals) (hc : cells ≤ R.cells) (hs : slots ≤ R.slots) {a b : Int} (h : -2147483648 ≤ a ∧ a < 2147483648 ∧ -2147483648 ≤ b ∧ b < 2147483648) (hdg : decode cc pc = .ok (.invokestatic index, 3))
    (kk : W p l e R s m args below meth c H locs cells slots Q (F0 m (pc + 3) ls (.int (iI (max a b)) :: rest))) : W p l e R s m args below meth c H locs cells slots Q (F0 m pc ls (.int (iI b) :: .int (iI a) :: rest)) :=
  va_mmax hx hb hml hown hlink hstat hini hcode hframes hlocals hc hs hdg (by rw [iI_max h]; exact kk)
theorem ti_mabs (hx : p.tables.exec = Jvm.exec) (hb : c.code = cc) (hml : c.maxLocals = ls.size) {own : String} {index : Nat} (hown : s.vm.findClass own = some m.cls) (hlink : (Cond.methodLink own index Lib.Math.abs.name).before args s = true) (hstat : (Cond.static Lib.Math.abs.name).before args s = true) (hini : (Cond.initialized "java/lang/Math").before args s = true) (hcode : (Cond.code Lib.Math.abs.name Lib.Math.abs.code 1 (some .int)).before args s = true)
    (hframes : 1 ≤ R.frames) (hlocals : (rest.map fun v => v.category).sum + 13 ≤ R.locals) (hc : cells ≤ R.cells) (hs : slots ≤ R.slots) {a : Int} (h : -2147483648 ≤ a ∧ a < 2147483648) (hdg : decode cc pc = .ok (.invokestatic index, 3))
    (kk : W p l e R s m args below meth c H locs cells slots Q (F0 m (pc + 3) ls (.int (iI (tabs a)) :: rest))) : W p l e R s m args below meth c H locs cells slots Q (F0 m pc ls (.int (iI a) :: rest)) :=
  va_mabs hx hb hml hown hlink hstat hini hcode hframes hlocals hc hs hdg (by rw [iI_abs h]; exact kk)
end TB2
theorem arrV_ext (cI : ClassId) {N : Nat} {f g : Nat → Value} (h : ∀ j, j < N → f j = g j) : arrV cI N f = arrV cI N g := by
  unfold arrV
  congr 2
  funext j
  exact h j.val j.isLt
/-- an array of booleans told by another function -/
theorem tx_arrZ {D : va_G} {cl : List vw_C} {ws : va_W} {H : Heap} (q0 : Nat) {a n : Nat} {cA : ClassId} {f g : Nat → Bool} (ha : ws[q0]? = some (a, .inl (cA, n, .inl (fun x_ => zI (f x_))))) (h : ∀ j, j < n → f j = g j) (hP : va_P D cl ws H) : va_P D cl (ws.set q0 (a, .inl (cA, n, .inl (fun x_ => zI (g x_))))) H := by
  have hl := (List.getElem?_eq_some_iff.mp ha).1
  intro k q hk
  by_cases hkp : k = q0
  · subst hkp
    rw [List.getElem?_set_self hl] at hk
    cases hk
    have h1 : H[a]? = some (vp_cell cA (n, .inl (fun x_ => zI (f x_)))) := hP k _ ha
    show H[a]? = some (vp_cell cA (n, .inl (fun x_ => zI (g x_))))
    rw [h1]
    congr 1
    exact arrV_ext cA (f := fun j => .int (zI (f j))) (g := fun j => .int (zI (g j))) (fun j hj => by simp only [h j hj])
  · rw [List.getElem?_set_ne (Ne.symm hkp)] at hk
    exact hP k q hk
