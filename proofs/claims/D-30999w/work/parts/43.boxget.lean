/-! the int of a box -/
set_option maxRecDepth 100000
section TB9
variable {p : Program} {l : Launch} {e : Env} {R : Room} {s : State} {m : MethodId} {args : Array Value} {below : List Frame} {meth : Method} {c : Code} {H : Heap} {locs : List Loc} {cells slots : Nat} {Q : State → Prop}
variable {cc : ByteArray} {pc nL : Nat} {ls : Array Slot} {rest : List Value} {D : TG} {E : TE} {A : Nat → Prop} {H0 : Heap} {X : va_W}
theorem ta_boxget (hx : p.tables.exec = Jvm.exec) (hb : c.code = cc) (hts : ∀ w ∈ lw_all, w.before args s = true) {own : String} {index : Nat} (hown : s.vm.findClass own = some m.cls) (hX : tX E A s s.heap) (hK : tK D s) (hS : va_S A s.heap H locs) {M : List (Nat × Int)} {r : Nat} {z : Int} (hP : va_P D.1 clAll (X ++ bxp M) H) (hz : bxv E M r z)
    (hlink : (Cond.fieldLink own index "java/lang/Integer" "value" "I").before args s = true) (hdg : decode cc pc = .ok (.getfield index, 3)) (kk : W p l e R s m args below meth c H locs cells slots Q (F0 m (pc + 3) ls (.int (iI z) :: rest))) : W p l e R s m args below meth c H locs cells slots Q (F0 m pc ls (.ref r :: rest)) := by
  rcases hz with h | ⟨k, hk, rfl, rfl⟩
  · obtain ⟨k, hk⟩ := bx_mem h X
    exact va_get (D := D.1) (ci := 5) (v := .int (iI z)) (C := RJ17) (T := TJ17) (N := 1) hx hb hts in_J17 hown hK hP k hk rfl 0 (by decide) hlink (fun _ h9 => h9) rfl hdg kk
  · exact va_getX (i := k) (v := fun k => .int (vb_c k)) hx hb hX.2.1.2 hk hS hown hlink (fun _ h9 => h9) hdg (by rw [show vb_c k = iI ((k : Int) - 128) from bx_c hk]; exact kk)
end TB9
