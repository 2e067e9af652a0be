/-! the pen's made class, and a call of its one method -/
set_option maxRecDepth 100000
def mkD : Jvm.ClassFile.ClassFile := (tSh.file "TufaSteps$Picture").getD { minorVersion := 0, majorVersion := 0, constantPool := #[], accessFlags := 0, thisClass := 0, superClass := 0, interfaces := #[], fields := #[], methods := #[], attributes := #[] }
def mkF : Method := ((layoutMethods mkD).bind (·[1]?)).getD default
def mkLd : Array Field × Array FieldType × Array FieldType := (layoutFields mkD 0).getD (#[], #[], #[])
def mkCode : ByteArray := ⟨#[0x2a, 0xb4, 0x00, 0x11, 0x2a, 0xb4, 0x00, 0x13, 0x1b, 0x1c, 0xb6, 0x00, 0x1b, 0xb1]⟩
theorem mk_d0 : decode mkCode 0 = .ok (.aload_n 0, 1) := by decide +kernel
theorem mk_d1 : decode mkCode 1 = .ok (.getfield 17, 3) := by decide +kernel
theorem mk_d4 : decode mkCode 4 = .ok (.aload_n 0, 1) := by decide +kernel
theorem mk_d5 : decode mkCode 5 = .ok (.getfield 19, 3) := by decide +kernel
theorem mk_d8 : decode mkCode 8 = .ok (.iload_n 1, 1) := by decide +kernel
theorem mk_d9 : decode mkCode 9 = .ok (.iload_n 2, 1) := by decide +kernel
theorem mk_d10 : decode mkCode 10 = .ok (.invokevirtual 27, 3) := by decide +kernel
theorem mk_d13 : decode mkCode 13 = .ok (.return_, 1) := by decide +kernel
theorem mk_file : tSh.file "TufaSteps$Picture" = some mkD := by
  have h : (tSh.file "TufaSteps$Picture").isSome = true := by decide +kernel
  obtain ⟨x, hx⟩ := Option.isSome_iff_exists.mp h
  simp [mkD, hx]
theorem mk_second : ∀ ms, layoutMethods mkD = some ms → ms[1]? = some mkF := by
  intro ms hms
  have h : ((layoutMethods mkD).bind (·[1]?)).isSome = true := by decide +kernel
  obtain ⟨x, hx⟩ := Option.isSome_iff_exists.mp h
  have hf : mkF = x := by simp [mkF, hx]
  rw [hms] at hx
  rw [hf]
  exact hx
theorem mk_laid : layoutFields mkD 0 = some mkLd := by
  have h : (layoutFields mkD 0).isSome = true := by decide +kernel
  obtain ⟨x, hx⟩ := Option.isSome_iff_exists.mp h
  simp [mkLd, hx]
theorem mk_code : (mkF.code.map fun c => (c.code.data, c.maxLocals)) = some (mkCode.data, 3) := by decide +kernel
theorem mk_flags : (mkF.accessFlags, mkF.name, mkF.sig.returnType) = (0x0001, "draw", (none : Option FieldType)) := by decide +kernel
theorem mk_types : mkLd.2.1 = #[FieldType.object "TufaSteps$Picture", FieldType.boolean] := by decide +kernel
theorem mk_eM : mkD.constantPool[27]? = some (.methodref 23 26) ∧ mkD.constantPool.className? 23 = some "TufaSteps$Picture" ∧ mkD.constantPool.nameAndType? 26 = some ("lambda$pen$0", "(ZII)V") := by decide +kernel
theorem mk_eC : mkD.constantPool[23]? = some (.class_ 22) ∧ mkD.constantPool.string? 22 = some "TufaSteps$Picture" ∧ 23 ≠ mkD.thisClass := by decide +kernel
theorem mk_eF0 : mkD.constantPool[17]? = some (.fieldref 2 16) ∧ mkD.constantPool.nameAndType? 16 = some ("arg$1", "LTufaSteps$Picture;") ∧ mkLd.1.findIdx? (·.name == "arg$1") = some 0 ∧ (mkLd.1[0]?).map (fun f => (f.isStatic, f.slot)) = some (false, 0) := by decide +kernel
theorem mk_eF1 : mkD.constantPool[19]? = some (.fieldref 2 18) ∧ mkD.constantPool.nameAndType? 18 = some ("arg$2", "Z") ∧ mkLd.1.findIdx? (·.name == "arg$2") = some 1 ∧ (mkLd.1[1]?).map (fun f => (f.isStatic, f.slot)) = some (false, 1) := by decide +kernel
theorem mk_facts {e : Setting} {vm : Vm} {d c : ClassId} {dk : Class} (hd : vm.classes[d]? = some dk) (hname : dk.name = "TufaSteps$Picture") (h : Lambda.isMade e vm d tSh c = true)
    (hO : ∀ o ok, vm.findClass "java/lang/Object" = some o → vm.classes[o]? = some ok → ok.instanceTypes.size = 0) :
    ∃ (k tk : Class) (file : Jvm.ClassFile.ClassFile) (methk : Method) (ck : Code) (toy : ClassId) (t : MethodId) (f0 : Field) (f1 : Field),
      vm.classes[c]? = some k ∧ k.name = "TufaSteps$Picture$$Lambda" ∧ k.cf = some file ∧ file.constantPool = mkD.constantPool ∧ k.instanceTypes = #[FieldType.object "TufaSteps$Picture", FieldType.boolean] ∧
      vm.method? ⟨c, 1⟩ = some methk ∧ methk.code = some ck ∧ ck.code = mkCode ∧ ck.maxLocals = 3 ∧ methk.locks = false ∧ methk.accessFlags = 0x0001 ∧ methk.sig.returnType = none ∧
      vm.findClass "TufaSteps$Picture" = some toy ∧ vm.classes[toy]? = some tk ∧ tk.isInterface = false ∧ ((methodIn toy "lambda$pen$0" "(ZII)V" tk.isInterface none).ask e vm).1 = .ok t ∧
      vm.methodReady c 27 t ∧ vm.classReady c 23 toy ∧ vm.fieldReady c 17 c f0 ∧ f0.isStatic = false ∧ f0.slot = 0 ∧ vm.fieldReady c 19 c f1 ∧ f1.isStatic = false ∧ f1.slot = 1 := by
  obtain ⟨dk', k, ok, tk, file, cf, object, iface, toy, lay, methods, target, found, hd', hk, hfile, hcf, hobj, -, hok, hlay, hms, ht, htk, hg, -, hrec, -, -, -, hitf, hpool, hmeth, hfields, hty, hres, -⟩ := Lambda.isMade_spec h
  cases hd.symm.trans hd'
  rw [hname, mk_file] at hcf
  cases hcf
  rw [hO object ok hobj hok, mk_laid] at hlay
  cases hlay
  obtain ⟨b, hb, hsame⟩ := hmeth 1 mkF (mk_second methods hms)
  simp only [Lambda.sameMethod, Bool.and_eq_true, decide_eq_true_eq] at hsame
  obtain ⟨⟨hn, -, hsig, hfl⟩, hcode⟩ := hsame
  have fc := mk_code
  have ff := mk_flags
  simp only [Prod.mk.injEq] at ff
  obtain ⟨g0, hg0, hp0⟩ := Option.map_eq_some_iff.mp mk_eF0.2.2.2
  simp only [Prod.mk.injEq] at hp0
  obtain ⟨g1, hg1, hp1⟩ := Option.map_eq_some_iff.mp mk_eF1.2.2.2
  simp only [Prod.mk.injEq] at hp1
  have hot : ok.instanceTypes = #[] := Array.eq_empty_of_size_eq_zero (hO object ok hobj hok)
  cases hfc : mkF.code with
  | none => rw [hfc] at fc; cases fc
  | some x =>
    cases hbc : b.code with
    | none => simp [hfc, hbc] at hcode
    | some y =>
      simp only [hfc, hbc, Bool.and_eq_true, decide_eq_true_eq] at hcode
      simp only [hfc, Option.map_some, Option.some.injEq, Prod.mk.injEq] at fc
      refine ⟨k, tk, file, b, y, toy, target, g0, g1, hk, by rw [hrec.1, hname]; rfl, hfile, hpool.2.1, by rw [hty.1, hot, mk_types]; rfl, by simp [Vm.method?, hk, hb], hbc, ?_, by rw [← hcode.1.1.1.1.2.1]; exact fc.2, ?_, by rw [← hfl]; exact ff.1, by rw [← hsig]; exact ff.2.2, ht, htk, hitf, hg,
        ⟨k, hk, hres 27 _ (Lambda.resolvedOf_method mk_eM.1 mk_eM.2.1 ht htk mk_eM.2.2 hg)⟩, ⟨k, hk, hres 23 _ (Lambda.resolvedOf_class mk_eC.1 mk_eC.2.2 mk_eC.2.1 ht)⟩,
        ⟨k, 0, k, hk, hres 17 _ (Lambda.resolvedOf_field mk_eF0.1 mk_eF0.2.1 mk_eF0.2.2.1), hk, hfields 0 _ hg0⟩, hp0.1, hp0.2,
        ⟨k, 1, k, hk, hres 19 _ (Lambda.resolvedOf_field mk_eF1.1 mk_eF1.2.1 mk_eF1.2.2.1), hk, hfields 1 _ hg1⟩, hp1.1, hp1.2⟩
      · rw [← hcode.1.1.1.1.2.2]
        exact ByteArray.ext fc.1
      · simp [Method.locks, Method.isSynchronized, ← hfl, ff.1, hasFlag, Acc.synchronized]
theorem mk_O {args : Array Value} {s : State} (hts : ∀ w ∈ lw_all, w.before args s = true) : ∀ o ok, s.vm.findClass "java/lang/Object" = some o → s.vm.classes[o]? = some ok → ok.instanceTypes.size = 0 := by
  intro o ok h1 h2
  obtain ⟨c, k, q1, q2, -, -, -, q3⟩ := Cond.instantiable_spec (hts _ q1741)
  cases h1.symm.trans q1
  cases h2.symm.trans q2
  exact q3
