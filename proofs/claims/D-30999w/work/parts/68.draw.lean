/-! a call of the pen: TufaSteps$Pen.draw on an object of the made class -/
set_option maxRecDepth 100000
section LAM
variable {p : Program} {l : Launch} {e : Env} {R : Room} {s : State} {m : MethodId} {args : Array Value} {below : List Frame} {meth : Method} {c : Code} {H : Heap} {locs : List Loc} {cells slots : Nat}
theorem mk_words {s : State} {args : Array Value} (hts : ∀ w ∈ lw_all, w.before args s = true) : ∀ w ∈ ws_ yX2_lambda_pen_0 cX2_lambda_pen_0 4 none, ∀ (a' : Array Value) (U : State), s.WarmedH U.vm → w.before a' U = true :=
  pay_in hts (lw_meth q1240)
theorem va_runLam {cc : ByteArray} {nL mc ms index count : Nat} {rm : Room} {Pc : Array Value → State → Prop} {Qc : Array Value → State → Outcome → State → Prop} {free : Addr → Prop} {own : String} {cC : ClassId} {a q : Nat} {z : Int32} {x y : Int32} {rest : List Value} {g : JFrame}
    (S : CallFix p m c cc nL s args lw_all own) (hlink : Cond.methodLink own index tPenD ∈ lw_all) (hlam : tLam cC s) (hpf : tPf s) (hcell : H[q]? = some ({ cls := cC, slots := #[.ref a, .int z], vm := .none } : Cell))
    (hpic : ∃ cell : Cell, H[a]? = some cell ∧ cell.vm.isStatics = false ∧ s.vm.findClass "TufaSteps$Picture" = some cell.cls)
    (hM : Met l yX2_lambda_pen_0 (ws_ yX2_lambda_pen_0 cX2_lambda_pen_0 4 none) rm Pc Qc mc ms free) (hblind : FrameBlind Pc) (hpre : ∀ U : State, U.heap = H → s.WarmedH U.vm → Pc #[.ref a, .int z, .int x, .int y] U)
    (hret : ∀ a' st o t, Qc a' st o t → o = .returned none)
    (hrm : rm.cells = mc ∧ rm.slots = ms ∧ rm.frames + 2 ≤ R.frames ∧ 60 + rm.locals ≤ R.locals)
    (hg : g.method = m) (hsize : g.locals.size = nL) (hstack : g.stack = [Value.int y, Value.int x] ++ .ref q :: rest) (hW : 2 * g.monitorRoom + (rest.map fun v => v.category).sum ≤ 8) (hdg : decode cc g.pc = .ok (.invokeinterface index count, 5)) (hf : cells + mc ≤ R.cells ∧ slots + ms ≤ R.slots) :
    va_Run5 p l e R s m args below meth c H locs cells slots mc ms g rest (Qc #[.ref a, .int z, .int x, .int y]) free := by
  obtain ⟨hx, hb, hml, ho, hts⟩ := S
  intro T hT X
  obtain ⟨m0, k0, cf0, i0, p0, lk, hm0, hk0, -, -, -, -, hmade, hcan, -⟩ := State.lambdaAt?_spec hlam
  obtain ⟨k1, hk1, hn1⟩ := className_of_methodNamed hm0
  cases hk0.symm.trans hk1
  obtain ⟨kc, tk, file, methk, ck, toy, t, f0, f1, a1, a2, a3, a4, a5, a6, a7, a8, a9, a10, a11, a12, -⟩ := mk_facts hk0 hn1 hmade (mk_O hts)
  obtain ⟨dk', k', ok', tk', file', cf', object', iface', t', lay', methods', target', found, -, -, -, -, -, hi, -, -, -, -, -, -, hfound, -, -, -, -, -, -, -, -, -, -, hsel⟩ := Lambda.isMade_spec hmade
  obtain ⟨r0, r, hn, hrm0, hstR, hsigR⟩ := Cond.declares_spec hpf.1
  obtain ⟨cL, kL, r1, hcL, hkL, hiL, hfoundL, hn1'⟩ := Cond.interfaceMethod_spec hpf.2
  cases hn.symm.trans hn1'
  have hr0cls : r0.cls = cL := Option.some.inj ((findClass_of_methodNamed hn).symm.trans hcL)
  obtain ⟨hnameR, hdescR⟩ := name_of_methodNamed hn hrm0
  obtain ⟨i2, hi2, hasg, hway⟩ := State.lambdaCallable_spec hcan
  have hi2' : s.vm.findClass "TufaSteps$Pen" = some i2 := hi2
  have hi' : s.vm.findClass "TufaSteps$Pen" = some iface' := hi
  cases hi2'.symm.trans hi'
  cases hcL.symm.trans hi'
  have hfr : found = r0 := by
    have h1 := hfoundL
    unfold State.methodFound? at h1
    simp only [hcL, hkL, hiL, Option.bind_eq_bind, Option.bind_some] at h1
    have h2 : ((methodIn iface' "draw" "(II)V" true none).ask { classPath := fun _ => none } s.vm).1 = .ok found := hfound
    rw [h2] at h1
    exact Option.some.inj h1
  subst hfr
  obtain ⟨vm₁, X₁, hstep₁⟩ := X.invokeinterface hx ho (hts _ hlink) hn hrm0 hstR (by rw [hr0cls]; exact hkL) hiL (by decide) (a := q) (cell := { cls := cC, slots := #[.ref a, .int z], vm := .none }) (kcell := kc) (by rw [hT]; exact hcell)
    (fun z h => by cases h) a1 (by rw [hr0cls]; exact hasg) (by rw [Launch.admits_selectMethod X.admits]; exact hsel) a6 (by rw [hnameR, hdescR]; exact hway) (by rw [a11]; decide) (by simp [Method.isAbstract, a11, hasFlag, Acc.abstract]) hg (argsL := [.int x, .int y]) (rest := rest)
    (by
      have h9 : parseMethodDescriptor "(II)V" = some r.sig := hsigR
      have h8 : (parseMethodDescriptor "(II)V").map (fun d => d.parameters.length) = some 2 := by decide +kernel
      rw [h9] at h8
      exact (Option.some.inj h8).symm) hstack (by rw [hb]; exact hdg)
  have hW₁ : s.WarmedH vm₁ := X₁.warmed
  have hA₁ := hW₁.alike
  obtain ⟨k2, hk2, he2⟩ := hA₁.2.2 _ _ hk0
  have hmade₁ := Lambda.isMade_warmer hW₁ hmade
  obtain ⟨kc, tk, file, methk, ck, toy, t, f0, f1, b1, b2, b3, b4, b5, b6, b7, b8, b9, b10, b11, b12, b13, b14, b15, b16, b17, b18, b19, b20, b21, b22, b23, b24⟩ := mk_facts hk2 (by rw [he2]; exact hn1) hmade₁ (mk_O (s := T.setVm vm₁) (args := args) (fun w hw => by
    obtain ⟨h1, h2⟩ := lw_self w hw
    exact word_at (U := T.setVm vm₁) hW₁ h2 (hts w hw)))
  have hpl : (T.setVm vm₁).plainMethod ⟨cC, 1⟩ := State.plainMethod.of_name (fun k' hk' => by
    have hk'' : vm₁.classes[cC]? = some k' := hk'
    cases b1.symm.trans hk''; rw [b2]; decide +kernel)
  obtain ⟨hrc, hrs, hfrm, hlo⟩ := hrm
  have hsz1 : g.locals.size = c.maxLocals := hsize.trans hml.symm
  have hg1 : ({ g with stack := rest } : JFrame).method = m := hg
  have hdg1 : decode c.code ({ g with stack := rest } : JFrame).pc = .ok (.invokeinterface index count, 5) := by rw [hb]; exact hdg
  obtain ⟨Y₀, hin⟩ := X₁.into (g := { g with stack := rest }) hg1 hsz1 hdg1 #[.ref q, .int x, .int y] (R' := { frames := R.frames - 1, cells := R.cells - cells, slots := R.slots - slots, locals := R.locals - 30 }) b6 b7 b10 hpl (show R.frames - 1 + 1 ≤ R.frames by omega)
    (by rw [b9]; show 2 * g.monitorRoom + (rest.map fun v => v.category).sum + (3 + 11) + (R.locals - 30) ≤ R.locals; omega) (show cells + (R.cells - cells) ≤ R.cells by omega) (show slots + (R.slots - slots) ≤ R.slots by omega)
  generalize hU : ((T.setVm vm₁).setTop { g with stack := rest }).pushFrame (.java (entryFrame ⟨cC, 1⟩ #[.ref q, .int x, .int y] ck.maxLocals)) = U at Y₀ hin
  have hvm : U.vm = vm₁ := by rw [← hU]; rfl
  have hheap : U.heap = H := by rw [← hU, ← hT]; rfl
  have hWU : s.WarmedH U.vm := by rw [hvm]; exact hW₁
  have hwU : ∀ w ∈ lw_all, w.before #[] U = true := fun w hw => word_at hWU (lw_self w hw).2 (hts w hw)
  obtain ⟨cA, hcA, hsA, hfA⟩ := hpic
  obtain ⟨c2, r2, m2, q1, q2, q3, q4, kP, hkP, hkPi⟩ := Cond.selects_spec (hwU _ qs20)
  obtain ⟨metht, ct, d1, d2, d3, d4, d5, d6, d7, d8⟩ := Cond.code_spec q3 (hwU _ q1240)
  obtain ⟨mI, metI, w1, w2, w3, w4⟩ := Cond.instanceMethod_spec (hwU _ q1239)
  cases q3.symm.trans w1
  cases d1.symm.trans w2
  have hfind : s.vm.findClass "TufaSteps$Picture" = some toy := by rw [← hA₁.findClass]; exact b13
  cases hfA.symm.trans hfind
  have q1' : vm₁.findClass "TufaSteps$Picture" = some c2 := by rw [← hvm]; exact q1
  cases q1'.symm.trans b13
  have ht2 : t = r2 := by
    have h1 : U.methodFound? "TufaSteps$Picture" "lambda$pen$0" "(ZII)V" = some r2 := q2
    unfold State.methodFound? at h1
    simp only [hvm, b13, b14, Option.bind_eq_bind, Option.bind_some] at h1
    rw [b16] at h1
    exact Option.some.inj h1
  subst ht2
  have hm2 : t = m2 := Option.some.inj (q2.symm.trans (State.methodFound?_of_named q3 (by decide)))
  subst hm2
  have hK : Back l { frames := R.frames - 1, cells := R.cells - cells, slots := R.slots - slots, locals := R.locals - 30 } p e (.java { g with stack := rest } :: below) ((T.setVm vm₁).calling { g with stack := rest } ⟨cC, 1⟩ #[.ref q, .int x, .int y]) #[.ref q, .int x, .int y] yX2_lambda_pen_0 3 8 (PreOf { frames := R.frames - 1, cells := R.cells - cells, slots := R.slots - slots, locals := R.locals - 30 } mc ms Pc) (PostOf Qc mc ms free) :=
    back_of (bytes := cX2_lambda_pen_0) (maxL := 4) (ret := none) hM hblind hrc hrs (show rm.frames + 1 ≤ R.frames - 1 by omega) (show 8 + (4 + 11) + rm.locals ≤ R.locals - 30 by omega)
      (fun w hw a' U' hU' => mk_words hts w hw a' U' (State.WarmedH.trans X₁.warmed (show (T.setVm vm₁).WarmedH U'.vm from hU'))) List.mem_cons_self
      (fun a' U' hU' => word_at (State.WarmedH.trans X₁.warmed (show (T.setVm vm₁).WarmedH U'.vm from hU')) (lw_self _ q60).2 (hts _ q60))
  obtain ⟨v, ⟨V, l2, c2', s2⟩, Y₁, ⟨g', mk', tt, L, e1, e2, hq, h1, hL, h2, h3⟩, hsteps⟩ := hK ⟨cC, 1⟩ methk ck (U, [], 0, 0) { method := ⟨cC, 1⟩, pc := 10, locals := #[.val (.ref q), .val (.int x), .val (.int y)], stack := [], locked := none } (.invokevirtual 27) t #[.ref a, .int z, .int x, .int y] Y₀ rfl (by rw [b9]; rfl) (by rw [b8]; exact mk_d10) (Nat.le_of_ble_eq_true rfl) q3
    ⟨show 0 + mc ≤ R.cells - cells by omega, show 0 + ms ≤ R.slots - slots by omega, hpre U hheap hWU⟩
  dsimp only [Pt.U, Pt.locs, Pt.cells, Pt.slots] at Y₁ e1 e2 h1 h2 h3 hsteps hq
  have hvn : v = none := by
    have := hret _ _ _ _ hq
    exact Outcome.returned.inj this
  subst hvn
  obtain ⟨fs, hleave, -, hended, hWe, hsame⟩ := Y₁.leave (v := none) (fun _ => rfl) b10
  obtain ⟨T', X', hW', -, ht⟩ := X₁.outOf hg1 hdg1 hended hWe hsame
  have hT'h : T'.heap = tt.heap := by
    have : (V.setFrames fs).heap = (T'.setTop { g with pc := g.pc + 5, stack := (none : Option Value).toList ++ rest }).heap := congrArg State.heap ht
    exact (this.symm.trans e1 : _)
  have hT'v : T'.vm = tt.vm := by
    have : (V.setFrames fs).vm = (T'.setTop { g with pc := g.pc + 5, stack := (none : Option Value).toList ++ rest }).vm := congrArg State.vm ht
    exact (this.symm.trans e2 : _)
  subst h1; subst h2; subst h3
  refine ⟨none, U.calling g' mk' #[.ref a, .int z, .int x, .int y], tt, T', l2, hheap, ?_, hL, hT'h, hT'v, hq, fun target hh => ?_⟩
  · have : Stand p l e R s m args below meth c T' (locs ++ l2) (cells + (0 + mc)) (slots + (0 + ms)) := X'
    rw [Nat.zero_add, Nat.zero_add] at this
    exact this
  refine hstep₁ target fun acts => ?_
  show Steps p.tables e below (doInvoke e ((T.setVm vm₁).setTop { g with stack := rest }) acts ⟨cC, 1⟩ #[.ref q, .int x, .int y]).1 target
  rw [hin acts]
  refine Steps.trans (?_ : Steps p.tables e below _ (T'.setTop { g with pc := g.pc + 5, stack := (none : Option Value).toList ++ rest })) hh
  have ht' : V.setFrames fs = T'.setTop { g with pc := g.pc + 5, stack := (none : Option Value).toList ++ rest } := ht
  rw [← ht']
  refine Steps.weaken (mid := [.java { g with stack := rest }]) ?_
  have hloc : entryFrame ⟨cC, 1⟩ #[.ref q, .int x, .int y] ck.maxLocals = { method := ⟨cC, 1⟩, pc := 0, locals := #[.val (.ref q), .val (.int x), .val (.int y)], stack := [], locked := none } := by rw [b9]; rfl
  rw [hloc]
  have hs : U.topJava?.isSome := Y₀.here.top
  jvm_step Y₀.here [hx, b8, mk_d0, Value.isRef]
  jvm_step Y₀.here [hx, b8, mk_d1, getfield.wp_ready (e := e) (s := U) (c := cC) (field := f0) (a := q) (rest := []) (cell := { cls := cC, slots := #[.ref a, .int z], vm := .none }) (v := .ref a)
    (f := { method := ⟨cC, 1⟩, pc := 1, locals := #[.val (.ref q), .val (.int x), .val (.int y)], stack := [.ref q], locked := none }) hs (by rw [hvm]; exact b19) b20 rfl (by rw [hheap]; exact hcell) (fun h => by cases h) (by rw [b21]; rfl)]
  jvm_step Y₀.here [hx, b8, mk_d4, Value.isRef]
  jvm_step Y₀.here [hx, b8, mk_d5, getfield.wp_ready (e := e) (s := U) (c := cC) (field := f1) (a := q) (rest := [.ref a]) (cell := { cls := cC, slots := #[.ref a, .int z], vm := .none }) (v := .int z)
    (f := { method := ⟨cC, 1⟩, pc := 5, locals := #[.val (.ref q), .val (.int x), .val (.int y)], stack := [.ref q, .ref a], locked := none }) hs (by rw [hvm]; exact b22) b23 rfl (by rw [hheap]; exact hcell) (fun h => by cases h) (by rw [b24]; rfl)]
  jvm_step Y₀.here [hx, b8, mk_d8]
  jvm_step Y₀.here [hx, b8, mk_d9]
  jvm_step Y₀.here [hx, b8, mk_d10, invokevirtual.wp_ready (e := e) (s := U) (r := t) (m := t) (k := tk) (mk := tk) (rmeth := metht) (meth := metht) (a := a) (args := [.int z, .int x, .int y]) (rest := []) (cell := cA)
    (f := { method := ⟨cC, 1⟩, pc := 10, locals := #[.val (.ref q), .val (.int x), .val (.int y)], stack := [.int y, .int x, .int z, .ref a], locked := none }) hs
    ⟨kc, file, 23, 26, cA.cls, tk, by rw [hvm]; exact b1, b3, by rw [b4]; exact mk_eM.1, by rw [hvm]; exact b18, by rw [hvm]; exact b14, b15⟩ (by rw [hvm]; exact b17)
    (by
      have h9 := findClass_of_methodNamed q3
      have h9' : U.vm.findClass "TufaSteps$Picture" = some t.cls := h9
      rw [hvm, b13] at h9'
      rw [← Option.some.inj h9', hvm]; exact b14) d1
    (by
      obtain ⟨kz, hkz, hnz⟩ := className_of_methodNamed q3
      have h9 := findClass_of_methodNamed q3
      have h9' : U.vm.findClass "TufaSteps$Picture" = some t.cls := h9
      rw [hvm, b13] at h9'
      rw [← Option.some.inj h9', hvm, b14] at hkz
      cases hkz
      have hnz' : tk.name = "TufaSteps$Picture" := hnz
      simp [signaturePolymorphic, hnz']) w3
    (by
      have h9 : parseMethodDescriptor "(ZII)V" = some metht.sig := d8
      have h8 : (parseMethodDescriptor "(ZII)V").map (fun d => d.parameters.length) = some 3 := by decide +kernel
      rw [h9] at h8
      exact (Option.some.inj h8).symm) rfl (by rw [hheap]; exact hcA) (fun k h => by rw [h] at hsA; cases hsA) (by rw [Launch.admits_selectMethod X.admits]; exact q4) d1 w4
    (by
      have h9 := findClass_of_methodNamed q3
      have h9' : U.vm.findClass "TufaSteps$Picture" = some t.cls := h9
      rw [hvm, b13] at h9'
      rw [← Option.some.inj h9', hvm]; exact b14) b15]
  intro acts'
  rw [doInvoke_state]
  refine hsteps.trans ?_
  show Steps p.tables e (.java { g with stack := rest } :: below) (V.setTop { method := ⟨cC, 1⟩, pc := 13, locals := #[.val (.ref q), .val (.int x), .val (.int y)], stack := [], locked := none }) _
  jvm_step Y₁.here [hx, b8, mk_d13, Y₁.method', b12]
  intro acts''
  rw [hleave { method := ⟨cC, 1⟩, pc := 13, locals := #[.val (.ref q), .val (.int x), .val (.int y)], stack := [], locked := none } acts'' rfl rfl rfl]
  exact Steps.refl _
end LAM
