set_option maxRecDepth 100000
set_option maxHeartbeats 4000000 in
set_option maxRecDepth 100000 in
theorem met_J19_init (l : Launch) (D : TG) (E : TE) (q : Nat) : tMet l yJ19_init cJ19_init 1 none 1 40 (0) (0) [.ref q] D E [] tY0 (S := Unit) (fun u_ => True) (fun u_ => none) (fun u_ => []) := by
  refine tu_met (by decide +kernel) (Nat.le_of_ble_eq_true rfl) ?_
  intro p0 e0 s0 m0 below meth c0 A ls args Q hag hQ C hK hX hY hP hD hA hAe hl
  obtain ⟨kx, kb, hml, hown, hts, -⟩ := id C
  have hS : va_S A s0.heap s0.heap [] := va_S.rf
  have hl : lv_has ls 1 [(0, .ref q)] := hl
  refine lv_aload_n kx kb dJ19_init_0 rfl (lv_at hl 0 rfl) ?_
  refine W.objInit kx kb hown (hts _ q723) (hts _ q102) (hts _ q103) rfl (by rw [hml]; exact hl.1) rfl dJ19_init_1 (Nat.le_of_ble_eq_true rfl) (Nat.le_of_ble_eq_true rfl) ?_
  refine W.eq (g2 := F0 m0 4 ls []) rfl ?_
  subst hQ
  exact tm_vret C () trivial hP hD hS (show 0 ≤ 0 from by omega) (show 0 ≤ 0 from by omega) rfl rfl dJ19_init_4
set_option maxHeartbeats 4000000 in
set_option maxRecDepth 100000 in
theorem met_J20_init (l : Launch) (D : TG) (E : TE) (q : Nat) : tMet l yJ20_init cJ20_init 1 none 2 60 (1) (17) [.ref q] D E [(q, .inr (4, [.null, .int (iI 0), .int (iI 0)]))] tY0 (S := Nat) (fun u_ => True) (fun u_ => none) (fun u_ => [(q, .inr (4, [.ref u_, .int (iI 0), .int (iI 0)])), (u_, .inl (D.2 5, 17, .inr (.inr (.inr (.inr (fun _ => none))))))]) := by
  refine tu_met (by decide +kernel) (Nat.le_of_ble_eq_true rfl) ?_
  intro p0 e0 s0 m0 below meth c0 A ls args Q hag hQ C hK hX hY hP hD hA hAe hl
  obtain ⟨kx, kb, hml, hown, hts, -⟩ := id C
  have hS : va_S A s0.heap s0.heap [] := va_S.rf
  have hl : lv_has ls 1 [(0, .ref q)] := hl
  refine lv_aload_n kx kb dJ20_init_0 rfl (lv_at hl 0 rfl) ?_
  refine t_callI (wr := [(q, .inr (4, [.null, .int (iI 0), .int (iI 0)]))]) C (met_J19_init l D E q) (cwI 0 hts (lw_meth q722) rfl rfl rfl (hts _ q82) (hts _ q827) (hts _ q721) rfl (by decide +kernel) ⟨Nat.le_of_ble_eq_true rfl, Nat.le_of_ble_eq_true rfl⟩) hK hX hP hD hS hA [] [0] rfl rfl (by decide) (by decide) (by decide) tYb_0 (fun _ _ _ => trivial) rfl hl.1 rfl (Nat.le_of_ble_eq_true rfl) dJ20_init_1 ⟨(show 0 ≤ 1 from by omega), (show 0 ≤ 17 from by omega)⟩ (fun u_ H locs hp hP hD hS => ?_)
  have hP : va_P D.1 clAll [(q, .inr (4, [.null, .int (iI 0), .int (iI 0)]))] H := hP
  have hD : va_D A [(q, .inr (4, [.null, .int (iI 0), .int (iI 0)]))] := hD
  refine W.eq (g2 := F0 m0 4 ls []) rfl ?_
  refine lv_aload_n kx kb dJ20_init_4 rfl (lv_at hl 0 rfl) ?_
  refine lv_bipush (v := iI 17) kx kb dJ20_init_5 rfl ?_
  refine ta_newO C hown (hts _ q828) hX hK hP hD hS hA 17 (by omega) ⟨(show 1 ≤ 1 from by omega), (show 17 ≤ 17 from by omega)⟩ dJ20_init_7 (fun q_1 H hP hD hS => ?_)
  have hP : va_P D.1 clAll [(q, .inr (4, [.null, .int (iI 0), .int (iI 0)])), (q_1, .inl (D.2 5, 17, .inr (.inr (.inr (.inr (fun _ => none))))))] H := hP
  have hD : va_D A [(q, .inr (4, [.null, .int (iI 0), .int (iI 0)])), (q_1, .inl (D.2 5, 17, .inr (.inr (.inr (.inr (fun _ => none))))))] := hD
  refine va_put (D := D.1) (ci := 4) (v := .ref q_1) (ty := (.array (.object "java/lang/Object"))) (C := RJ20) (T := TJ20) (N := 3) kx kb hts in_J20 tyJ20 tyJ20_ok nmJ20 hown hK hP hD hS 0 rfl rfl 0 (by decide) (hts _ q830) (fun _ h9 => h9) rfl (by decide +kernel) rfl rfl (Nat.le_of_ble_eq_true rfl) dJ20_init_10 (fun H locs hP hD hS => ?_)
  have hP : va_P D.1 clAll [(q, .inr (4, [.ref q_1, .int (iI 0), .int (iI 0)])), (q_1, .inl (D.2 5, 17, .inr (.inr (.inr (.inr (fun _ => none))))))] H := hP
  have hD : va_D A [(q, .inr (4, [.ref q_1, .int (iI 0), .int (iI 0)])), (q_1, .inl (D.2 5, 17, .inr (.inr (.inr (.inr (fun _ => none))))))] := hD
  subst hQ
  exact tm_vret C q_1 trivial hP hD hS (show 1 ≤ 1 from by omega) (show 17 ≤ 17 from by omega) rfl rfl dJ20_init_13
set_option maxHeartbeats 4000000 in
set_option maxRecDepth 100000 in
theorem met_J20_inc (l : Launch) (D : TG) (E : TE) (i : Nat) (n : Nat) (hi : i < n ∧ n < 100000) : tRd l yJ20_inc cJ20_inc 2 (some .int) 0 0 [.int (iI ((i : Nat) : Int)), .int (iI ((n : Nat) : Int))] D E [] tY0 (some (.int (iI ((wr n (i + 1) : Nat) : Int)))) := by
  refine tu_rd (by decide +kernel) (Nat.le_of_ble_eq_true rfl) ?_
  intro p0 e0 s0 m0 below meth c0 A ls args Q hag hQ C hK hX hY hP hD hA hAe hl
  obtain ⟨kx, kb, hml, hown, hts, -⟩ := id C
  have hS : va_S A s0.heap s0.heap [] := va_S.rf
  have hl : lv_has ls 2 [(0, .int (iI ((i : Nat) : Int))), (1, .int (iI ((n : Nat) : Int)))] := hl
  refine ti_iinc (a := ((i : Nat) : Int)) (lv' := [(0, .int (iI (((i : Nat) : Int) + 1))), (1, .int (iI ((n : Nat) : Int)))]) kx kb dJ20_inc_0 hl (k := 0) rfl (by decide) rfl (fun ls hl => ?_)
  refine lv_iload_n kx kb dJ20_inc_3 rfl (lv_at hl 0 rfl) ?_
  refine lv_iload_n kx kb dJ20_inc_4 rfl (lv_at hl 1 rfl) ?_
  refine ti_icmp_lt (tgt := 10) kx kb (by omega) dJ20_inc_5 (by decide) (fun h5 => ?_) (fun h5 => ?_)
  · refine lv_iload_n kx kb dJ20_inc_10 rfl (lv_at hl 0 rfl) ?_
    subst hQ
    exact tr_iret C rfl (by rw [show wr n (i + 1) = i + 1 from by unfold wr; rw [if_pos (by omega)]]; rfl) dJ20_inc_11
  · refine lv_iconst (v := iI 0) kx kb dJ20_inc_8 rfl ?_
    refine lv_istore_n (lv' := [(0, .int (iI 0)), (1, .int (iI ((n : Nat) : Int)))]) kx kb dJ20_inc_9 rfl hl (by decide) rfl (fun ls hl => ?_)
    refine lv_iload_n kx kb dJ20_inc_10 rfl (lv_at hl 0 rfl) ?_
    subst hQ
    exact tr_iret C rfl (by rw [show wr n (i + 1) = 0 from by unfold wr; rw [if_neg (by omega)]; omega]; rfl) dJ20_inc_11
set_option maxHeartbeats 4000000 in
set_option maxRecDepth 100000 in
theorem met_J20_isEmpty (l : Launch) (D : TG) (E : TE) (q : Nat) (el : Nat) (n : Nat) (h : Nat) (t : Nat) (f : Nat → Option Nat) (L : List Nat) (hq : DQ n h t f L) : tRd l yJ20_isEmpty cJ20_isEmpty 1 (some .boolean) 0 0 [.ref q] D E [(q, .inr (4, [.ref el, .int (iI ((h : Nat) : Int)), .int (iI ((t : Nat) : Int))])), (el, .inl (D.2 5, n, .inr (.inr (.inr (.inr f)))))] tY0 (some (.int (zI (decide (L = []))))) := by
  refine tu_rd (by decide +kernel) (Nat.le_of_ble_eq_true rfl) ?_
  intro p0 e0 s0 m0 below meth c0 A ls args Q hag hQ C hK hX hY hP hD hA hAe hl
  obtain ⟨kx, kb, hml, hown, hts, -⟩ := id C
  have hS : va_S A s0.heap s0.heap [] := va_S.rf
  have hl : lv_has ls 1 [(0, .ref q)] := hl
  have hdt := DQ_t hq
  have hdh := hq.1
  have hdn := hq.2.1
  refine lv_aload_n kx kb dJ20_isEmpty_0 rfl (lv_at hl 0 rfl) ?_
  refine va_get (D := D.1) (ci := 4) (v := .int (iI ((h : Nat) : Int))) (C := RJ20) (T := TJ20) (N := 3) kx kb hts in_J20 hown hK hP 0 rfl rfl 1 (by decide) (hts _ q831) (fun _ h9 => h9) rfl dJ20_isEmpty_1 ?_
  refine lv_aload_n kx kb dJ20_isEmpty_4 rfl (lv_at hl 0 rfl) ?_
  refine va_get (D := D.1) (ci := 4) (v := .int (iI ((t : Nat) : Int))) (C := RJ20) (T := TJ20) (N := 3) kx kb hts in_J20 hown hK hP 0 rfl rfl 2 (by decide) (hts _ q832) (fun _ h9 => h9) rfl dJ20_isEmpty_5 ?_
  refine ti_icmp_ne (tgt := 15) kx kb (by omega) dJ20_isEmpty_8 (by decide) (fun h8 => ?_) (fun h8 => ?_)
  · refine lv_iconst (v := iI 0) kx kb dJ20_isEmpty_15 rfl ?_
    refine W.eq (g2 := F0 m0 16 ls [.int (zI false)]) rfl ?_
    subst hQ
    exact tr_zret C rfl (by rw [decide_eq_false (fun e_ => h8 (by have := (DQ_emp hq).mpr e_; omega))]) dJ20_isEmpty_16
  · refine lv_iconst (v := iI 1) kx kb dJ20_isEmpty_11 rfl ?_
    refine lv_goto (tgt := 16) kx kb dJ20_isEmpty_12 (by decide) ?_
    refine W.eq (g2 := F0 m0 16 ls [.int (zI true)]) rfl ?_
    subst hQ
    exact tr_zret C rfl (by rw [decide_eq_true ((DQ_emp hq).mp (by omega))]) dJ20_isEmpty_16
set_option maxHeartbeats 4000000 in
set_option maxRecDepth 100000 in
theorem met_J20_elementAt (l : Launch) (D : TG) (E : TE) (el : Nat) (n : Nat) (f : Nat → Option Nat) (i : Nat) (y : Nat) (hi : i < n ∧ n < 100000) (hy : f i = some y) : tRd l yJ20_elementAt cJ20_elementAt 2 (some (.object "java/lang/Object")) 0 0 [.ref el, .int (iI ((i : Nat) : Int))] D E [(el, .inl (D.2 5, n, .inr (.inr (.inr (.inr f)))))] tY0 (some (.ref y)) := by
  refine tu_rd (by decide +kernel) (Nat.le_of_ble_eq_true rfl) ?_
  intro p0 e0 s0 m0 below meth c0 A ls args Q hag hQ C hK hX hY hP hD hA hAe hl
  obtain ⟨kx, kb, hml, hown, hts, -⟩ := id C
  have hS : va_S A s0.heap s0.heap [] := va_S.rf
  have hl : lv_has ls 2 [(0, .ref el), (1, .int (iI ((i : Nat) : Int)))] := hl
  refine lv_aload_n kx kb dJ20_elementAt_0 rfl (lv_at hl 0 rfl) ?_
  refine lv_iload_n kx kb dJ20_elementAt_1 rfl (lv_at hl 1 rfl) ?_
  refine ta_oald C hK hP 0 rfl i (by omega) dJ20_elementAt_2 ?_
  refine W.eq (g2 := F0 m0 3 ls [.ref y]) (by rw [hy]; rfl) ?_
  subst hQ
  exact tr_aret C rfl (Or.inl ⟨_, rfl⟩) (Or.inr ⟨_, rfl⟩) rfl dJ20_elementAt_3
set_option maxHeartbeats 4000000 in
set_option maxRecDepth 100000 in
theorem met_J20_pollFirst (l : Launch) (D : TG) (E : TE) (q : Nat) (el : Nat) (n : Nat) (h : Nat) (t : Nat) (f : Nat → Option Nat) (y : Nat) (L : List Nat) (hq : DQ n h t f (y :: L)) : tMet l yJ20_pollFirst cJ20_pollFirst 4 (some (.object "java/lang/Object")) 1 21 (0) (0) [.ref q] D E [(q, .inr (4, [.ref el, .int (iI ((h : Nat) : Int)), .int (iI ((t : Nat) : Int))])), (el, .inl (D.2 5, n, .inr (.inr (.inr (.inr f)))))] tY0 (S := Unit) (fun u_ => True) (fun u_ => some (.ref y)) (fun u_ => [(q, .inr (4, [.ref el, .int (iI ((wr n (h + 1) : Nat) : Int)), .int (iI ((t : Nat) : Int))])), (el, .inl (D.2 5, n, .inr (.inr (.inr (.inr (va_up f h none))))))]) := by
  refine tu_met (by decide +kernel) (Nat.le_of_ble_eq_true rfl) ?_
  intro p0 e0 s0 m0 below meth c0 A ls args Q hag hQ C hK hX hY hP hD hA hAe hl
  obtain ⟨kx, kb, hml, hown, hts, -⟩ := id C
  have hS : va_S A s0.heap s0.heap [] := va_S.rf
  have hl : lv_has ls 4 [(0, .ref q)] := hl
  have hdt := DQ_t hq
  have hdh := hq.1
  have hdn := hq.2.1
  refine lv_aload_n kx kb dJ20_pollFirst_0 rfl (lv_at hl 0 rfl) ?_
  refine va_get (D := D.1) (ci := 4) (v := .ref el) (C := RJ20) (T := TJ20) (N := 3) kx kb hts in_J20 hown hK hP 0 rfl rfl 0 (by decide) (hts _ q830) (fun _ h9 => h9) rfl dJ20_pollFirst_1 ?_
  refine lv_dup kx kb dJ20_pollFirst_4 rfl ?_
  refine lv_astore_n (lv' := [(1, .ref el), (0, .ref q)]) kx kb dJ20_pollFirst_5 rfl hl (by decide) rfl (fun ls hl => ?_)
  refine lv_aload_n kx kb dJ20_pollFirst_6 rfl (lv_at hl 1 rfl) ?_
  refine va_get (D := D.1) (ci := 4) (v := .int (iI ((h : Nat) : Int))) (C := RJ20) (T := TJ20) (N := 3) kx kb hts in_J20 hown hK hP 0 rfl rfl 1 (by decide) (hts _ q831) (fun _ h9 => h9) rfl dJ20_pollFirst_7 ?_
  refine lv_dup kx kb dJ20_pollFirst_10 rfl ?_
  refine lv_istore_n (lv' := [(2, .int (iI ((h : Nat) : Int))), (1, .ref el), (0, .ref q)]) kx kb dJ20_pollFirst_11 rfl hl (by decide) rfl (fun ls hl => ?_)
  refine t_callRS C (met_J20_elementAt l D E el n f h y (by omega) (DQ_hd hq)) (va_cwS 2 hts (lw_S q932 q933 q83 q934) rfl rfl rfl (by decide +kernel) ⟨Nat.le_of_ble_eq_true rfl, Nat.le_of_ble_eq_true rfl⟩) hK hX hP hD hS hA [1] rfl (by decide) tYb_0 (fun _ _ _ => trivial) rfl hl.1 rfl (Nat.le_of_ble_eq_true rfl) dJ20_pollFirst_12 ⟨(show 0 ≤ 0 from by omega), (show 0 ≤ 0 from by omega)⟩ ?_
  refine W.eq (g2 := F0 m0 15 ls [.ref y]) rfl ?_
  refine lv_astore_n (lv' := [(3, .ref y), (2, .int (iI ((h : Nat) : Int))), (1, .ref el), (0, .ref q)]) kx kb dJ20_pollFirst_15 rfl hl (by decide) rfl (fun ls hl => ?_)
  refine lv_aload_n kx kb dJ20_pollFirst_16 rfl (lv_at hl 0 rfl) ?_
  refine lv_ifnull kx kb dJ20_pollFirst_17 ?_
  refine lv_aload_n kx kb dJ20_pollFirst_20 rfl (lv_at hl 2 rfl) ?_
  refine lv_iload_n kx kb dJ20_pollFirst_21 rfl (lv_at hl 1 rfl) ?_
  refine lv_null kx kb dJ20_pollFirst_22 ?_
  refine ta_oastN C hK hP hD hS 1 rfl h (by omega) dJ20_pollFirst_23 (fun H locs hP hD hS => ?_)
  have hP : va_P D.1 clAll [(q, .inr (4, [.ref el, .int (iI ((h : Nat) : Int)), .int (iI ((t : Nat) : Int))])), (el, .inl (D.2 5, n, .inr (.inr (.inr (.inr (va_up f h none))))))] H := hP
  have hD : va_D A [(q, .inr (4, [.ref el, .int (iI ((h : Nat) : Int)), .int (iI ((t : Nat) : Int))])), (el, .inl (D.2 5, n, .inr (.inr (.inr (.inr (va_up f h none))))))] := hD
  refine lv_aload_n kx kb dJ20_pollFirst_24 rfl (lv_at hl 3 rfl) ?_
  refine lv_iload_n kx kb dJ20_pollFirst_25 rfl (lv_at hl 1 rfl) ?_
  refine lv_aload_n kx kb dJ20_pollFirst_26 rfl (lv_at hl 2 rfl) ?_
  refine va_alen (v := iI (n : Int)) kx kb hK hP 1 5 rfl rfl (tx_ofNat _) dJ20_pollFirst_27 ?_
  refine t_callRS C (met_J20_inc l D E h n (by first | assumption | omega)) (va_cwS 2 hts (lw_S q869 q870 q83 q871) rfl rfl rfl (by decide +kernel) ⟨Nat.le_of_ble_eq_true rfl, Nat.le_of_ble_eq_true rfl⟩) hK hX hP hD hS hA [] rfl (by decide) tYb_0 (fun _ _ _ => trivial) rfl hl.1 rfl (Nat.le_of_ble_eq_true rfl) dJ20_pollFirst_28 ⟨(show 0 ≤ 0 from by omega), (show 0 ≤ 0 from by omega)⟩ ?_
  refine W.eq (g2 := F0 m0 31 ls [.int (iI ((wr n (h + 1) : Nat) : Int)), .ref q]) rfl ?_
  refine va_put (D := D.1) (ci := 4) (v := .int (iI ((wr n (h + 1) : Nat) : Int))) (ty := .int) (C := RJ20) (T := TJ20) (N := 3) kx kb hts in_J20 tyJ20 tyJ20_ok nmJ20 hown hK hP hD hS 0 rfl rfl 1 (by decide) (hts _ q831) (fun _ h9 => h9) rfl (by decide +kernel) rfl rfl (Nat.le_of_ble_eq_true rfl) dJ20_pollFirst_31 (fun H locs hP hD hS => ?_)
  have hP : va_P D.1 clAll [(q, .inr (4, [.ref el, .int (iI ((wr n (h + 1) : Nat) : Int)), .int (iI ((t : Nat) : Int))])), (el, .inl (D.2 5, n, .inr (.inr (.inr (.inr (va_up f h none))))))] H := hP
  have hD : va_D A [(q, .inr (4, [.ref el, .int (iI ((wr n (h + 1) : Nat) : Int)), .int (iI ((t : Nat) : Int))])), (el, .inl (D.2 5, n, .inr (.inr (.inr (.inr (va_up f h none))))))] := hD
  refine lv_aload_n kx kb dJ20_pollFirst_34 rfl (lv_at hl 0 rfl) ?_
  subst hQ
  exact tm_aret C () trivial hP hD hS (show 0 ≤ 0 from by omega) (show 0 ≤ 0 from by omega) rfl rfl (Or.inl ⟨_, rfl⟩) (Or.inr ⟨_, rfl⟩) dJ20_pollFirst_35
set_option maxHeartbeats 4000000 in
set_option maxRecDepth 100000 in
theorem met_J20_removeFirst (l : Launch) (D : TG) (E : TE) (q : Nat) (el : Nat) (n : Nat) (h : Nat) (t : Nat) (f : Nat → Option Nat) (y : Nat) (L : List Nat) (hq : DQ n h t f (y :: L)) : tMet l yJ20_removeFirst cJ20_removeFirst 2 (some (.object "java/lang/Object")) 2 44 (0) (0) [.ref q] D E [(q, .inr (4, [.ref el, .int (iI ((h : Nat) : Int)), .int (iI ((t : Nat) : Int))])), (el, .inl (D.2 5, n, .inr (.inr (.inr (.inr f)))))] tY0 (S := Unit) (fun u_ => True) (fun u_ => some (.ref y)) (fun u_ => [(q, .inr (4, [.ref el, .int (iI ((wr n (h + 1) : Nat) : Int)), .int (iI ((t : Nat) : Int))])), (el, .inl (D.2 5, n, .inr (.inr (.inr (.inr (va_up f h none))))))]) := by
  refine tu_met (by decide +kernel) (Nat.le_of_ble_eq_true rfl) ?_
  intro p0 e0 s0 m0 below meth c0 A ls args Q hag hQ C hK hX hY hP hD hA hAe hl
  obtain ⟨kx, kb, hml, hown, hts, -⟩ := id C
  have hS : va_S A s0.heap s0.heap [] := va_S.rf
  have hl : lv_has ls 2 [(0, .ref q)] := hl
  have hdt := DQ_t hq
  have hdh := hq.1
  have hdn := hq.2.1
  refine lv_aload_n kx kb dJ20_removeFirst_0 rfl (lv_at hl 0 rfl) ?_
  refine t_callV (wr := []) C (met_J20_pollFirst l D E q el n h t f y L (by first | assumption | omega)) (cwV 0 hts (lw_V q928 q929 q930 q83 q931) rfl rfl rfl (by decide +kernel) ⟨Nat.le_of_ble_eq_true rfl, Nat.le_of_ble_eq_true rfl⟩) (va_recv hK hP (ci := 4) (q0 := 0) rfl rfl) hK hX hP hD hS hA [0, 1] [] rfl rfl (by decide) (by decide) (by decide) tYb_0 (fun _ _ _ => trivial) rfl hl.1 rfl (Nat.le_of_ble_eq_true rfl) dJ20_removeFirst_1 ⟨(show 0 ≤ 0 from by omega), (show 0 ≤ 0 from by omega)⟩ (fun u_ H locs hp hP hD hS => ?_)
  have hP : va_P D.1 clAll [(q, .inr (4, [.ref el, .int (iI ((wr n (h + 1) : Nat) : Int)), .int (iI ((t : Nat) : Int))])), (el, .inl (D.2 5, n, .inr (.inr (.inr (.inr (va_up f h none))))))] H := hP
  have hD : va_D A [(q, .inr (4, [.ref el, .int (iI ((wr n (h + 1) : Nat) : Int)), .int (iI ((t : Nat) : Int))])), (el, .inl (D.2 5, n, .inr (.inr (.inr (.inr (va_up f h none))))))] := hD
  refine W.eq (g2 := F0 m0 4 ls [.ref y]) rfl ?_
  refine lv_astore_n (lv' := [(1, .ref y), (0, .ref q)]) kx kb dJ20_removeFirst_4 rfl hl (by decide) rfl (fun ls hl => ?_)
  refine lv_aload_n kx kb dJ20_removeFirst_5 rfl (lv_at hl 0 rfl) ?_
  refine lv_ifnonnull (tgt := 17) kx kb dJ20_removeFirst_6 (by decide) ?_
  refine lv_aload_n kx kb dJ20_removeFirst_17 rfl (lv_at hl 0 rfl) ?_
  subst hQ
  exact tm_aret C () trivial hP hD hS (show 0 ≤ 0 from by omega) (show 0 ≤ 0 from by omega) rfl rfl (Or.inl ⟨_, rfl⟩) (Or.inr ⟨_, rfl⟩) dJ20_removeFirst_18
set_option maxHeartbeats 4000000 in
set_option maxRecDepth 100000 in
theorem met_J20_remove (l : Launch) (D : TG) (E : TE) (q : Nat) (el : Nat) (n : Nat) (h : Nat) (t : Nat) (f : Nat → Option Nat) (y : Nat) (L : List Nat) (hq : DQ n h t f (y :: L)) : tMet l yJ20_remove cJ20_remove 1 (some (.object "java/lang/Object")) 3 65 (0) (0) [.ref q] D E [(q, .inr (4, [.ref el, .int (iI ((h : Nat) : Int)), .int (iI ((t : Nat) : Int))])), (el, .inl (D.2 5, n, .inr (.inr (.inr (.inr f)))))] tY0 (S := Unit) (fun u_ => True) (fun u_ => some (.ref y)) (fun u_ => [(q, .inr (4, [.ref el, .int (iI ((wr n (h + 1) : Nat) : Int)), .int (iI ((t : Nat) : Int))])), (el, .inl (D.2 5, n, .inr (.inr (.inr (.inr (va_up f h none))))))]) := by
  refine tu_met (by decide +kernel) (Nat.le_of_ble_eq_true rfl) ?_
  intro p0 e0 s0 m0 below meth c0 A ls args Q hag hQ C hK hX hY hP hD hA hAe hl
  obtain ⟨kx, kb, hml, hown, hts, -⟩ := id C
  have hS : va_S A s0.heap s0.heap [] := va_S.rf
  have hl : lv_has ls 1 [(0, .ref q)] := hl
  have hdt := DQ_t hq
  have hdh := hq.1
  have hdn := hq.2.1
  refine lv_aload_n kx kb dJ20_remove_0 rfl (lv_at hl 0 rfl) ?_
  refine t_callV (wr := []) C (met_J20_removeFirst l D E q el n h t f y L (by first | assumption | omega)) (cwV 0 hts (lw_V q924 q925 q926 q83 q927) rfl rfl rfl (by decide +kernel) ⟨Nat.le_of_ble_eq_true rfl, Nat.le_of_ble_eq_true rfl⟩) (va_recv hK hP (ci := 4) (q0 := 0) rfl rfl) hK hX hP hD hS hA [0, 1] [] rfl rfl (by decide) (by decide) (by decide) tYb_0 (fun _ _ _ => trivial) rfl hl.1 rfl (Nat.le_of_ble_eq_true rfl) dJ20_remove_1 ⟨(show 0 ≤ 0 from by omega), (show 0 ≤ 0 from by omega)⟩ (fun u_ H locs hp hP hD hS => ?_)
  have hP : va_P D.1 clAll [(q, .inr (4, [.ref el, .int (iI ((wr n (h + 1) : Nat) : Int)), .int (iI ((t : Nat) : Int))])), (el, .inl (D.2 5, n, .inr (.inr (.inr (.inr (va_up f h none))))))] H := hP
  have hD : va_D A [(q, .inr (4, [.ref el, .int (iI ((wr n (h + 1) : Nat) : Int)), .int (iI ((t : Nat) : Int))])), (el, .inl (D.2 5, n, .inr (.inr (.inr (.inr (va_up f h none))))))] := hD
  refine W.eq (g2 := F0 m0 4 ls [.ref y]) rfl ?_
  subst hQ
  exact tm_aret C () trivial hP hD hS (show 0 ≤ 0 from by omega) (show 0 ≤ 0 from by omega) rfl rfl (Or.inl ⟨_, rfl⟩) (Or.inr ⟨_, rfl⟩) dJ20_remove_4
