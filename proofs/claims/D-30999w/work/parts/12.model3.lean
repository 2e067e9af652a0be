set_option maxRecDepth 100000
set_option maxHeartbeats 4000000 in
set_option maxRecDepth 100000 in
theorem met_X3_open_ok (l : Launch) (D : TG) (E : TE) (o : Nat) (b1 : Nat) (b2 : Nat) (b3 : Nat) (b4 : Nat) (b5 : Nat) (b6 : Nat) (thr : Int) (w : Nat) (g : Nat) (ik : Nat → Bool) (st : Nat → Bool) (kp : Nat → Bool) (go : Nat → Bool) (dp : Nat → Int) (pt : Nat → Int) (w2 : Nat) (g2 : Nat) (hw : 1 ≤ w ∧ w ≤ 32) (hg : 1 ≤ g ∧ g ≤ 32) (hv : 1 ≤ w2 ∧ w2 ≤ 32 ∧ 1 ≤ g2 ∧ g2 ≤ 32) : tMet l yX3_open cX3_open 4 (some .int) 1 23 (0) (0) [.ref o, .int (iI (w2 : Int)), .int (iI (g2 : Int))] D E [(o, .inr (0, [.int (iI thr), .ref b1, .ref b2, .ref b3, .ref b4, .ref b5, .ref b6, .int (iI (w : Int)), .int (iI (g : Int))])), (b1, .inl (D.2 0, 1024, .inl (fun x_ => zI (ik x_)))), (b2, .inl (D.2 0, 1024, .inl (fun x_ => zI (st x_)))), (b3, .inl (D.2 0, 1024, .inl (fun x_ => zI (kp x_)))), (b4, .inl (D.2 0, 1024, .inl (fun x_ => zI (go x_)))), (b5, .inl (D.2 1, 1024, .inl (fun x_ => iI (dp x_)))), (b6, .inl (D.2 1, 1024, .inl (fun x_ => iI (pt x_))))] tY0 (S := Unit) (fun u_ => True) (fun u_ => some (.int (iI (100 * (w : Int) + (g : Int))))) (fun u_ => [(o, .inr (0, [.int (iI 0), .ref b1, .ref b2, .ref b3, .ref b4, .ref b5, .ref b6, .int (iI (w2 : Int)), .int (iI (g2 : Int))])), (b1, .inl (D.2 0, 1024, .inl (fun x_ => zI ((fun _ => false) x_)))), (b2, .inl (D.2 0, 1024, .inl (fun x_ => zI ((fun _ => false) x_)))), (b3, .inl (D.2 0, 1024, .inl (fun x_ => zI (kp x_)))), (b4, .inl (D.2 0, 1024, .inl (fun x_ => zI (go x_)))), (b5, .inl (D.2 1, 1024, .inl (fun x_ => iI (dp x_)))), (b6, .inl (D.2 1, 1024, .inl (fun x_ => iI (pt x_))))]) := by
  refine tu_met (by decide +kernel) (Nat.le_of_ble_eq_true rfl) ?_
  intro p0 e0 s0 m0 below meth c0 A ls args Q hag hQ C hK hX hY hP hD hA hAe hl
  obtain ⟨kx, kb, hml, hown, hts, -⟩ := id C
  have hS : va_S A s0.heap s0.heap [] := va_S.rf
  have hl : lv_has ls 4 [(0, .ref o), (1, .int (iI (w2 : Int))), (2, .int (iI (g2 : Int)))] := hl
  have hwg := wg_le hw hg
  refine lv_aload_n kx kb dX3_open_0 rfl (lv_at hl 0 rfl) ?_
  refine lv_iconst (v := iI 0) kx kb dX3_open_1 rfl ?_
  refine va_put (D := D.1) (ci := 0) (v := .int (iI 0)) (ty := .int) (C := RX3) (T := TX3) (N := 9) kx kb hts in_X3 tyX3 tyX3_ok nmX3 hown hK hP hD hS 0 rfl rfl 0 (by decide) (hts _ q1370) (fun _ h9 => h9) rfl (by decide +kernel) rfl rfl (Nat.le_of_ble_eq_true rfl) dX3_open_2 (fun H locs hP hD hS => ?_)
  have hP : va_P D.1 clAll [(o, .inr (0, [.int (iI 0), .ref b1, .ref b2, .ref b3, .ref b4, .ref b5, .ref b6, .int (iI (w : Int)), .int (iI (g : Int))])), (b1, .inl (D.2 0, 1024, .inl (fun x_ => zI (ik x_)))), (b2, .inl (D.2 0, 1024, .inl (fun x_ => zI (st x_)))), (b3, .inl (D.2 0, 1024, .inl (fun x_ => zI (kp x_)))), (b4, .inl (D.2 0, 1024, .inl (fun x_ => zI (go x_)))), (b5, .inl (D.2 1, 1024, .inl (fun x_ => iI (dp x_)))), (b6, .inl (D.2 1, 1024, .inl (fun x_ => iI (pt x_))))] H := hP
  have hD : va_D A [(o, .inr (0, [.int (iI 0), .ref b1, .ref b2, .ref b3, .ref b4, .ref b5, .ref b6, .int (iI (w : Int)), .int (iI (g : Int))])), (b1, .inl (D.2 0, 1024, .inl (fun x_ => zI (ik x_)))), (b2, .inl (D.2 0, 1024, .inl (fun x_ => zI (st x_)))), (b3, .inl (D.2 0, 1024, .inl (fun x_ => zI (kp x_)))), (b4, .inl (D.2 0, 1024, .inl (fun x_ => zI (go x_)))), (b5, .inl (D.2 1, 1024, .inl (fun x_ => iI (dp x_)))), (b6, .inl (D.2 1, 1024, .inl (fun x_ => iI (pt x_))))] := hD
  refine lv_aload_n kx kb dX3_open_5 rfl (lv_at hl 0 rfl) ?_
  refine lv_iload_n kx kb dX3_open_6 rfl (lv_at hl 1 rfl) ?_
  refine lv_iconst (v := iI 1) kx kb dX3_open_7 rfl ?_
  refine lv_bipush (v := iI 32) kx kb dX3_open_8 rfl ?_
  refine t_callRS C (met_X3_isIn l D E (w2 : Int) 1 32 (by first | assumption | omega)) (va_cwS 3 hts (lw_S q1407 q1408 q62 q1409) rfl rfl rfl (by decide +kernel) ⟨Nat.le_of_ble_eq_true rfl, Nat.le_of_ble_eq_true rfl⟩) hK hX hP hD hS hA [] rfl (by decide) tYb_0 (fun _ _ _ => trivial) rfl hl.1 rfl (Nat.le_of_ble_eq_true rfl) dX3_open_10 ⟨(show 0 ≤ 0 from by omega), (show 0 ≤ 0 from by omega)⟩ ?_
  refine W.eq (g2 := F0 m0 13 ls [.int (zI (decide (1 ≤ (w2 : Int) ∧ (w2 : Int) ≤ 32))), .ref o]) rfl ?_
  refine tz_if_eq (tgt := 30) kx kb dX3_open_13 (by decide) (fun h13 => ?_) (fun h13 => ?_)
  · simp only [decide_eq_false_iff_not] at h13; omega
  · simp only [decide_eq_true_eq, decide_eq_false_iff_not] at h13
    refine lv_iload_n kx kb dX3_open_16 rfl (lv_at hl 2 rfl) ?_
    refine lv_iconst (v := iI 1) kx kb dX3_open_17 rfl ?_
    refine lv_bipush (v := iI 32) kx kb dX3_open_18 rfl ?_
    refine t_callRS C (met_X3_isIn l D E (g2 : Int) 1 32 (by first | assumption | omega)) (va_cwS 3 hts (lw_S q1407 q1408 q62 q1409) rfl rfl rfl (by decide +kernel) ⟨Nat.le_of_ble_eq_true rfl, Nat.le_of_ble_eq_true rfl⟩) hK hX hP hD hS hA [] rfl (by decide) tYb_0 (fun _ _ _ => trivial) rfl hl.1 rfl (Nat.le_of_ble_eq_true rfl) dX3_open_20 ⟨(show 0 ≤ 0 from by omega), (show 0 ≤ 0 from by omega)⟩ ?_
    refine W.eq (g2 := F0 m0 23 ls [.int (zI (decide (1 ≤ (g2 : Int) ∧ (g2 : Int) ≤ 32))), .ref o]) rfl ?_
    refine tz_if_eq (tgt := 30) kx kb dX3_open_23 (by decide) (fun h23 => ?_) (fun h23 => ?_)
    · simp only [decide_eq_false_iff_not] at h23; omega
    · simp only [decide_eq_true_eq, decide_eq_false_iff_not] at h23
      refine lv_iconst (v := iI 1) kx kb dX3_open_26 rfl ?_
      refine lv_goto (tgt := 31) kx kb dX3_open_27 (by decide) ?_
      refine lv_iconst (v := iI 1) kx kb dX3_open_31 rfl ?_
      refine t_callV (wr := []) C (met_X3_right l D E o b1 b2 b3 b4 b5 b6 w g ik st kp go dp pt true 1 (by first | assumption | omega) (by first | assumption | omega) (by first | assumption | omega)) (cwV 2 hts (lw_V q1410 q1412 qs24 q62 q1413) rfl rfl rfl (by decide +kernel) ⟨Nat.le_of_ble_eq_true rfl, Nat.le_of_ble_eq_true rfl⟩) (va_recv hK hP (ci := 0) (q0 := 0) rfl rfl) hK hX hP hD hS hA [0, 1, 2, 3, 4, 5, 6] [] rfl rfl (by decide) (by decide) (by decide) tYb_0 (fun _ _ _ => trivial) rfl hl.1 rfl (Nat.le_of_ble_eq_true rfl) dX3_open_32 ⟨(show 0 ≤ 0 from by omega), (show 0 ≤ 0 from by omega)⟩ (fun u_ H locs hp hP hD hS => ?_)
      obtain ⟨t2_1, rfl⟩ : ∃ z, z = u_ := ⟨_, rfl⟩
      have hc32_1 : t2_1 = if true then 0 else 1 := hp
      subst hc32_1
      have hP : va_P D.1 clAll [(o, .inr (0, [.int (iI (if true then 0 else 1)), .ref b1, .ref b2, .ref b3, .ref b4, .ref b5, .ref b6, .int (iI (w : Int)), .int (iI (g : Int))])), (b1, .inl (D.2 0, 1024, .inl (fun x_ => zI (ik x_)))), (b2, .inl (D.2 0, 1024, .inl (fun x_ => zI (st x_)))), (b3, .inl (D.2 0, 1024, .inl (fun x_ => zI (kp x_)))), (b4, .inl (D.2 0, 1024, .inl (fun x_ => zI (go x_)))), (b5, .inl (D.2 1, 1024, .inl (fun x_ => iI (dp x_)))), (b6, .inl (D.2 1, 1024, .inl (fun x_ => iI (pt x_))))] H := hP
      have hD : va_D A [(o, .inr (0, [.int (iI (if true then 0 else 1)), .ref b1, .ref b2, .ref b3, .ref b4, .ref b5, .ref b6, .int (iI (w : Int)), .int (iI (g : Int))])), (b1, .inl (D.2 0, 1024, .inl (fun x_ => zI (ik x_)))), (b2, .inl (D.2 0, 1024, .inl (fun x_ => zI (st x_)))), (b3, .inl (D.2 0, 1024, .inl (fun x_ => zI (kp x_)))), (b4, .inl (D.2 0, 1024, .inl (fun x_ => zI (go x_)))), (b5, .inl (D.2 1, 1024, .inl (fun x_ => iI (dp x_)))), (b6, .inl (D.2 1, 1024, .inl (fun x_ => iI (pt x_))))] := hD
      refine W.eq (g2 := F0 m0 35 ls [.int (zI true)]) rfl ?_
      refine tz_if_ne (tgt := 40) kx kb dX3_open_35 (by decide) (fun h35 => ?_) (fun h35 => ?_)
      · refine lv_bipush (v := iI 100) kx kb dX3_open_40 rfl ?_
        refine lv_aload_n kx kb dX3_open_42 rfl (lv_at hl 0 rfl) ?_
        refine va_get (D := D.1) (ci := 0) (v := .int (iI (w : Int))) (C := RX3) (T := TX3) (N := 9) kx kb hts in_X3 hown hK hP 0 rfl rfl 7 (by decide) (hts _ q1377) (fun _ h9 => h9) rfl dX3_open_43 ?_
        refine ti_imul kx kb dX3_open_46 ?_
        refine lv_aload_n kx kb dX3_open_47 rfl (lv_at hl 0 rfl) ?_
        refine va_get (D := D.1) (ci := 0) (v := .int (iI (g : Int))) (C := RX3) (T := TX3) (N := 9) kx kb hts in_X3 hown hK hP 0 rfl rfl 8 (by decide) (hts _ q1378) (fun _ h9 => h9) rfl dX3_open_48 ?_
        refine ti_iadd kx kb dX3_open_51 ?_
        refine lv_istore_n (lv' := [(3, .int (iI ((100 * (w : Int)) + (g : Int)))), (0, .ref o), (1, .int (iI (w2 : Int))), (2, .int (iI (g2 : Int)))]) kx kb dX3_open_52 rfl hl (by decide) rfl (fun ls hl => ?_)
        refine lv_aload_n kx kb dX3_open_53 rfl (lv_at hl 1 rfl) ?_
        refine lv_iload_n kx kb dX3_open_54 rfl (lv_at hl 2 rfl) ?_
        refine lv_iload_n kx kb dX3_open_55 rfl (lv_at hl 3 rfl) ?_
        refine t_callV (wr := []) C (met_X3_begins l D E o b1 b2 b3 b4 b5 b6 (if true then 0 else 1) w g ik st kp go dp pt w2 g2) (cwV 2 hts (lw_V q1366 q1368 qs23 q62 q1369) rfl rfl rfl (by decide +kernel) ⟨Nat.le_of_ble_eq_true rfl, Nat.le_of_ble_eq_true rfl⟩) (va_recv hK hP (ci := 0) (q0 := 0) rfl rfl) hK hX hP hD hS hA [0, 1, 2, 3, 4, 5, 6] [] rfl rfl (by decide) (by decide) (by decide) tYb_0 (fun _ _ _ => trivial) rfl hl.1 rfl (Nat.le_of_ble_eq_true rfl) dX3_open_56 ⟨(show 0 ≤ 0 from by omega), (show 0 ≤ 0 from by omega)⟩ (fun u_ H locs hp hP hD hS => ?_)
        have hP : va_P D.1 clAll [(o, .inr (0, [.int (iI (if true then 0 else 1)), .ref b1, .ref b2, .ref b3, .ref b4, .ref b5, .ref b6, .int (iI (w2 : Int)), .int (iI (g2 : Int))])), (b1, .inl (D.2 0, 1024, .inl (fun x_ => zI ((fun _ => false) x_)))), (b2, .inl (D.2 0, 1024, .inl (fun x_ => zI ((fun _ => false) x_)))), (b3, .inl (D.2 0, 1024, .inl (fun x_ => zI (kp x_)))), (b4, .inl (D.2 0, 1024, .inl (fun x_ => zI (go x_)))), (b5, .inl (D.2 1, 1024, .inl (fun x_ => iI (dp x_)))), (b6, .inl (D.2 1, 1024, .inl (fun x_ => iI (pt x_))))] H := hP
        have hD : va_D A [(o, .inr (0, [.int (iI (if true then 0 else 1)), .ref b1, .ref b2, .ref b3, .ref b4, .ref b5, .ref b6, .int (iI (w2 : Int)), .int (iI (g2 : Int))])), (b1, .inl (D.2 0, 1024, .inl (fun x_ => zI ((fun _ => false) x_)))), (b2, .inl (D.2 0, 1024, .inl (fun x_ => zI ((fun _ => false) x_)))), (b3, .inl (D.2 0, 1024, .inl (fun x_ => zI (kp x_)))), (b4, .inl (D.2 0, 1024, .inl (fun x_ => zI (go x_)))), (b5, .inl (D.2 1, 1024, .inl (fun x_ => iI (dp x_)))), (b6, .inl (D.2 1, 1024, .inl (fun x_ => iI (pt x_))))] := hD
        refine W.eq (g2 := F0 m0 59 ls []) rfl ?_
        refine lv_iload_n kx kb dX3_open_59 rfl (lv_at hl 0 rfl) ?_
        subst hQ
        exact tm_iret C () trivial hP hD hS (show 0 ≤ 0 from by omega) (show 0 ≤ 0 from by omega) rfl rfl dX3_open_60
      · cases h35
set_option maxHeartbeats 4000000 in
set_option maxRecDepth 100000 in
theorem met_X3_open_no (l : Launch) (D : TG) (E : TE) (o : Nat) (b1 : Nat) (b2 : Nat) (b3 : Nat) (b4 : Nat) (b5 : Nat) (b6 : Nat) (thr : Int) (w : Nat) (g : Nat) (ik : Nat → Bool) (st : Nat → Bool) (kp : Nat → Bool) (go : Nat → Bool) (dp : Nat → Int) (pt : Nat → Int) (x : Int) (y : Int) (hw : 1 ≤ w ∧ w ≤ 32) (hg : 1 ≤ g ∧ g ≤ 32) (rx : -2147483648 ≤ x ∧ x < 2147483648) (ry : -2147483648 ≤ y ∧ y < 2147483648) (hv : ¬ (1 ≤ x ∧ x ≤ 32 ∧ 1 ≤ y ∧ y ≤ 32)) : tMet l yX3_open cX3_open 4 (some .int) 1 23 (0) (0) [.ref o, .int (iI x), .int (iI y)] D E [(o, .inr (0, [.int (iI thr), .ref b1, .ref b2, .ref b3, .ref b4, .ref b5, .ref b6, .int (iI (w : Int)), .int (iI (g : Int))])), (b1, .inl (D.2 0, 1024, .inl (fun x_ => zI (ik x_)))), (b2, .inl (D.2 0, 1024, .inl (fun x_ => zI (st x_)))), (b3, .inl (D.2 0, 1024, .inl (fun x_ => zI (kp x_)))), (b4, .inl (D.2 0, 1024, .inl (fun x_ => zI (go x_)))), (b5, .inl (D.2 1, 1024, .inl (fun x_ => iI (dp x_)))), (b6, .inl (D.2 1, 1024, .inl (fun x_ => iI (pt x_))))] tY0 (S := Unit) (fun u_ => True) (fun u_ => some (.int (iI 0))) (fun u_ => [(o, .inr (0, [.int (iI 1), .ref b1, .ref b2, .ref b3, .ref b4, .ref b5, .ref b6, .int (iI (w : Int)), .int (iI (g : Int))])), (b1, .inl (D.2 0, 1024, .inl (fun x_ => zI (ik x_)))), (b2, .inl (D.2 0, 1024, .inl (fun x_ => zI (st x_)))), (b3, .inl (D.2 0, 1024, .inl (fun x_ => zI (kp x_)))), (b4, .inl (D.2 0, 1024, .inl (fun x_ => zI (go x_)))), (b5, .inl (D.2 1, 1024, .inl (fun x_ => iI (dp x_)))), (b6, .inl (D.2 1, 1024, .inl (fun x_ => iI (pt x_))))]) := by
  refine tu_met (by decide +kernel) (Nat.le_of_ble_eq_true rfl) ?_
  intro p0 e0 s0 m0 below meth c0 A ls args Q hag hQ C hK hX hY hP hD hA hAe hl
  obtain ⟨kx, kb, hml, hown, hts, -⟩ := id C
  have hS : va_S A s0.heap s0.heap [] := va_S.rf
  have hl : lv_has ls 4 [(0, .ref o), (1, .int (iI x)), (2, .int (iI y))] := hl
  have hwg := wg_le hw hg
  refine lv_aload_n kx kb dX3_open_0 rfl (lv_at hl 0 rfl) ?_
  refine lv_iconst (v := iI 0) kx kb dX3_open_1 rfl ?_
  refine va_put (D := D.1) (ci := 0) (v := .int (iI 0)) (ty := .int) (C := RX3) (T := TX3) (N := 9) kx kb hts in_X3 tyX3 tyX3_ok nmX3 hown hK hP hD hS 0 rfl rfl 0 (by decide) (hts _ q1370) (fun _ h9 => h9) rfl (by decide +kernel) rfl rfl (Nat.le_of_ble_eq_true rfl) dX3_open_2 (fun H locs hP hD hS => ?_)
  have hP : va_P D.1 clAll [(o, .inr (0, [.int (iI 0), .ref b1, .ref b2, .ref b3, .ref b4, .ref b5, .ref b6, .int (iI (w : Int)), .int (iI (g : Int))])), (b1, .inl (D.2 0, 1024, .inl (fun x_ => zI (ik x_)))), (b2, .inl (D.2 0, 1024, .inl (fun x_ => zI (st x_)))), (b3, .inl (D.2 0, 1024, .inl (fun x_ => zI (kp x_)))), (b4, .inl (D.2 0, 1024, .inl (fun x_ => zI (go x_)))), (b5, .inl (D.2 1, 1024, .inl (fun x_ => iI (dp x_)))), (b6, .inl (D.2 1, 1024, .inl (fun x_ => iI (pt x_))))] H := hP
  have hD : va_D A [(o, .inr (0, [.int (iI 0), .ref b1, .ref b2, .ref b3, .ref b4, .ref b5, .ref b6, .int (iI (w : Int)), .int (iI (g : Int))])), (b1, .inl (D.2 0, 1024, .inl (fun x_ => zI (ik x_)))), (b2, .inl (D.2 0, 1024, .inl (fun x_ => zI (st x_)))), (b3, .inl (D.2 0, 1024, .inl (fun x_ => zI (kp x_)))), (b4, .inl (D.2 0, 1024, .inl (fun x_ => zI (go x_)))), (b5, .inl (D.2 1, 1024, .inl (fun x_ => iI (dp x_)))), (b6, .inl (D.2 1, 1024, .inl (fun x_ => iI (pt x_))))] := hD
  refine lv_aload_n kx kb dX3_open_5 rfl (lv_at hl 0 rfl) ?_
  refine lv_iload_n kx kb dX3_open_6 rfl (lv_at hl 1 rfl) ?_
  refine lv_iconst (v := iI 1) kx kb dX3_open_7 rfl ?_
  refine lv_bipush (v := iI 32) kx kb dX3_open_8 rfl ?_
  refine t_callRS C (met_X3_isIn l D E x 1 32 (by first | assumption | omega)) (va_cwS 3 hts (lw_S q1407 q1408 q62 q1409) rfl rfl rfl (by decide +kernel) ⟨Nat.le_of_ble_eq_true rfl, Nat.le_of_ble_eq_true rfl⟩) hK hX hP hD hS hA [] rfl (by decide) tYb_0 (fun _ _ _ => trivial) rfl hl.1 rfl (Nat.le_of_ble_eq_true rfl) dX3_open_10 ⟨(show 0 ≤ 0 from by omega), (show 0 ≤ 0 from by omega)⟩ ?_
  refine W.eq (g2 := F0 m0 13 ls [.int (zI (decide (1 ≤ x ∧ x ≤ 32))), .ref o]) rfl ?_
  refine tz_if_eq (tgt := 30) kx kb dX3_open_13 (by decide) (fun h13 => ?_) (fun h13 => ?_)
  · simp only [decide_eq_true_eq, decide_eq_false_iff_not] at h13
    refine lv_iconst (v := iI 0) kx kb dX3_open_30 rfl ?_
    refine lv_iconst (v := iI 1) kx kb dX3_open_31 rfl ?_
    refine t_callV (wr := []) C (met_X3_right l D E o b1 b2 b3 b4 b5 b6 w g ik st kp go dp pt false 1 (by first | assumption | omega) (by first | assumption | omega) (by first | assumption | omega)) (cwV 2 hts (lw_V q1410 q1412 qs24 q62 q1413) rfl rfl rfl (by decide +kernel) ⟨Nat.le_of_ble_eq_true rfl, Nat.le_of_ble_eq_true rfl⟩) (va_recv hK hP (ci := 0) (q0 := 0) rfl rfl) hK hX hP hD hS hA [0, 1, 2, 3, 4, 5, 6] [] rfl rfl (by decide) (by decide) (by decide) tYb_0 (fun _ _ _ => trivial) rfl hl.1 rfl (Nat.le_of_ble_eq_true rfl) dX3_open_32 ⟨(show 0 ≤ 0 from by omega), (show 0 ≤ 0 from by omega)⟩ (fun u_ H locs hp hP hD hS => ?_)
    obtain ⟨t2_1, rfl⟩ : ∃ z, z = u_ := ⟨_, rfl⟩
    have hc32_1 : t2_1 = if false then 0 else 1 := hp
    subst hc32_1
    have hP : va_P D.1 clAll [(o, .inr (0, [.int (iI (if false then 0 else 1)), .ref b1, .ref b2, .ref b3, .ref b4, .ref b5, .ref b6, .int (iI (w : Int)), .int (iI (g : Int))])), (b1, .inl (D.2 0, 1024, .inl (fun x_ => zI (ik x_)))), (b2, .inl (D.2 0, 1024, .inl (fun x_ => zI (st x_)))), (b3, .inl (D.2 0, 1024, .inl (fun x_ => zI (kp x_)))), (b4, .inl (D.2 0, 1024, .inl (fun x_ => zI (go x_)))), (b5, .inl (D.2 1, 1024, .inl (fun x_ => iI (dp x_)))), (b6, .inl (D.2 1, 1024, .inl (fun x_ => iI (pt x_))))] H := hP
    have hD : va_D A [(o, .inr (0, [.int (iI (if false then 0 else 1)), .ref b1, .ref b2, .ref b3, .ref b4, .ref b5, .ref b6, .int (iI (w : Int)), .int (iI (g : Int))])), (b1, .inl (D.2 0, 1024, .inl (fun x_ => zI (ik x_)))), (b2, .inl (D.2 0, 1024, .inl (fun x_ => zI (st x_)))), (b3, .inl (D.2 0, 1024, .inl (fun x_ => zI (kp x_)))), (b4, .inl (D.2 0, 1024, .inl (fun x_ => zI (go x_)))), (b5, .inl (D.2 1, 1024, .inl (fun x_ => iI (dp x_)))), (b6, .inl (D.2 1, 1024, .inl (fun x_ => iI (pt x_))))] := hD
    refine W.eq (g2 := F0 m0 35 ls [.int (zI false)]) rfl ?_
    refine tz_if_ne (tgt := 40) kx kb dX3_open_35 (by decide) (fun h35 => ?_) (fun h35 => ?_)
    · cases h35
    · refine lv_iconst (v := iI 0) kx kb dX3_open_38 rfl ?_
      subst hQ
      exact tm_iret C () trivial hP hD hS (show 0 ≤ 0 from by omega) (show 0 ≤ 0 from by omega) rfl rfl dX3_open_39
  · simp only [decide_eq_true_eq, decide_eq_false_iff_not] at h13
    refine lv_iload_n kx kb dX3_open_16 rfl (lv_at hl 2 rfl) ?_
    refine lv_iconst (v := iI 1) kx kb dX3_open_17 rfl ?_
    refine lv_bipush (v := iI 32) kx kb dX3_open_18 rfl ?_
    refine t_callRS C (met_X3_isIn l D E y 1 32 (by first | assumption | omega)) (va_cwS 3 hts (lw_S q1407 q1408 q62 q1409) rfl rfl rfl (by decide +kernel) ⟨Nat.le_of_ble_eq_true rfl, Nat.le_of_ble_eq_true rfl⟩) hK hX hP hD hS hA [] rfl (by decide) tYb_0 (fun _ _ _ => trivial) rfl hl.1 rfl (Nat.le_of_ble_eq_true rfl) dX3_open_20 ⟨(show 0 ≤ 0 from by omega), (show 0 ≤ 0 from by omega)⟩ ?_
    refine W.eq (g2 := F0 m0 23 ls [.int (zI (decide (1 ≤ y ∧ y ≤ 32))), .ref o]) rfl ?_
    refine tz_if_eq (tgt := 30) kx kb dX3_open_23 (by decide) (fun h23 => ?_) (fun h23 => ?_)
    · simp only [decide_eq_true_eq, decide_eq_false_iff_not] at h23
      refine lv_iconst (v := iI 0) kx kb dX3_open_30 rfl ?_
      refine lv_iconst (v := iI 1) kx kb dX3_open_31 rfl ?_
      refine t_callV (wr := []) C (met_X3_right l D E o b1 b2 b3 b4 b5 b6 w g ik st kp go dp pt false 1 (by first | assumption | omega) (by first | assumption | omega) (by first | assumption | omega)) (cwV 2 hts (lw_V q1410 q1412 qs24 q62 q1413) rfl rfl rfl (by decide +kernel) ⟨Nat.le_of_ble_eq_true rfl, Nat.le_of_ble_eq_true rfl⟩) (va_recv hK hP (ci := 0) (q0 := 0) rfl rfl) hK hX hP hD hS hA [0, 1, 2, 3, 4, 5, 6] [] rfl rfl (by decide) (by decide) (by decide) tYb_0 (fun _ _ _ => trivial) rfl hl.1 rfl (Nat.le_of_ble_eq_true rfl) dX3_open_32 ⟨(show 0 ≤ 0 from by omega), (show 0 ≤ 0 from by omega)⟩ (fun u_ H locs hp hP hD hS => ?_)
      obtain ⟨t2_2, rfl⟩ : ∃ z, z = u_ := ⟨_, rfl⟩
      have hc32_1 : t2_2 = if false then 0 else 1 := hp
      subst hc32_1
      have hP : va_P D.1 clAll [(o, .inr (0, [.int (iI (if false then 0 else 1)), .ref b1, .ref b2, .ref b3, .ref b4, .ref b5, .ref b6, .int (iI (w : Int)), .int (iI (g : Int))])), (b1, .inl (D.2 0, 1024, .inl (fun x_ => zI (ik x_)))), (b2, .inl (D.2 0, 1024, .inl (fun x_ => zI (st x_)))), (b3, .inl (D.2 0, 1024, .inl (fun x_ => zI (kp x_)))), (b4, .inl (D.2 0, 1024, .inl (fun x_ => zI (go x_)))), (b5, .inl (D.2 1, 1024, .inl (fun x_ => iI (dp x_)))), (b6, .inl (D.2 1, 1024, .inl (fun x_ => iI (pt x_))))] H := hP
      have hD : va_D A [(o, .inr (0, [.int (iI (if false then 0 else 1)), .ref b1, .ref b2, .ref b3, .ref b4, .ref b5, .ref b6, .int (iI (w : Int)), .int (iI (g : Int))])), (b1, .inl (D.2 0, 1024, .inl (fun x_ => zI (ik x_)))), (b2, .inl (D.2 0, 1024, .inl (fun x_ => zI (st x_)))), (b3, .inl (D.2 0, 1024, .inl (fun x_ => zI (kp x_)))), (b4, .inl (D.2 0, 1024, .inl (fun x_ => zI (go x_)))), (b5, .inl (D.2 1, 1024, .inl (fun x_ => iI (dp x_)))), (b6, .inl (D.2 1, 1024, .inl (fun x_ => iI (pt x_))))] := hD
      refine W.eq (g2 := F0 m0 35 ls [.int (zI false)]) rfl ?_
      refine tz_if_ne (tgt := 40) kx kb dX3_open_35 (by decide) (fun h35 => ?_) (fun h35 => ?_)
      · cases h35
      · refine lv_iconst (v := iI 0) kx kb dX3_open_38 rfl ?_
        subst hQ
        exact tm_iret C () trivial hP hD hS (show 0 ≤ 0 from by omega) (show 0 ≤ 0 from by omega) rfl rfl dX3_open_39
    · simp only [decide_eq_true_eq] at h23; omega
set_option maxHeartbeats 4000000 in
set_option maxRecDepth 100000 in
theorem met_X3_invert (l : Launch) (D : TG) (E : TE) (o : Nat) (b1 : Nat) (b2 : Nat) (b3 : Nat) (b4 : Nat) (b5 : Nat) (b6 : Nat) (thr : Int) (w : Nat) (g : Nat) (ik : Nat → Bool) (st : Nat → Bool) (kp : Nat → Bool) (go : Nat → Bool) (dp : Nat → Int) (pt : Nat → Int) (hw : 1 ≤ w ∧ w ≤ 32) (hg : 1 ≤ g ∧ g ≤ 32) : tMet l yX3_invert cX3_invert 2 (some .int) 2 42 (0) (0) [.ref o] D E [(o, .inr (0, [.int (iI thr), .ref b1, .ref b2, .ref b3, .ref b4, .ref b5, .ref b6, .int (iI (w : Int)), .int (iI (g : Int))])), (b1, .inl (D.2 0, 1024, .inl (fun x_ => zI (ik x_)))), (b2, .inl (D.2 0, 1024, .inl (fun x_ => zI (st x_)))), (b3, .inl (D.2 0, 1024, .inl (fun x_ => zI (kp x_)))), (b4, .inl (D.2 0, 1024, .inl (fun x_ => zI (go x_)))), (b5, .inl (D.2 1, 1024, .inl (fun x_ => iI (dp x_)))), (b6, .inl (D.2 1, 1024, .inl (fun x_ => iI (pt x_))))] tY0 (S := Unit) (fun u_ => True) (fun u_ => some (.int (iI ((fb_ct (flw (fun j => !ik j) ik (w * g)) (w * g) : Nat) : Int)))) (fun u_ => [(o, .inr (0, [.int (iI 0), .ref b1, .ref b2, .ref b3, .ref b4, .ref b5, .ref b6, .int (iI (w : Int)), .int (iI (g : Int))])), (b1, .inl (D.2 0, 1024, .inl (fun x_ => zI ((flw (fun j => !ik j) ik (w * g)) x_)))), (b2, .inl (D.2 0, 1024, .inl (fun x_ => zI (st x_)))), (b3, .inl (D.2 0, 1024, .inl (fun x_ => zI (kp x_)))), (b4, .inl (D.2 0, 1024, .inl (fun x_ => zI (go x_)))), (b5, .inl (D.2 1, 1024, .inl (fun x_ => iI (dp x_)))), (b6, .inl (D.2 1, 1024, .inl (fun x_ => iI (pt x_))))]) := by
  refine tu_met (by decide +kernel) (Nat.le_of_ble_eq_true rfl) ?_
  intro p0 e0 s0 m0 below meth c0 A ls args Q hag hQ C hK hX hY hP hD hA hAe hl
  obtain ⟨kx, kb, hml, hown, hts, -⟩ := id C
  have hS : va_S A s0.heap s0.heap [] := va_S.rf
  have hl : lv_has ls 2 [(0, .ref o)] := hl
  have hwg := wg_le hw hg
  refine lv_aload_n kx kb dX3_invert_0 rfl (lv_at hl 0 rfl) ?_
  refine lv_iconst (v := iI 0) kx kb dX3_invert_1 rfl ?_
  refine va_put (D := D.1) (ci := 0) (v := .int (iI 0)) (ty := .int) (C := RX3) (T := TX3) (N := 9) kx kb hts in_X3 tyX3 tyX3_ok nmX3 hown hK hP hD hS 0 rfl rfl 0 (by decide) (hts _ q1370) (fun _ h9 => h9) rfl (by decide +kernel) rfl rfl (Nat.le_of_ble_eq_true rfl) dX3_invert_2 (fun H locs hP hD hS => ?_)
  have hP : va_P D.1 clAll [(o, .inr (0, [.int (iI 0), .ref b1, .ref b2, .ref b3, .ref b4, .ref b5, .ref b6, .int (iI (w : Int)), .int (iI (g : Int))])), (b1, .inl (D.2 0, 1024, .inl (fun x_ => zI (ik x_)))), (b2, .inl (D.2 0, 1024, .inl (fun x_ => zI (st x_)))), (b3, .inl (D.2 0, 1024, .inl (fun x_ => zI (kp x_)))), (b4, .inl (D.2 0, 1024, .inl (fun x_ => zI (go x_)))), (b5, .inl (D.2 1, 1024, .inl (fun x_ => iI (dp x_)))), (b6, .inl (D.2 1, 1024, .inl (fun x_ => iI (pt x_))))] H := hP
  have hD : va_D A [(o, .inr (0, [.int (iI 0), .ref b1, .ref b2, .ref b3, .ref b4, .ref b5, .ref b6, .int (iI (w : Int)), .int (iI (g : Int))])), (b1, .inl (D.2 0, 1024, .inl (fun x_ => zI (ik x_)))), (b2, .inl (D.2 0, 1024, .inl (fun x_ => zI (st x_)))), (b3, .inl (D.2 0, 1024, .inl (fun x_ => zI (kp x_)))), (b4, .inl (D.2 0, 1024, .inl (fun x_ => zI (go x_)))), (b5, .inl (D.2 1, 1024, .inl (fun x_ => iI (dp x_)))), (b6, .inl (D.2 1, 1024, .inl (fun x_ => iI (pt x_))))] := hD
  refine lv_iconst (v := iI 0) kx kb dX3_invert_5 rfl ?_
  refine lv_istore_n (lv' := [(1, .int (iI 0)), (0, .ref o)]) kx kb dX3_invert_6 rfl hl (by decide) rfl (fun ls hl => ?_)
  have cut7 : ∀ (fuel : Nat) (i : Nat) (k1 : Nat → Bool), (i ≤ w * g) → (k1 = flw (fun j => !ik j) ik i) → (w * g - i) < fuel → ∀ (H : Heap) (locs : List Loc), va_P D.1 clAll [(o, .inr (0, [.int (iI 0), .ref b1, .ref b2, .ref b3, .ref b4, .ref b5, .ref b6, .int (iI (w : Int)), .int (iI (g : Int))])), (b1, .inl (D.2 0, 1024, .inl (fun x_ => zI (k1 x_)))), (b2, .inl (D.2 0, 1024, .inl (fun x_ => zI (st x_)))), (b3, .inl (D.2 0, 1024, .inl (fun x_ => zI (kp x_)))), (b4, .inl (D.2 0, 1024, .inl (fun x_ => zI (go x_)))), (b5, .inl (D.2 1, 1024, .inl (fun x_ => iI (dp x_)))), (b6, .inl (D.2 1, 1024, .inl (fun x_ => iI (pt x_))))] H → va_D A [(o, .inr (0, [.int (iI 0), .ref b1, .ref b2, .ref b3, .ref b4, .ref b5, .ref b6, .int (iI (w : Int)), .int (iI (g : Int))])), (b1, .inl (D.2 0, 1024, .inl (fun x_ => zI (k1 x_)))), (b2, .inl (D.2 0, 1024, .inl (fun x_ => zI (st x_)))), (b3, .inl (D.2 0, 1024, .inl (fun x_ => zI (kp x_)))), (b4, .inl (D.2 0, 1024, .inl (fun x_ => zI (go x_)))), (b5, .inl (D.2 1, 1024, .inl (fun x_ => iI (dp x_)))), (b6, .inl (D.2 1, 1024, .inl (fun x_ => iI (pt x_))))] → va_S A s0.heap H locs → ∀ ls : Array Slot, lv_has ls 2 [(1, .int (iI (i : Int))), (0, .ref o)] → W p0 l e0 ({ frames := 2, cells := 0, slots := 0, locals := 42 } : Room) s0 m0 args below meth c0 H locs (0) (0) Q (F0 m0 7 ls []) := by
    intro fuel
    induction fuel with
    | zero =>
      intro i k1 hi hk1 hfuel7
      exact absurd hfuel7 (Nat.not_lt_zero _)
    | succ fuel ih7 =>
      intro i k1 hi hk1 hfuel7 H locs hP hD hS ls hl
      refine lv_iload_n kx kb dX3_invert_7 rfl (lv_at hl 0 rfl) ?_
      refine lv_aload_n kx kb dX3_invert_8 rfl (lv_at hl 1 rfl) ?_
      refine t_callRV C (met_X3_cells l D E o b1 b2 b3 b4 b5 b6 0 w g k1 st kp go dp pt (by first | assumption | omega) (by first | assumption | omega)) (cwV 0 hts (lw_V q1467 q1469 qs33 q62 q1470) rfl rfl rfl (by decide +kernel) ⟨Nat.le_of_ble_eq_true rfl, Nat.le_of_ble_eq_true rfl⟩) (va_recv hK hP (ci := 0) (q0 := 0) rfl rfl) hK hX hP hD hS hA [0, 1, 2, 3, 4, 5, 6] rfl (by decide) tYb_0 (fun _ _ _ => trivial) rfl hl.1 rfl (Nat.le_of_ble_eq_true rfl) dX3_invert_9 ⟨(show 0 ≤ 0 from by omega), (show 0 ≤ 0 from by omega)⟩ ?_
      refine W.eq (g2 := F0 m0 12 ls [.int (iI ((w * g : Nat) : Int)), .int (iI (i : Int))]) rfl ?_
      refine ti_icmp_ge (tgt := 41) kx kb (by omega) dX3_invert_12 (by decide) (fun h12 => ?_) (fun h12 => ?_)
      · have hP := tx_arrZ (g := flw (fun j => !ik j) ik (w * g)) 1 rfl (fun j hj => by rw [hk1, show i = w * g from by omega]) hP
        have hP : va_P D.1 clAll [(o, .inr (0, [.int (iI 0), .ref b1, .ref b2, .ref b3, .ref b4, .ref b5, .ref b6, .int (iI (w : Int)), .int (iI (g : Int))])), (b1, .inl (D.2 0, 1024, .inl (fun x_ => zI ((flw (fun j => !ik j) ik (w * g)) x_)))), (b2, .inl (D.2 0, 1024, .inl (fun x_ => zI (st x_)))), (b3, .inl (D.2 0, 1024, .inl (fun x_ => zI (kp x_)))), (b4, .inl (D.2 0, 1024, .inl (fun x_ => zI (go x_)))), (b5, .inl (D.2 1, 1024, .inl (fun x_ => iI (dp x_)))), (b6, .inl (D.2 1, 1024, .inl (fun x_ => iI (pt x_))))] H := hP
        have hD : va_D A [(o, .inr (0, [.int (iI 0), .ref b1, .ref b2, .ref b3, .ref b4, .ref b5, .ref b6, .int (iI (w : Int)), .int (iI (g : Int))])), (b1, .inl (D.2 0, 1024, .inl (fun x_ => zI ((flw (fun j => !ik j) ik (w * g)) x_)))), (b2, .inl (D.2 0, 1024, .inl (fun x_ => zI (st x_)))), (b3, .inl (D.2 0, 1024, .inl (fun x_ => zI (kp x_)))), (b4, .inl (D.2 0, 1024, .inl (fun x_ => zI (go x_)))), (b5, .inl (D.2 1, 1024, .inl (fun x_ => iI (dp x_)))), (b6, .inl (D.2 1, 1024, .inl (fun x_ => iI (pt x_))))] := hD.set (p := 1) rfl
        refine lv_aload_n kx kb dX3_invert_41 rfl (lv_at hl 1 rfl) ?_
        refine t_callRV C (met_X3_count l D E o b1 b2 b3 b4 b5 b6 0 w g (flw (fun j => !ik j) ik (w * g)) st kp go dp pt (by first | assumption | omega) (by first | assumption | omega)) (cwV 0 hts (lw_V q1485 q1487 qs35 q62 q1488) rfl rfl rfl (by decide +kernel) ⟨Nat.le_of_ble_eq_true rfl, Nat.le_of_ble_eq_true rfl⟩) (va_recv hK hP (ci := 0) (q0 := 0) rfl rfl) hK hX hP hD hS hA [0, 1, 2, 3, 4, 5, 6] rfl (by decide) tYb_0 (fun _ _ _ => trivial) rfl hl.1 rfl (Nat.le_of_ble_eq_true rfl) dX3_invert_42 ⟨(show 0 ≤ 0 from by omega), (show 0 ≤ 0 from by omega)⟩ ?_
        refine W.eq (g2 := F0 m0 45 ls [.int (iI ((fb_ct (flw (fun j => !ik j) ik (w * g)) (w * g) : Nat) : Int))]) rfl ?_
        subst hQ
        exact tm_iret C () trivial hP hD hS (show 0 ≤ 0 from by omega) (show 0 ≤ 0 from by omega) rfl rfl dX3_invert_45
      · refine lv_aload_n kx kb dX3_invert_15 rfl (lv_at hl 1 rfl) ?_
        refine va_get (D := D.1) (ci := 0) (v := .ref b1) (C := RX3) (T := TX3) (N := 9) kx kb hts in_X3 hown hK hP 0 rfl rfl 1 (by decide) (hts _ q1371) (fun _ h9 => h9) rfl dX3_invert_16 ?_
        refine lv_iload_n kx kb dX3_invert_19 rfl (lv_at hl 0 rfl) ?_
        refine lv_aload_n kx kb dX3_invert_20 rfl (lv_at hl 1 rfl) ?_
        refine va_get (D := D.1) (ci := 0) (v := .ref b1) (C := RX3) (T := TX3) (N := 9) kx kb hts in_X3 hown hK hP 0 rfl rfl 1 (by decide) (hts _ q1371) (fun _ h9 => h9) rfl dX3_invert_21 ?_
        refine lv_iload_n kx kb dX3_invert_24 rfl (lv_at hl 0 rfl) ?_
        refine ta_zald C hK hP 1 rfl i (by omega) dX3_invert_25 ?_
        refine tz_if_ne (tgt := 33) kx kb dX3_invert_26 (by decide) (fun h26 => ?_) (fun h26 => ?_)
        · refine lv_iconst (v := iI 0) kx kb dX3_invert_33 rfl ?_
          refine W.eq (g2 := F0 m0 34 ls [.int (zI false), .int (iI (i : Int)), .ref b1]) rfl ?_
          refine ta_zast C hK hP hD hS 1 rfl i (by omega) dX3_invert_34 (fun H locs hP hD hS => ?_)
          have hP : va_P D.1 clAll [(o, .inr (0, [.int (iI 0), .ref b1, .ref b2, .ref b3, .ref b4, .ref b5, .ref b6, .int (iI (w : Int)), .int (iI (g : Int))])), (b1, .inl (D.2 0, 1024, .inl (fun x_ => zI ((va_up k1 i false) x_)))), (b2, .inl (D.2 0, 1024, .inl (fun x_ => zI (st x_)))), (b3, .inl (D.2 0, 1024, .inl (fun x_ => zI (kp x_)))), (b4, .inl (D.2 0, 1024, .inl (fun x_ => zI (go x_)))), (b5, .inl (D.2 1, 1024, .inl (fun x_ => iI (dp x_)))), (b6, .inl (D.2 1, 1024, .inl (fun x_ => iI (pt x_))))] H := hP
          have hD : va_D A [(o, .inr (0, [.int (iI 0), .ref b1, .ref b2, .ref b3, .ref b4, .ref b5, .ref b6, .int (iI (w : Int)), .int (iI (g : Int))])), (b1, .inl (D.2 0, 1024, .inl (fun x_ => zI ((va_up k1 i false) x_)))), (b2, .inl (D.2 0, 1024, .inl (fun x_ => zI (st x_)))), (b3, .inl (D.2 0, 1024, .inl (fun x_ => zI (kp x_)))), (b4, .inl (D.2 0, 1024, .inl (fun x_ => zI (go x_)))), (b5, .inl (D.2 1, 1024, .inl (fun x_ => iI (dp x_)))), (b6, .inl (D.2 1, 1024, .inl (fun x_ => iI (pt x_))))] := hD
          refine ti_iinc (a := (i : Int)) (lv' := [(1, .int (iI ((i : Int) + 1))), (0, .ref o)]) kx kb dX3_invert_35 hl (k := 0) rfl (by decide) rfl (fun ls hl => ?_)
          refine lv_goto (tgt := 7) kx kb dX3_invert_38 (by decide) ?_
          exact ih7 (i + 1) (va_up k1 i false) (by omega) (by rw [hk1] at h26 ⊢; rw [flw_at] at h26; rw [← flw_s]; simp only [h26]; rfl) (by omega) H locs hP hD hS ls hl
        · refine lv_iconst (v := iI 1) kx kb dX3_invert_29 rfl ?_
          refine lv_goto (tgt := 34) kx kb dX3_invert_30 (by decide) ?_
          refine W.eq (g2 := F0 m0 34 ls [.int (zI true), .int (iI (i : Int)), .ref b1]) rfl ?_
          refine ta_zast C hK hP hD hS 1 rfl i (by omega) dX3_invert_34 (fun H locs hP hD hS => ?_)
          have hP : va_P D.1 clAll [(o, .inr (0, [.int (iI 0), .ref b1, .ref b2, .ref b3, .ref b4, .ref b5, .ref b6, .int (iI (w : Int)), .int (iI (g : Int))])), (b1, .inl (D.2 0, 1024, .inl (fun x_ => zI ((va_up k1 i true) x_)))), (b2, .inl (D.2 0, 1024, .inl (fun x_ => zI (st x_)))), (b3, .inl (D.2 0, 1024, .inl (fun x_ => zI (kp x_)))), (b4, .inl (D.2 0, 1024, .inl (fun x_ => zI (go x_)))), (b5, .inl (D.2 1, 1024, .inl (fun x_ => iI (dp x_)))), (b6, .inl (D.2 1, 1024, .inl (fun x_ => iI (pt x_))))] H := hP
          have hD : va_D A [(o, .inr (0, [.int (iI 0), .ref b1, .ref b2, .ref b3, .ref b4, .ref b5, .ref b6, .int (iI (w : Int)), .int (iI (g : Int))])), (b1, .inl (D.2 0, 1024, .inl (fun x_ => zI ((va_up k1 i true) x_)))), (b2, .inl (D.2 0, 1024, .inl (fun x_ => zI (st x_)))), (b3, .inl (D.2 0, 1024, .inl (fun x_ => zI (kp x_)))), (b4, .inl (D.2 0, 1024, .inl (fun x_ => zI (go x_)))), (b5, .inl (D.2 1, 1024, .inl (fun x_ => iI (dp x_)))), (b6, .inl (D.2 1, 1024, .inl (fun x_ => iI (pt x_))))] := hD
          refine ti_iinc (a := (i : Int)) (lv' := [(1, .int (iI ((i : Int) + 1))), (0, .ref o)]) kx kb dX3_invert_35 hl (k := 0) rfl (by decide) rfl (fun ls hl => ?_)
          refine lv_goto (tgt := 7) kx kb dX3_invert_38 (by decide) ?_
          exact ih7 (i + 1) (va_up k1 i true) (by omega) (by rw [hk1] at h26 ⊢; rw [flw_at] at h26; rw [← flw_s]; simp only [h26]; rfl) (by omega) H locs hP hD hS ls hl
  exact cut7 ((w * g - 0) + 1) 0 ik (by omega) (by rw [flw_0]) (Nat.lt_succ_self _) H locs hP hD hS ls hl
set_option maxHeartbeats 4000000 in
set_option maxRecDepth 100000 in
theorem met_X3_store (l : Launch) (D : TG) (E : TE) (o : Nat) (b1 : Nat) (b2 : Nat) (b3 : Nat) (b4 : Nat) (b5 : Nat) (b6 : Nat) (thr : Int) (w : Nat) (g : Nat) (ik : Nat → Bool) (st : Nat → Bool) (kp : Nat → Bool) (go : Nat → Bool) (dp : Nat → Int) (pt : Nat → Int) (hw : 1 ≤ w ∧ w ≤ 32) (hg : 1 ≤ g ∧ g ≤ 32) : tMet l yX3_store cX3_store 3 (some .int) 1 20 (0) (0) [.ref o] D E [(o, .inr (0, [.int (iI thr), .ref b1, .ref b2, .ref b3, .ref b4, .ref b5, .ref b6, .int (iI (w : Int)), .int (iI (g : Int))])), (b1, .inl (D.2 0, 1024, .inl (fun x_ => zI (ik x_)))), (b2, .inl (D.2 0, 1024, .inl (fun x_ => zI (st x_)))), (b3, .inl (D.2 0, 1024, .inl (fun x_ => zI (kp x_)))), (b4, .inl (D.2 0, 1024, .inl (fun x_ => zI (go x_)))), (b5, .inl (D.2 1, 1024, .inl (fun x_ => iI (dp x_)))), (b6, .inl (D.2 1, 1024, .inl (fun x_ => iI (pt x_))))] tY0 (S := Unit) (fun u_ => True) (fun u_ => some (.int (iI ((fb_ct (fun j => st j != ik j) (w * g) : Nat) : Int)))) (fun u_ => [(o, .inr (0, [.int (iI 0), .ref b1, .ref b2, .ref b3, .ref b4, .ref b5, .ref b6, .int (iI (w : Int)), .int (iI (g : Int))])), (b1, .inl (D.2 0, 1024, .inl (fun x_ => zI (ik x_)))), (b2, .inl (D.2 0, 1024, .inl (fun x_ => zI ((flw ik st (w * g)) x_)))), (b3, .inl (D.2 0, 1024, .inl (fun x_ => zI (kp x_)))), (b4, .inl (D.2 0, 1024, .inl (fun x_ => zI (go x_)))), (b5, .inl (D.2 1, 1024, .inl (fun x_ => iI (dp x_)))), (b6, .inl (D.2 1, 1024, .inl (fun x_ => iI (pt x_))))]) := by
  refine tu_met (by decide +kernel) (Nat.le_of_ble_eq_true rfl) ?_
  intro p0 e0 s0 m0 below meth c0 A ls args Q hag hQ C hK hX hY hP hD hA hAe hl
  obtain ⟨kx, kb, hml, hown, hts, -⟩ := id C
  have hS : va_S A s0.heap s0.heap [] := va_S.rf
  have hl : lv_has ls 3 [(0, .ref o)] := hl
  have hwg := wg_le hw hg
  refine lv_aload_n kx kb dX3_store_0 rfl (lv_at hl 0 rfl) ?_
  refine lv_iconst (v := iI 0) kx kb dX3_store_1 rfl ?_
  refine va_put (D := D.1) (ci := 0) (v := .int (iI 0)) (ty := .int) (C := RX3) (T := TX3) (N := 9) kx kb hts in_X3 tyX3 tyX3_ok nmX3 hown hK hP hD hS 0 rfl rfl 0 (by decide) (hts _ q1370) (fun _ h9 => h9) rfl (by decide +kernel) rfl rfl (Nat.le_of_ble_eq_true rfl) dX3_store_2 (fun H locs hP hD hS => ?_)
  have hP : va_P D.1 clAll [(o, .inr (0, [.int (iI 0), .ref b1, .ref b2, .ref b3, .ref b4, .ref b5, .ref b6, .int (iI (w : Int)), .int (iI (g : Int))])), (b1, .inl (D.2 0, 1024, .inl (fun x_ => zI (ik x_)))), (b2, .inl (D.2 0, 1024, .inl (fun x_ => zI (st x_)))), (b3, .inl (D.2 0, 1024, .inl (fun x_ => zI (kp x_)))), (b4, .inl (D.2 0, 1024, .inl (fun x_ => zI (go x_)))), (b5, .inl (D.2 1, 1024, .inl (fun x_ => iI (dp x_)))), (b6, .inl (D.2 1, 1024, .inl (fun x_ => iI (pt x_))))] H := hP
  have hD : va_D A [(o, .inr (0, [.int (iI 0), .ref b1, .ref b2, .ref b3, .ref b4, .ref b5, .ref b6, .int (iI (w : Int)), .int (iI (g : Int))])), (b1, .inl (D.2 0, 1024, .inl (fun x_ => zI (ik x_)))), (b2, .inl (D.2 0, 1024, .inl (fun x_ => zI (st x_)))), (b3, .inl (D.2 0, 1024, .inl (fun x_ => zI (kp x_)))), (b4, .inl (D.2 0, 1024, .inl (fun x_ => zI (go x_)))), (b5, .inl (D.2 1, 1024, .inl (fun x_ => iI (dp x_)))), (b6, .inl (D.2 1, 1024, .inl (fun x_ => iI (pt x_))))] := hD
  refine lv_iconst (v := iI 0) kx kb dX3_store_5 rfl ?_
  refine lv_istore_n (lv' := [(1, .int (iI 0)), (0, .ref o)]) kx kb dX3_store_6 rfl hl (by decide) rfl (fun ls hl => ?_)
  refine lv_iconst (v := iI 0) kx kb dX3_store_7 rfl ?_
  refine lv_istore_n (lv' := [(2, .int (iI 0)), (1, .int (iI 0)), (0, .ref o)]) kx kb dX3_store_8 rfl hl (by decide) rfl (fun ls hl => ?_)
  have cut9 : ∀ (fuel : Nat) (i : Nat) (n : Int) (k2 : Nat → Bool), (i ≤ w * g) → (n = ((fb_ct (fun j => st j != ik j) i : Nat) : Int)) → (k2 = flw ik st i) → (w * g - i) < fuel → ∀ (H : Heap) (locs : List Loc), va_P D.1 clAll [(o, .inr (0, [.int (iI 0), .ref b1, .ref b2, .ref b3, .ref b4, .ref b5, .ref b6, .int (iI (w : Int)), .int (iI (g : Int))])), (b1, .inl (D.2 0, 1024, .inl (fun x_ => zI (ik x_)))), (b2, .inl (D.2 0, 1024, .inl (fun x_ => zI (k2 x_)))), (b3, .inl (D.2 0, 1024, .inl (fun x_ => zI (kp x_)))), (b4, .inl (D.2 0, 1024, .inl (fun x_ => zI (go x_)))), (b5, .inl (D.2 1, 1024, .inl (fun x_ => iI (dp x_)))), (b6, .inl (D.2 1, 1024, .inl (fun x_ => iI (pt x_))))] H → va_D A [(o, .inr (0, [.int (iI 0), .ref b1, .ref b2, .ref b3, .ref b4, .ref b5, .ref b6, .int (iI (w : Int)), .int (iI (g : Int))])), (b1, .inl (D.2 0, 1024, .inl (fun x_ => zI (ik x_)))), (b2, .inl (D.2 0, 1024, .inl (fun x_ => zI (k2 x_)))), (b3, .inl (D.2 0, 1024, .inl (fun x_ => zI (kp x_)))), (b4, .inl (D.2 0, 1024, .inl (fun x_ => zI (go x_)))), (b5, .inl (D.2 1, 1024, .inl (fun x_ => iI (dp x_)))), (b6, .inl (D.2 1, 1024, .inl (fun x_ => iI (pt x_))))] → va_S A s0.heap H locs → ∀ ls : Array Slot, lv_has ls 3 [(2, .int (iI (i : Int))), (1, .int (iI n)), (0, .ref o)] → W p0 l e0 ({ frames := 1, cells := 0, slots := 0, locals := 20 } : Room) s0 m0 args below meth c0 H locs (0) (0) Q (F0 m0 9 ls []) := by
    intro fuel
    induction fuel with
    | zero =>
      intro i n k2 hi hn hk2 hfuel9
      exact absurd hfuel9 (Nat.not_lt_zero _)
    | succ fuel ih9 =>
      intro i n k2 hi hn hk2 hfuel9 H locs hP hD hS ls hl
      have hk := fb_ct_le (fun j => st j != ik j) i
      refine lv_iload_n kx kb dX3_store_9 rfl (lv_at hl 0 rfl) ?_
      refine lv_aload_n kx kb dX3_store_10 rfl (lv_at hl 2 rfl) ?_
      refine t_callRV C (met_X3_cells l D E o b1 b2 b3 b4 b5 b6 0 w g ik k2 kp go dp pt (by first | assumption | omega) (by first | assumption | omega)) (cwV 0 hts (lw_V q1467 q1469 qs33 q62 q1470) rfl rfl rfl (by decide +kernel) ⟨Nat.le_of_ble_eq_true rfl, Nat.le_of_ble_eq_true rfl⟩) (va_recv hK hP (ci := 0) (q0 := 0) rfl rfl) hK hX hP hD hS hA [0, 1, 2, 3, 4, 5, 6] rfl (by decide) tYb_0 (fun _ _ _ => trivial) rfl hl.1 rfl (Nat.le_of_ble_eq_true rfl) dX3_store_11 ⟨(show 0 ≤ 0 from by omega), (show 0 ≤ 0 from by omega)⟩ ?_
      refine W.eq (g2 := F0 m0 14 ls [.int (iI ((w * g : Nat) : Int)), .int (iI (i : Int))]) rfl ?_
      refine ti_icmp_ge (tgt := 58) kx kb (by omega) dX3_store_14 (by decide) (fun h14 => ?_) (fun h14 => ?_)
      · have hP := tx_arrZ (g := flw ik st (w * g)) 2 rfl (fun j hj => by rw [hk2, show i = w * g from by omega]) hP
        have hP : va_P D.1 clAll [(o, .inr (0, [.int (iI 0), .ref b1, .ref b2, .ref b3, .ref b4, .ref b5, .ref b6, .int (iI (w : Int)), .int (iI (g : Int))])), (b1, .inl (D.2 0, 1024, .inl (fun x_ => zI (ik x_)))), (b2, .inl (D.2 0, 1024, .inl (fun x_ => zI ((flw ik st (w * g)) x_)))), (b3, .inl (D.2 0, 1024, .inl (fun x_ => zI (kp x_)))), (b4, .inl (D.2 0, 1024, .inl (fun x_ => zI (go x_)))), (b5, .inl (D.2 1, 1024, .inl (fun x_ => iI (dp x_)))), (b6, .inl (D.2 1, 1024, .inl (fun x_ => iI (pt x_))))] H := hP
        have hD : va_D A [(o, .inr (0, [.int (iI 0), .ref b1, .ref b2, .ref b3, .ref b4, .ref b5, .ref b6, .int (iI (w : Int)), .int (iI (g : Int))])), (b1, .inl (D.2 0, 1024, .inl (fun x_ => zI (ik x_)))), (b2, .inl (D.2 0, 1024, .inl (fun x_ => zI ((flw ik st (w * g)) x_)))), (b3, .inl (D.2 0, 1024, .inl (fun x_ => zI (kp x_)))), (b4, .inl (D.2 0, 1024, .inl (fun x_ => zI (go x_)))), (b5, .inl (D.2 1, 1024, .inl (fun x_ => iI (dp x_)))), (b6, .inl (D.2 1, 1024, .inl (fun x_ => iI (pt x_))))] := hD.set (p := 2) rfl
        refine lv_iload_n kx kb dX3_store_58 rfl (lv_at hl 1 rfl) ?_
        subst hQ
        exact tm_iret C () trivial hP hD hS (show 0 ≤ 0 from by omega) (show 0 ≤ 0 from by omega) (by rw [hn, show i = w * g from by omega]) rfl dX3_store_59
      · refine lv_iload_n kx kb dX3_store_17 rfl (lv_at hl 1 rfl) ?_
        refine lv_aload_n kx kb dX3_store_18 rfl (lv_at hl 2 rfl) ?_
        refine va_get (D := D.1) (ci := 0) (v := .ref b2) (C := RX3) (T := TX3) (N := 9) kx kb hts in_X3 hown hK hP 0 rfl rfl 2 (by decide) (hts _ q1372) (fun _ h9 => h9) rfl dX3_store_19 ?_
        refine lv_iload_n kx kb dX3_store_22 rfl (lv_at hl 0 rfl) ?_
        refine ta_zald C hK hP 2 rfl i (by omega) dX3_store_23 ?_
        refine lv_aload_n kx kb dX3_store_24 rfl (lv_at hl 2 rfl) ?_
        refine va_get (D := D.1) (ci := 0) (v := .ref b1) (C := RX3) (T := TX3) (N := 9) kx kb hts in_X3 hown hK hP 0 rfl rfl 1 (by decide) (hts _ q1371) (fun _ h9 => h9) rfl dX3_store_25 ?_
        refine lv_iload_n kx kb dX3_store_28 rfl (lv_at hl 0 rfl) ?_
        refine ta_zald C hK hP 1 rfl i (by omega) dX3_store_29 ?_
        refine tz_icmp_ne (tgt := 37) kx kb dX3_store_30 (by decide) (fun h30 => ?_) (fun h30 => ?_)
        · refine lv_iconst (v := iI 1) kx kb dX3_store_37 rfl ?_
          refine ti_iadd kx kb dX3_store_38 ?_
          refine lv_istore_n (lv' := [(1, .int (iI (n + 1))), (2, .int (iI (i : Int))), (0, .ref o)]) kx kb dX3_store_39 rfl hl (by decide) rfl (fun ls hl => ?_)
          refine lv_aload_n kx kb dX3_store_40 rfl (lv_at hl 2 rfl) ?_
          refine va_get (D := D.1) (ci := 0) (v := .ref b2) (C := RX3) (T := TX3) (N := 9) kx kb hts in_X3 hown hK hP 0 rfl rfl 2 (by decide) (hts _ q1372) (fun _ h9 => h9) rfl dX3_store_41 ?_
          refine lv_iload_n kx kb dX3_store_44 rfl (lv_at hl 1 rfl) ?_
          refine lv_aload_n kx kb dX3_store_45 rfl (lv_at hl 2 rfl) ?_
          refine va_get (D := D.1) (ci := 0) (v := .ref b1) (C := RX3) (T := TX3) (N := 9) kx kb hts in_X3 hown hK hP 0 rfl rfl 1 (by decide) (hts _ q1371) (fun _ h9 => h9) rfl dX3_store_46 ?_
          refine lv_iload_n kx kb dX3_store_49 rfl (lv_at hl 1 rfl) ?_
          refine ta_zald C hK hP 1 rfl i (by omega) dX3_store_50 ?_
          refine ta_zast C hK hP hD hS 2 rfl i (by omega) dX3_store_51 (fun H locs hP hD hS => ?_)
          have hP : va_P D.1 clAll [(o, .inr (0, [.int (iI 0), .ref b1, .ref b2, .ref b3, .ref b4, .ref b5, .ref b6, .int (iI (w : Int)), .int (iI (g : Int))])), (b1, .inl (D.2 0, 1024, .inl (fun x_ => zI (ik x_)))), (b2, .inl (D.2 0, 1024, .inl (fun x_ => zI ((va_up k2 i (ik i)) x_)))), (b3, .inl (D.2 0, 1024, .inl (fun x_ => zI (kp x_)))), (b4, .inl (D.2 0, 1024, .inl (fun x_ => zI (go x_)))), (b5, .inl (D.2 1, 1024, .inl (fun x_ => iI (dp x_)))), (b6, .inl (D.2 1, 1024, .inl (fun x_ => iI (pt x_))))] H := hP
          have hD : va_D A [(o, .inr (0, [.int (iI 0), .ref b1, .ref b2, .ref b3, .ref b4, .ref b5, .ref b6, .int (iI (w : Int)), .int (iI (g : Int))])), (b1, .inl (D.2 0, 1024, .inl (fun x_ => zI (ik x_)))), (b2, .inl (D.2 0, 1024, .inl (fun x_ => zI ((va_up k2 i (ik i)) x_)))), (b3, .inl (D.2 0, 1024, .inl (fun x_ => zI (kp x_)))), (b4, .inl (D.2 0, 1024, .inl (fun x_ => zI (go x_)))), (b5, .inl (D.2 1, 1024, .inl (fun x_ => iI (dp x_)))), (b6, .inl (D.2 1, 1024, .inl (fun x_ => iI (pt x_))))] := hD
          refine ti_iinc (a := (i : Int)) (lv' := [(2, .int (iI ((i : Int) + 1))), (1, .int (iI (n + 1))), (0, .ref o)]) kx kb dX3_store_52 hl (k := 1) rfl (by decide) rfl (fun ls hl => ?_)
          refine lv_goto (tgt := 9) kx kb dX3_store_55 (by decide) ?_
          exact ih9 (i + 1) (n + 1) (va_up k2 i (ik i)) (by omega) (by rw [hk2, flw_at] at h30; simp [fb_ct_succ, h30, hn]) (by rw [hk2, flw_s]) (by omega) H locs hP hD hS ls hl
        · refine lv_iconst (v := iI 0) kx kb dX3_store_33 rfl ?_
          refine lv_goto (tgt := 38) kx kb dX3_store_34 (by decide) ?_
          refine ti_iadd kx kb dX3_store_38 ?_
          refine lv_istore_n (lv' := [(1, .int (iI (n + 0))), (2, .int (iI (i : Int))), (0, .ref o)]) kx kb dX3_store_39 rfl hl (by decide) rfl (fun ls hl => ?_)
          refine lv_aload_n kx kb dX3_store_40 rfl (lv_at hl 2 rfl) ?_
          refine va_get (D := D.1) (ci := 0) (v := .ref b2) (C := RX3) (T := TX3) (N := 9) kx kb hts in_X3 hown hK hP 0 rfl rfl 2 (by decide) (hts _ q1372) (fun _ h9 => h9) rfl dX3_store_41 ?_
          refine lv_iload_n kx kb dX3_store_44 rfl (lv_at hl 1 rfl) ?_
          refine lv_aload_n kx kb dX3_store_45 rfl (lv_at hl 2 rfl) ?_
          refine va_get (D := D.1) (ci := 0) (v := .ref b1) (C := RX3) (T := TX3) (N := 9) kx kb hts in_X3 hown hK hP 0 rfl rfl 1 (by decide) (hts _ q1371) (fun _ h9 => h9) rfl dX3_store_46 ?_
          refine lv_iload_n kx kb dX3_store_49 rfl (lv_at hl 1 rfl) ?_
          refine ta_zald C hK hP 1 rfl i (by omega) dX3_store_50 ?_
          refine ta_zast C hK hP hD hS 2 rfl i (by omega) dX3_store_51 (fun H locs hP hD hS => ?_)
          have hP : va_P D.1 clAll [(o, .inr (0, [.int (iI 0), .ref b1, .ref b2, .ref b3, .ref b4, .ref b5, .ref b6, .int (iI (w : Int)), .int (iI (g : Int))])), (b1, .inl (D.2 0, 1024, .inl (fun x_ => zI (ik x_)))), (b2, .inl (D.2 0, 1024, .inl (fun x_ => zI ((va_up k2 i (ik i)) x_)))), (b3, .inl (D.2 0, 1024, .inl (fun x_ => zI (kp x_)))), (b4, .inl (D.2 0, 1024, .inl (fun x_ => zI (go x_)))), (b5, .inl (D.2 1, 1024, .inl (fun x_ => iI (dp x_)))), (b6, .inl (D.2 1, 1024, .inl (fun x_ => iI (pt x_))))] H := hP
          have hD : va_D A [(o, .inr (0, [.int (iI 0), .ref b1, .ref b2, .ref b3, .ref b4, .ref b5, .ref b6, .int (iI (w : Int)), .int (iI (g : Int))])), (b1, .inl (D.2 0, 1024, .inl (fun x_ => zI (ik x_)))), (b2, .inl (D.2 0, 1024, .inl (fun x_ => zI ((va_up k2 i (ik i)) x_)))), (b3, .inl (D.2 0, 1024, .inl (fun x_ => zI (kp x_)))), (b4, .inl (D.2 0, 1024, .inl (fun x_ => zI (go x_)))), (b5, .inl (D.2 1, 1024, .inl (fun x_ => iI (dp x_)))), (b6, .inl (D.2 1, 1024, .inl (fun x_ => iI (pt x_))))] := hD
          refine ti_iinc (a := (i : Int)) (lv' := [(2, .int (iI ((i : Int) + 1))), (1, .int (iI (n + 0))), (0, .ref o)]) kx kb dX3_store_52 hl (k := 1) rfl (by decide) rfl (fun ls hl => ?_)
          refine lv_goto (tgt := 9) kx kb dX3_store_55 (by decide) ?_
          exact ih9 (i + 1) (n + 0) (va_up k2 i (ik i)) (by omega) (by rw [hk2, flw_at] at h30; simp [fb_ct_succ, h30, hn]) (by rw [hk2, flw_s]) (by omega) H locs hP hD hS ls hl
  exact cut9 ((w * g - 0) + 1) 0 0 st (by omega) (by rfl) (by rw [flw_0]) (Nat.lt_succ_self _) H locs hP hD hS ls hl
set_option maxHeartbeats 4000000 in
set_option maxRecDepth 100000 in
theorem met_X3_join_ok (l : Launch) (D : TG) (E : TE) (o : Nat) (b1 : Nat) (b2 : Nat) (b3 : Nat) (b4 : Nat) (b5 : Nat) (b6 : Nat) (thr : Int) (w : Nat) (g : Nat) (ik : Nat → Bool) (st : Nat → Bool) (kp : Nat → Bool) (go : Nat → Bool) (dp : Nat → Int) (pt : Nat → Int) (y : Int) (hw : 1 ≤ w ∧ w ≤ 32) (hg : 1 ≤ g ∧ g ≤ 32) (hv : 0 ≤ y ∧ y ≤ 3) : tMet l yX3_join cX3_join 3 (some .int) 2 42 (0) (0) [.ref o, .int (iI y)] D E [(o, .inr (0, [.int (iI thr), .ref b1, .ref b2, .ref b3, .ref b4, .ref b5, .ref b6, .int (iI (w : Int)), .int (iI (g : Int))])), (b1, .inl (D.2 0, 1024, .inl (fun x_ => zI (ik x_)))), (b2, .inl (D.2 0, 1024, .inl (fun x_ => zI (st x_)))), (b3, .inl (D.2 0, 1024, .inl (fun x_ => zI (kp x_)))), (b4, .inl (D.2 0, 1024, .inl (fun x_ => zI (go x_)))), (b5, .inl (D.2 1, 1024, .inl (fun x_ => iI (dp x_)))), (b6, .inl (D.2 1, 1024, .inl (fun x_ => iI (pt x_))))] tY0 (S := Unit) (fun u_ => True) (fun u_ => some (.int (iI ((fb_ct (flw (fun j => jnB y (ik j) (st j)) ik (w * g)) (w * g) : Nat) : Int)))) (fun u_ => [(o, .inr (0, [.int (iI 0), .ref b1, .ref b2, .ref b3, .ref b4, .ref b5, .ref b6, .int (iI (w : Int)), .int (iI (g : Int))])), (b1, .inl (D.2 0, 1024, .inl (fun x_ => zI ((flw (fun j => jnB y (ik j) (st j)) ik (w * g)) x_)))), (b2, .inl (D.2 0, 1024, .inl (fun x_ => zI (st x_)))), (b3, .inl (D.2 0, 1024, .inl (fun x_ => zI (kp x_)))), (b4, .inl (D.2 0, 1024, .inl (fun x_ => zI (go x_)))), (b5, .inl (D.2 1, 1024, .inl (fun x_ => iI (dp x_)))), (b6, .inl (D.2 1, 1024, .inl (fun x_ => iI (pt x_))))]) := by
  refine tu_met (by decide +kernel) (Nat.le_of_ble_eq_true rfl) ?_
  intro p0 e0 s0 m0 below meth c0 A ls args Q hag hQ C hK hX hY hP hD hA hAe hl
  obtain ⟨kx, kb, hml, hown, hts, -⟩ := id C
  have hS : va_S A s0.heap s0.heap [] := va_S.rf
  have hl : lv_has ls 3 [(0, .ref o), (1, .int (iI y))] := hl
  have hwg := wg_le hw hg
  refine lv_aload_n kx kb dX3_join_0 rfl (lv_at hl 0 rfl) ?_
  refine lv_iconst (v := iI 0) kx kb dX3_join_1 rfl ?_
  refine va_put (D := D.1) (ci := 0) (v := .int (iI 0)) (ty := .int) (C := RX3) (T := TX3) (N := 9) kx kb hts in_X3 tyX3 tyX3_ok nmX3 hown hK hP hD hS 0 rfl rfl 0 (by decide) (hts _ q1370) (fun _ h9 => h9) rfl (by decide +kernel) rfl rfl (Nat.le_of_ble_eq_true rfl) dX3_join_2 (fun H locs hP hD hS => ?_)
  have hP : va_P D.1 clAll [(o, .inr (0, [.int (iI 0), .ref b1, .ref b2, .ref b3, .ref b4, .ref b5, .ref b6, .int (iI (w : Int)), .int (iI (g : Int))])), (b1, .inl (D.2 0, 1024, .inl (fun x_ => zI (ik x_)))), (b2, .inl (D.2 0, 1024, .inl (fun x_ => zI (st x_)))), (b3, .inl (D.2 0, 1024, .inl (fun x_ => zI (kp x_)))), (b4, .inl (D.2 0, 1024, .inl (fun x_ => zI (go x_)))), (b5, .inl (D.2 1, 1024, .inl (fun x_ => iI (dp x_)))), (b6, .inl (D.2 1, 1024, .inl (fun x_ => iI (pt x_))))] H := hP
  have hD : va_D A [(o, .inr (0, [.int (iI 0), .ref b1, .ref b2, .ref b3, .ref b4, .ref b5, .ref b6, .int (iI (w : Int)), .int (iI (g : Int))])), (b1, .inl (D.2 0, 1024, .inl (fun x_ => zI (ik x_)))), (b2, .inl (D.2 0, 1024, .inl (fun x_ => zI (st x_)))), (b3, .inl (D.2 0, 1024, .inl (fun x_ => zI (kp x_)))), (b4, .inl (D.2 0, 1024, .inl (fun x_ => zI (go x_)))), (b5, .inl (D.2 1, 1024, .inl (fun x_ => iI (dp x_)))), (b6, .inl (D.2 1, 1024, .inl (fun x_ => iI (pt x_))))] := hD
  refine lv_aload_n kx kb dX3_join_5 rfl (lv_at hl 0 rfl) ?_
  refine lv_iload_n kx kb dX3_join_6 rfl (lv_at hl 1 rfl) ?_
  refine lv_iconst (v := iI 0) kx kb dX3_join_7 rfl ?_
  refine lv_iconst (v := iI 3) kx kb dX3_join_8 rfl ?_
  refine t_callRS C (met_X3_isIn l D E y 0 3 (by first | assumption | omega)) (va_cwS 3 hts (lw_S q1407 q1408 q62 q1409) rfl rfl rfl (by decide +kernel) ⟨Nat.le_of_ble_eq_true rfl, Nat.le_of_ble_eq_true rfl⟩) hK hX hP hD hS hA [] rfl (by decide) tYb_0 (fun _ _ _ => trivial) rfl hl.1 rfl (Nat.le_of_ble_eq_true rfl) dX3_join_9 ⟨(show 0 ≤ 0 from by omega), (show 0 ≤ 0 from by omega)⟩ ?_
  refine W.eq (g2 := F0 m0 12 ls [.int (zI (decide (0 ≤ y ∧ y ≤ 3))), .ref o]) rfl ?_
  refine lv_iconst (v := iI 1) kx kb dX3_join_12 rfl ?_
  refine t_callV (wr := []) C (met_X3_right l D E o b1 b2 b3 b4 b5 b6 w g ik st kp go dp pt (decide (0 ≤ y ∧ y ≤ 3)) 1 (by first | assumption | omega) (by first | assumption | omega) (by first | assumption | omega)) (cwV 2 hts (lw_V q1410 q1412 qs24 q62 q1413) rfl rfl rfl (by decide +kernel) ⟨Nat.le_of_ble_eq_true rfl, Nat.le_of_ble_eq_true rfl⟩) (va_recv hK hP (ci := 0) (q0 := 0) rfl rfl) hK hX hP hD hS hA [0, 1, 2, 3, 4, 5, 6] [] rfl rfl (by decide) (by decide) (by decide) tYb_0 (fun _ _ _ => trivial) rfl hl.1 rfl (Nat.le_of_ble_eq_true rfl) dX3_join_13 ⟨(show 0 ≤ 0 from by omega), (show 0 ≤ 0 from by omega)⟩ (fun u_ H locs hp hP hD hS => ?_)
  obtain ⟨t2_1, rfl⟩ : ∃ z, z = u_ := ⟨_, rfl⟩
  have hc13_1 : t2_1 = if (decide (0 ≤ y ∧ y ≤ 3)) then 0 else 1 := hp
  subst hc13_1
  have hP : va_P D.1 clAll [(o, .inr (0, [.int (iI (if (decide (0 ≤ y ∧ y ≤ 3)) then 0 else 1)), .ref b1, .ref b2, .ref b3, .ref b4, .ref b5, .ref b6, .int (iI (w : Int)), .int (iI (g : Int))])), (b1, .inl (D.2 0, 1024, .inl (fun x_ => zI (ik x_)))), (b2, .inl (D.2 0, 1024, .inl (fun x_ => zI (st x_)))), (b3, .inl (D.2 0, 1024, .inl (fun x_ => zI (kp x_)))), (b4, .inl (D.2 0, 1024, .inl (fun x_ => zI (go x_)))), (b5, .inl (D.2 1, 1024, .inl (fun x_ => iI (dp x_)))), (b6, .inl (D.2 1, 1024, .inl (fun x_ => iI (pt x_))))] H := hP
  have hD : va_D A [(o, .inr (0, [.int (iI (if (decide (0 ≤ y ∧ y ≤ 3)) then 0 else 1)), .ref b1, .ref b2, .ref b3, .ref b4, .ref b5, .ref b6, .int (iI (w : Int)), .int (iI (g : Int))])), (b1, .inl (D.2 0, 1024, .inl (fun x_ => zI (ik x_)))), (b2, .inl (D.2 0, 1024, .inl (fun x_ => zI (st x_)))), (b3, .inl (D.2 0, 1024, .inl (fun x_ => zI (kp x_)))), (b4, .inl (D.2 0, 1024, .inl (fun x_ => zI (go x_)))), (b5, .inl (D.2 1, 1024, .inl (fun x_ => iI (dp x_)))), (b6, .inl (D.2 1, 1024, .inl (fun x_ => iI (pt x_))))] := hD
  refine W.eq (g2 := F0 m0 16 ls [.int (zI (decide (0 ≤ y ∧ y ≤ 3)))]) rfl ?_
  refine tz_if_ne (tgt := 21) kx kb dX3_join_16 (by decide) (fun h16 => ?_) (fun h16 => ?_)
  · simp only [decide_eq_true_eq, decide_eq_false_iff_not] at h16
    rw [show ((if (decide (0 ≤ y ∧ y ≤ 3)) then 0 else 1)) = (0 : Int) from by simp [h16]] at hP hD
    have hP : va_P D.1 clAll [(o, .inr (0, [.int (iI 0), .ref b1, .ref b2, .ref b3, .ref b4, .ref b5, .ref b6, .int (iI (w : Int)), .int (iI (g : Int))])), (b1, .inl (D.2 0, 1024, .inl (fun x_ => zI (ik x_)))), (b2, .inl (D.2 0, 1024, .inl (fun x_ => zI (st x_)))), (b3, .inl (D.2 0, 1024, .inl (fun x_ => zI (kp x_)))), (b4, .inl (D.2 0, 1024, .inl (fun x_ => zI (go x_)))), (b5, .inl (D.2 1, 1024, .inl (fun x_ => iI (dp x_)))), (b6, .inl (D.2 1, 1024, .inl (fun x_ => iI (pt x_))))] H := hP
    have hD : va_D A [(o, .inr (0, [.int (iI 0), .ref b1, .ref b2, .ref b3, .ref b4, .ref b5, .ref b6, .int (iI (w : Int)), .int (iI (g : Int))])), (b1, .inl (D.2 0, 1024, .inl (fun x_ => zI (ik x_)))), (b2, .inl (D.2 0, 1024, .inl (fun x_ => zI (st x_)))), (b3, .inl (D.2 0, 1024, .inl (fun x_ => zI (kp x_)))), (b4, .inl (D.2 0, 1024, .inl (fun x_ => zI (go x_)))), (b5, .inl (D.2 1, 1024, .inl (fun x_ => iI (dp x_)))), (b6, .inl (D.2 1, 1024, .inl (fun x_ => iI (pt x_))))] := hD
    refine lv_iconst (v := iI 0) kx kb dX3_join_21 rfl ?_
    refine lv_istore_n (lv' := [(2, .int (iI 0)), (0, .ref o), (1, .int (iI y))]) kx kb dX3_join_22 rfl hl (by decide) rfl (fun ls hl => ?_)
    have cut23 : ∀ (fuel : Nat) (i : Nat) (k1 : Nat → Bool), (i ≤ w * g) → (k1 = flw (fun j => jnB y (ik j) (st j)) ik i) → (w * g - i) < fuel → ∀ (H : Heap) (locs : List Loc), va_P D.1 clAll [(o, .inr (0, [.int (iI 0), .ref b1, .ref b2, .ref b3, .ref b4, .ref b5, .ref b6, .int (iI (w : Int)), .int (iI (g : Int))])), (b1, .inl (D.2 0, 1024, .inl (fun x_ => zI (k1 x_)))), (b2, .inl (D.2 0, 1024, .inl (fun x_ => zI (st x_)))), (b3, .inl (D.2 0, 1024, .inl (fun x_ => zI (kp x_)))), (b4, .inl (D.2 0, 1024, .inl (fun x_ => zI (go x_)))), (b5, .inl (D.2 1, 1024, .inl (fun x_ => iI (dp x_)))), (b6, .inl (D.2 1, 1024, .inl (fun x_ => iI (pt x_))))] H → va_D A [(o, .inr (0, [.int (iI 0), .ref b1, .ref b2, .ref b3, .ref b4, .ref b5, .ref b6, .int (iI (w : Int)), .int (iI (g : Int))])), (b1, .inl (D.2 0, 1024, .inl (fun x_ => zI (k1 x_)))), (b2, .inl (D.2 0, 1024, .inl (fun x_ => zI (st x_)))), (b3, .inl (D.2 0, 1024, .inl (fun x_ => zI (kp x_)))), (b4, .inl (D.2 0, 1024, .inl (fun x_ => zI (go x_)))), (b5, .inl (D.2 1, 1024, .inl (fun x_ => iI (dp x_)))), (b6, .inl (D.2 1, 1024, .inl (fun x_ => iI (pt x_))))] → va_S A s0.heap H locs → ∀ ls : Array Slot, lv_has ls 3 [(2, .int (iI (i : Int))), (0, .ref o), (1, .int (iI y))] → W p0 l e0 ({ frames := 2, cells := 0, slots := 0, locals := 42 } : Room) s0 m0 args below meth c0 H locs (0) (0) Q (F0 m0 23 ls []) := by
      intro fuel
      induction fuel with
      | zero =>
        intro i k1 hi hk1 hfuel23
        exact absurd hfuel23 (Nat.not_lt_zero _)
      | succ fuel ih23 =>
        intro i k1 hi hk1 hfuel23 H locs hP hD hS ls hl
        have hki : k1 i = ik i := by rw [hk1, flw_at]
        refine lv_iload_n kx kb dX3_join_23 rfl (lv_at hl 0 rfl) ?_
        refine lv_aload_n kx kb dX3_join_24 rfl (lv_at hl 1 rfl) ?_
        refine t_callRV C (met_X3_cells l D E o b1 b2 b3 b4 b5 b6 0 w g k1 st kp go dp pt (by first | assumption | omega) (by first | assumption | omega)) (cwV 0 hts (lw_V q1467 q1469 qs33 q62 q1470) rfl rfl rfl (by decide +kernel) ⟨Nat.le_of_ble_eq_true rfl, Nat.le_of_ble_eq_true rfl⟩) (va_recv hK hP (ci := 0) (q0 := 0) rfl rfl) hK hX hP hD hS hA [0, 1, 2, 3, 4, 5, 6] rfl (by decide) tYb_0 (fun _ _ _ => trivial) rfl hl.1 rfl (Nat.le_of_ble_eq_true rfl) dX3_join_25 ⟨(show 0 ≤ 0 from by omega), (show 0 ≤ 0 from by omega)⟩ ?_
        refine W.eq (g2 := F0 m0 28 ls [.int (iI ((w * g : Nat) : Int)), .int (iI (i : Int))]) rfl ?_
        refine ti_icmp_ge (tgt := 155) kx kb (by omega) dX3_join_28 (by decide) (fun h28 => ?_) (fun h28 => ?_)
        · have hP := tx_arrZ (g := flw (fun j => jnB y (ik j) (st j)) ik (w * g)) 1 rfl (fun j hj => by rw [hk1, show i = w * g from by omega]) hP
          have hP : va_P D.1 clAll [(o, .inr (0, [.int (iI 0), .ref b1, .ref b2, .ref b3, .ref b4, .ref b5, .ref b6, .int (iI (w : Int)), .int (iI (g : Int))])), (b1, .inl (D.2 0, 1024, .inl (fun x_ => zI ((flw (fun j => jnB y (ik j) (st j)) ik (w * g)) x_)))), (b2, .inl (D.2 0, 1024, .inl (fun x_ => zI (st x_)))), (b3, .inl (D.2 0, 1024, .inl (fun x_ => zI (kp x_)))), (b4, .inl (D.2 0, 1024, .inl (fun x_ => zI (go x_)))), (b5, .inl (D.2 1, 1024, .inl (fun x_ => iI (dp x_)))), (b6, .inl (D.2 1, 1024, .inl (fun x_ => iI (pt x_))))] H := hP
          have hD : va_D A [(o, .inr (0, [.int (iI 0), .ref b1, .ref b2, .ref b3, .ref b4, .ref b5, .ref b6, .int (iI (w : Int)), .int (iI (g : Int))])), (b1, .inl (D.2 0, 1024, .inl (fun x_ => zI ((flw (fun j => jnB y (ik j) (st j)) ik (w * g)) x_)))), (b2, .inl (D.2 0, 1024, .inl (fun x_ => zI (st x_)))), (b3, .inl (D.2 0, 1024, .inl (fun x_ => zI (kp x_)))), (b4, .inl (D.2 0, 1024, .inl (fun x_ => zI (go x_)))), (b5, .inl (D.2 1, 1024, .inl (fun x_ => iI (dp x_)))), (b6, .inl (D.2 1, 1024, .inl (fun x_ => iI (pt x_))))] := hD.set (p := 1) rfl
          refine lv_aload_n kx kb dX3_join_155 rfl (lv_at hl 1 rfl) ?_
          refine t_callRV C (met_X3_count l D E o b1 b2 b3 b4 b5 b6 0 w g (flw (fun j => jnB y (ik j) (st j)) ik (w * g)) st kp go dp pt (by first | assumption | omega) (by first | assumption | omega)) (cwV 0 hts (lw_V q1485 q1487 qs35 q62 q1488) rfl rfl rfl (by decide +kernel) ⟨Nat.le_of_ble_eq_true rfl, Nat.le_of_ble_eq_true rfl⟩) (va_recv hK hP (ci := 0) (q0 := 0) rfl rfl) hK hX hP hD hS hA [0, 1, 2, 3, 4, 5, 6] rfl (by decide) tYb_0 (fun _ _ _ => trivial) rfl hl.1 rfl (Nat.le_of_ble_eq_true rfl) dX3_join_156 ⟨(show 0 ≤ 0 from by omega), (show 0 ≤ 0 from by omega)⟩ ?_
          refine W.eq (g2 := F0 m0 159 ls [.int (iI ((fb_ct (flw (fun j => jnB y (ik j) (st j)) ik (w * g)) (w * g) : Nat) : Int))]) rfl ?_
          subst hQ
          exact tm_iret C () trivial hP hD hS (show 0 ≤ 0 from by omega) (show 0 ≤ 0 from by omega) rfl rfl dX3_join_159
        · refine lv_aload_n kx kb dX3_join_31 rfl (lv_at hl 1 rfl) ?_
          refine va_get (D := D.1) (ci := 0) (v := .ref b1) (C := RX3) (T := TX3) (N := 9) kx kb hts in_X3 hown hK hP 0 rfl rfl 1 (by decide) (hts _ q1371) (fun _ h9 => h9) rfl dX3_join_32 ?_
          refine lv_iload_n kx kb dX3_join_35 rfl (lv_at hl 0 rfl) ?_
          refine lv_iload_n kx kb dX3_join_36 rfl (lv_at hl 2 rfl) ?_
          refine ti_if_ne (tgt := 66) kx kb (by omega) dX3_join_37 (by decide) (fun h37 => ?_) (fun h37 => ?_)
          · refine lv_iload_n kx kb dX3_join_66 rfl (lv_at hl 2 rfl) ?_
            refine lv_iconst (v := iI 1) kx kb dX3_join_67 rfl ?_
            refine ti_icmp_ne (tgt := 97) kx kb (by omega) dX3_join_68 (by decide) (fun h68 => ?_) (fun h68 => ?_)
            · refine lv_iload_n kx kb dX3_join_97 rfl (lv_at hl 2 rfl) ?_
              refine lv_iconst (v := iI 2) kx kb dX3_join_98 rfl ?_
              refine ti_icmp_ne (tgt := 125) kx kb (by omega) dX3_join_99 (by decide) (fun h99 => ?_) (fun h99 => ?_)
              · refine lv_aload_n kx kb dX3_join_125 rfl (lv_at hl 1 rfl) ?_
                refine va_get (D := D.1) (ci := 0) (v := .ref b1) (C := RX3) (T := TX3) (N := 9) kx kb hts in_X3 hown hK hP 0 rfl rfl 1 (by decide) (hts _ q1371) (fun _ h9 => h9) rfl dX3_join_126 ?_
                refine lv_iload_n kx kb dX3_join_129 rfl (lv_at hl 0 rfl) ?_
                refine ta_zald C hK hP 1 rfl i (by omega) dX3_join_130 ?_
                refine tz_if_eq (tgt := 147) kx kb dX3_join_131 (by decide) (fun h131 => ?_) (fun h131 => ?_)
                · refine lv_iconst (v := iI 0) kx kb dX3_join_147 rfl ?_
                  refine W.eq (g2 := F0 m0 148 ls [.int (zI false), .int (iI (i : Int)), .ref b1]) rfl ?_
                  refine ta_zast C hK hP hD hS 1 rfl i (by omega) dX3_join_148 (fun H locs hP hD hS => ?_)
                  have hP : va_P D.1 clAll [(o, .inr (0, [.int (iI 0), .ref b1, .ref b2, .ref b3, .ref b4, .ref b5, .ref b6, .int (iI (w : Int)), .int (iI (g : Int))])), (b1, .inl (D.2 0, 1024, .inl (fun x_ => zI ((va_up k1 i false) x_)))), (b2, .inl (D.2 0, 1024, .inl (fun x_ => zI (st x_)))), (b3, .inl (D.2 0, 1024, .inl (fun x_ => zI (kp x_)))), (b4, .inl (D.2 0, 1024, .inl (fun x_ => zI (go x_)))), (b5, .inl (D.2 1, 1024, .inl (fun x_ => iI (dp x_)))), (b6, .inl (D.2 1, 1024, .inl (fun x_ => iI (pt x_))))] H := hP
                  have hD : va_D A [(o, .inr (0, [.int (iI 0), .ref b1, .ref b2, .ref b3, .ref b4, .ref b5, .ref b6, .int (iI (w : Int)), .int (iI (g : Int))])), (b1, .inl (D.2 0, 1024, .inl (fun x_ => zI ((va_up k1 i false) x_)))), (b2, .inl (D.2 0, 1024, .inl (fun x_ => zI (st x_)))), (b3, .inl (D.2 0, 1024, .inl (fun x_ => zI (kp x_)))), (b4, .inl (D.2 0, 1024, .inl (fun x_ => zI (go x_)))), (b5, .inl (D.2 1, 1024, .inl (fun x_ => iI (dp x_)))), (b6, .inl (D.2 1, 1024, .inl (fun x_ => iI (pt x_))))] := hD
                  refine ti_iinc (a := (i : Int)) (lv' := [(2, .int (iI ((i : Int) + 1))), (0, .ref o), (1, .int (iI y))]) kx kb dX3_join_149 hl (k := 0) rfl (by decide) rfl (fun ls hl => ?_)
                  refine lv_goto (tgt := 23) kx kb dX3_join_152 (by decide) ?_
                  exact ih23 (i + 1) (va_up k1 i false) (by omega) (by (try rw [hki] at h131); rw [← flw_s, ← hk1]; exact congrArg _ (Eq.symm (by simp [jnB, h37, h68, h99, h131]))) (by omega) H locs hP hD hS ls hl
                · refine lv_aload_n kx kb dX3_join_134 rfl (lv_at hl 1 rfl) ?_
                  refine va_get (D := D.1) (ci := 0) (v := .ref b2) (C := RX3) (T := TX3) (N := 9) kx kb hts in_X3 hown hK hP 0 rfl rfl 2 (by decide) (hts _ q1372) (fun _ h9 => h9) rfl dX3_join_135 ?_
                  refine lv_iload_n kx kb dX3_join_138 rfl (lv_at hl 0 rfl) ?_
                  refine ta_zald C hK hP 2 rfl i (by omega) dX3_join_139 ?_
                  refine tz_if_ne (tgt := 147) kx kb dX3_join_140 (by decide) (fun h140 => ?_) (fun h140 => ?_)
                  · refine lv_iconst (v := iI 0) kx kb dX3_join_147 rfl ?_
                    refine W.eq (g2 := F0 m0 148 ls [.int (zI false), .int (iI (i : Int)), .ref b1]) rfl ?_
                    refine ta_zast C hK hP hD hS 1 rfl i (by omega) dX3_join_148 (fun H locs hP hD hS => ?_)
                    have hP : va_P D.1 clAll [(o, .inr (0, [.int (iI 0), .ref b1, .ref b2, .ref b3, .ref b4, .ref b5, .ref b6, .int (iI (w : Int)), .int (iI (g : Int))])), (b1, .inl (D.2 0, 1024, .inl (fun x_ => zI ((va_up k1 i false) x_)))), (b2, .inl (D.2 0, 1024, .inl (fun x_ => zI (st x_)))), (b3, .inl (D.2 0, 1024, .inl (fun x_ => zI (kp x_)))), (b4, .inl (D.2 0, 1024, .inl (fun x_ => zI (go x_)))), (b5, .inl (D.2 1, 1024, .inl (fun x_ => iI (dp x_)))), (b6, .inl (D.2 1, 1024, .inl (fun x_ => iI (pt x_))))] H := hP
                    have hD : va_D A [(o, .inr (0, [.int (iI 0), .ref b1, .ref b2, .ref b3, .ref b4, .ref b5, .ref b6, .int (iI (w : Int)), .int (iI (g : Int))])), (b1, .inl (D.2 0, 1024, .inl (fun x_ => zI ((va_up k1 i false) x_)))), (b2, .inl (D.2 0, 1024, .inl (fun x_ => zI (st x_)))), (b3, .inl (D.2 0, 1024, .inl (fun x_ => zI (kp x_)))), (b4, .inl (D.2 0, 1024, .inl (fun x_ => zI (go x_)))), (b5, .inl (D.2 1, 1024, .inl (fun x_ => iI (dp x_)))), (b6, .inl (D.2 1, 1024, .inl (fun x_ => iI (pt x_))))] := hD
                    refine ti_iinc (a := (i : Int)) (lv' := [(2, .int (iI ((i : Int) + 1))), (0, .ref o), (1, .int (iI y))]) kx kb dX3_join_149 hl (k := 0) rfl (by decide) rfl (fun ls hl => ?_)
                    refine lv_goto (tgt := 23) kx kb dX3_join_152 (by decide) ?_
                    exact ih23 (i + 1) (va_up k1 i false) (by omega) (by (try rw [hki] at h131); (try rw [hki] at h140); rw [← flw_s, ← hk1]; exact congrArg _ (Eq.symm (by simp [jnB, h37, h68, h99, h131, h140]))) (by omega) H locs hP hD hS ls hl
                  · refine lv_iconst (v := iI 1) kx kb dX3_join_143 rfl ?_
                    refine lv_goto (tgt := 148) kx kb dX3_join_144 (by decide) ?_
                    refine W.eq (g2 := F0 m0 148 ls [.int (zI true), .int (iI (i : Int)), .ref b1]) rfl ?_
                    refine ta_zast C hK hP hD hS 1 rfl i (by omega) dX3_join_148 (fun H locs hP hD hS => ?_)
                    have hP : va_P D.1 clAll [(o, .inr (0, [.int (iI 0), .ref b1, .ref b2, .ref b3, .ref b4, .ref b5, .ref b6, .int (iI (w : Int)), .int (iI (g : Int))])), (b1, .inl (D.2 0, 1024, .inl (fun x_ => zI ((va_up k1 i true) x_)))), (b2, .inl (D.2 0, 1024, .inl (fun x_ => zI (st x_)))), (b3, .inl (D.2 0, 1024, .inl (fun x_ => zI (kp x_)))), (b4, .inl (D.2 0, 1024, .inl (fun x_ => zI (go x_)))), (b5, .inl (D.2 1, 1024, .inl (fun x_ => iI (dp x_)))), (b6, .inl (D.2 1, 1024, .inl (fun x_ => iI (pt x_))))] H := hP
                    have hD : va_D A [(o, .inr (0, [.int (iI 0), .ref b1, .ref b2, .ref b3, .ref b4, .ref b5, .ref b6, .int (iI (w : Int)), .int (iI (g : Int))])), (b1, .inl (D.2 0, 1024, .inl (fun x_ => zI ((va_up k1 i true) x_)))), (b2, .inl (D.2 0, 1024, .inl (fun x_ => zI (st x_)))), (b3, .inl (D.2 0, 1024, .inl (fun x_ => zI (kp x_)))), (b4, .inl (D.2 0, 1024, .inl (fun x_ => zI (go x_)))), (b5, .inl (D.2 1, 1024, .inl (fun x_ => iI (dp x_)))), (b6, .inl (D.2 1, 1024, .inl (fun x_ => iI (pt x_))))] := hD
                    refine ti_iinc (a := (i : Int)) (lv' := [(2, .int (iI ((i : Int) + 1))), (0, .ref o), (1, .int (iI y))]) kx kb dX3_join_149 hl (k := 0) rfl (by decide) rfl (fun ls hl => ?_)
                    refine lv_goto (tgt := 23) kx kb dX3_join_152 (by decide) ?_
                    exact ih23 (i + 1) (va_up k1 i true) (by omega) (by (try rw [hki] at h131); (try rw [hki] at h140); rw [← flw_s, ← hk1]; exact congrArg _ (Eq.symm (by simp [jnB, h37, h68, h99, h131, h140]))) (by omega) H locs hP hD hS ls hl
              · refine lv_aload_n kx kb dX3_join_102 rfl (lv_at hl 1 rfl) ?_
                refine va_get (D := D.1) (ci := 0) (v := .ref b1) (C := RX3) (T := TX3) (N := 9) kx kb hts in_X3 hown hK hP 0 rfl rfl 1 (by decide) (hts _ q1371) (fun _ h9 => h9) rfl dX3_join_103 ?_
                refine lv_iload_n kx kb dX3_join_106 rfl (lv_at hl 0 rfl) ?_
                refine ta_zald C hK hP 1 rfl i (by omega) dX3_join_107 ?_
                refine lv_aload_n kx kb dX3_join_108 rfl (lv_at hl 1 rfl) ?_
                refine va_get (D := D.1) (ci := 0) (v := .ref b2) (C := RX3) (T := TX3) (N := 9) kx kb hts in_X3 hown hK hP 0 rfl rfl 2 (by decide) (hts _ q1372) (fun _ h9 => h9) rfl dX3_join_109 ?_
                refine lv_iload_n kx kb dX3_join_112 rfl (lv_at hl 0 rfl) ?_
                refine ta_zald C hK hP 2 rfl i (by omega) dX3_join_113 ?_
                refine tz_icmp_eq (tgt := 121) kx kb dX3_join_114 (by decide) (fun h114 => ?_) (fun h114 => ?_)
                · refine lv_iconst (v := iI 0) kx kb dX3_join_121 rfl ?_
                  refine lv_goto (tgt := 148) kx kb dX3_join_122 (by decide) ?_
                  refine W.eq (g2 := F0 m0 148 ls [.int (zI false), .int (iI (i : Int)), .ref b1]) rfl ?_
                  refine ta_zast C hK hP hD hS 1 rfl i (by omega) dX3_join_148 (fun H locs hP hD hS => ?_)
                  have hP : va_P D.1 clAll [(o, .inr (0, [.int (iI 0), .ref b1, .ref b2, .ref b3, .ref b4, .ref b5, .ref b6, .int (iI (w : Int)), .int (iI (g : Int))])), (b1, .inl (D.2 0, 1024, .inl (fun x_ => zI ((va_up k1 i false) x_)))), (b2, .inl (D.2 0, 1024, .inl (fun x_ => zI (st x_)))), (b3, .inl (D.2 0, 1024, .inl (fun x_ => zI (kp x_)))), (b4, .inl (D.2 0, 1024, .inl (fun x_ => zI (go x_)))), (b5, .inl (D.2 1, 1024, .inl (fun x_ => iI (dp x_)))), (b6, .inl (D.2 1, 1024, .inl (fun x_ => iI (pt x_))))] H := hP
                  have hD : va_D A [(o, .inr (0, [.int (iI 0), .ref b1, .ref b2, .ref b3, .ref b4, .ref b5, .ref b6, .int (iI (w : Int)), .int (iI (g : Int))])), (b1, .inl (D.2 0, 1024, .inl (fun x_ => zI ((va_up k1 i false) x_)))), (b2, .inl (D.2 0, 1024, .inl (fun x_ => zI (st x_)))), (b3, .inl (D.2 0, 1024, .inl (fun x_ => zI (kp x_)))), (b4, .inl (D.2 0, 1024, .inl (fun x_ => zI (go x_)))), (b5, .inl (D.2 1, 1024, .inl (fun x_ => iI (dp x_)))), (b6, .inl (D.2 1, 1024, .inl (fun x_ => iI (pt x_))))] := hD
                  refine ti_iinc (a := (i : Int)) (lv' := [(2, .int (iI ((i : Int) + 1))), (0, .ref o), (1, .int (iI y))]) kx kb dX3_join_149 hl (k := 0) rfl (by decide) rfl (fun ls hl => ?_)
                  refine lv_goto (tgt := 23) kx kb dX3_join_152 (by decide) ?_
                  exact ih23 (i + 1) (va_up k1 i false) (by omega) (by (try rw [hki] at h114); rw [← flw_s, ← hk1]; exact congrArg _ (Eq.symm (by simp [jnB, h37, h68, h99, h114]))) (by omega) H locs hP hD hS ls hl
                · refine lv_iconst (v := iI 1) kx kb dX3_join_117 rfl ?_
                  refine lv_goto (tgt := 148) kx kb dX3_join_118 (by decide) ?_
                  refine W.eq (g2 := F0 m0 148 ls [.int (zI true), .int (iI (i : Int)), .ref b1]) rfl ?_
                  refine ta_zast C hK hP hD hS 1 rfl i (by omega) dX3_join_148 (fun H locs hP hD hS => ?_)
                  have hP : va_P D.1 clAll [(o, .inr (0, [.int (iI 0), .ref b1, .ref b2, .ref b3, .ref b4, .ref b5, .ref b6, .int (iI (w : Int)), .int (iI (g : Int))])), (b1, .inl (D.2 0, 1024, .inl (fun x_ => zI ((va_up k1 i true) x_)))), (b2, .inl (D.2 0, 1024, .inl (fun x_ => zI (st x_)))), (b3, .inl (D.2 0, 1024, .inl (fun x_ => zI (kp x_)))), (b4, .inl (D.2 0, 1024, .inl (fun x_ => zI (go x_)))), (b5, .inl (D.2 1, 1024, .inl (fun x_ => iI (dp x_)))), (b6, .inl (D.2 1, 1024, .inl (fun x_ => iI (pt x_))))] H := hP
                  have hD : va_D A [(o, .inr (0, [.int (iI 0), .ref b1, .ref b2, .ref b3, .ref b4, .ref b5, .ref b6, .int (iI (w : Int)), .int (iI (g : Int))])), (b1, .inl (D.2 0, 1024, .inl (fun x_ => zI ((va_up k1 i true) x_)))), (b2, .inl (D.2 0, 1024, .inl (fun x_ => zI (st x_)))), (b3, .inl (D.2 0, 1024, .inl (fun x_ => zI (kp x_)))), (b4, .inl (D.2 0, 1024, .inl (fun x_ => zI (go x_)))), (b5, .inl (D.2 1, 1024, .inl (fun x_ => iI (dp x_)))), (b6, .inl (D.2 1, 1024, .inl (fun x_ => iI (pt x_))))] := hD
                  refine ti_iinc (a := (i : Int)) (lv' := [(2, .int (iI ((i : Int) + 1))), (0, .ref o), (1, .int (iI y))]) kx kb dX3_join_149 hl (k := 0) rfl (by decide) rfl (fun ls hl => ?_)
                  refine lv_goto (tgt := 23) kx kb dX3_join_152 (by decide) ?_
                  exact ih23 (i + 1) (va_up k1 i true) (by omega) (by (try rw [hki] at h114); rw [← flw_s, ← hk1]; exact congrArg _ (Eq.symm (by simp [jnB, h37, h68, h99, h114]))) (by omega) H locs hP hD hS ls hl
            · refine lv_aload_n kx kb dX3_join_71 rfl (lv_at hl 1 rfl) ?_
              refine va_get (D := D.1) (ci := 0) (v := .ref b1) (C := RX3) (T := TX3) (N := 9) kx kb hts in_X3 hown hK hP 0 rfl rfl 1 (by decide) (hts _ q1371) (fun _ h9 => h9) rfl dX3_join_72 ?_
              refine lv_iload_n kx kb dX3_join_75 rfl (lv_at hl 0 rfl) ?_
              refine ta_zald C hK hP 1 rfl i (by omega) dX3_join_76 ?_
              refine tz_if_eq (tgt := 93) kx kb dX3_join_77 (by decide) (fun h77 => ?_) (fun h77 => ?_)
              · refine lv_iconst (v := iI 0) kx kb dX3_join_93 rfl ?_
                refine lv_goto (tgt := 148) kx kb dX3_join_94 (by decide) ?_
                refine W.eq (g2 := F0 m0 148 ls [.int (zI false), .int (iI (i : Int)), .ref b1]) rfl ?_
                refine ta_zast C hK hP hD hS 1 rfl i (by omega) dX3_join_148 (fun H locs hP hD hS => ?_)
                have hP : va_P D.1 clAll [(o, .inr (0, [.int (iI 0), .ref b1, .ref b2, .ref b3, .ref b4, .ref b5, .ref b6, .int (iI (w : Int)), .int (iI (g : Int))])), (b1, .inl (D.2 0, 1024, .inl (fun x_ => zI ((va_up k1 i false) x_)))), (b2, .inl (D.2 0, 1024, .inl (fun x_ => zI (st x_)))), (b3, .inl (D.2 0, 1024, .inl (fun x_ => zI (kp x_)))), (b4, .inl (D.2 0, 1024, .inl (fun x_ => zI (go x_)))), (b5, .inl (D.2 1, 1024, .inl (fun x_ => iI (dp x_)))), (b6, .inl (D.2 1, 1024, .inl (fun x_ => iI (pt x_))))] H := hP
                have hD : va_D A [(o, .inr (0, [.int (iI 0), .ref b1, .ref b2, .ref b3, .ref b4, .ref b5, .ref b6, .int (iI (w : Int)), .int (iI (g : Int))])), (b1, .inl (D.2 0, 1024, .inl (fun x_ => zI ((va_up k1 i false) x_)))), (b2, .inl (D.2 0, 1024, .inl (fun x_ => zI (st x_)))), (b3, .inl (D.2 0, 1024, .inl (fun x_ => zI (kp x_)))), (b4, .inl (D.2 0, 1024, .inl (fun x_ => zI (go x_)))), (b5, .inl (D.2 1, 1024, .inl (fun x_ => iI (dp x_)))), (b6, .inl (D.2 1, 1024, .inl (fun x_ => iI (pt x_))))] := hD
                refine ti_iinc (a := (i : Int)) (lv' := [(2, .int (iI ((i : Int) + 1))), (0, .ref o), (1, .int (iI y))]) kx kb dX3_join_149 hl (k := 0) rfl (by decide) rfl (fun ls hl => ?_)
                refine lv_goto (tgt := 23) kx kb dX3_join_152 (by decide) ?_
                exact ih23 (i + 1) (va_up k1 i false) (by omega) (by (try rw [hki] at h77); rw [← flw_s, ← hk1]; exact congrArg _ (Eq.symm (by simp [jnB, h37, h68, h77]))) (by omega) H locs hP hD hS ls hl
              · refine lv_aload_n kx kb dX3_join_80 rfl (lv_at hl 1 rfl) ?_
                refine va_get (D := D.1) (ci := 0) (v := .ref b2) (C := RX3) (T := TX3) (N := 9) kx kb hts in_X3 hown hK hP 0 rfl rfl 2 (by decide) (hts _ q1372) (fun _ h9 => h9) rfl dX3_join_81 ?_
                refine lv_iload_n kx kb dX3_join_84 rfl (lv_at hl 0 rfl) ?_
                refine ta_zald C hK hP 2 rfl i (by omega) dX3_join_85 ?_
                refine tz_if_eq (tgt := 93) kx kb dX3_join_86 (by decide) (fun h86 => ?_) (fun h86 => ?_)
                · refine lv_iconst (v := iI 0) kx kb dX3_join_93 rfl ?_
                  refine lv_goto (tgt := 148) kx kb dX3_join_94 (by decide) ?_
                  refine W.eq (g2 := F0 m0 148 ls [.int (zI false), .int (iI (i : Int)), .ref b1]) rfl ?_
                  refine ta_zast C hK hP hD hS 1 rfl i (by omega) dX3_join_148 (fun H locs hP hD hS => ?_)
                  have hP : va_P D.1 clAll [(o, .inr (0, [.int (iI 0), .ref b1, .ref b2, .ref b3, .ref b4, .ref b5, .ref b6, .int (iI (w : Int)), .int (iI (g : Int))])), (b1, .inl (D.2 0, 1024, .inl (fun x_ => zI ((va_up k1 i false) x_)))), (b2, .inl (D.2 0, 1024, .inl (fun x_ => zI (st x_)))), (b3, .inl (D.2 0, 1024, .inl (fun x_ => zI (kp x_)))), (b4, .inl (D.2 0, 1024, .inl (fun x_ => zI (go x_)))), (b5, .inl (D.2 1, 1024, .inl (fun x_ => iI (dp x_)))), (b6, .inl (D.2 1, 1024, .inl (fun x_ => iI (pt x_))))] H := hP
                  have hD : va_D A [(o, .inr (0, [.int (iI 0), .ref b1, .ref b2, .ref b3, .ref b4, .ref b5, .ref b6, .int (iI (w : Int)), .int (iI (g : Int))])), (b1, .inl (D.2 0, 1024, .inl (fun x_ => zI ((va_up k1 i false) x_)))), (b2, .inl (D.2 0, 1024, .inl (fun x_ => zI (st x_)))), (b3, .inl (D.2 0, 1024, .inl (fun x_ => zI (kp x_)))), (b4, .inl (D.2 0, 1024, .inl (fun x_ => zI (go x_)))), (b5, .inl (D.2 1, 1024, .inl (fun x_ => iI (dp x_)))), (b6, .inl (D.2 1, 1024, .inl (fun x_ => iI (pt x_))))] := hD
                  refine ti_iinc (a := (i : Int)) (lv' := [(2, .int (iI ((i : Int) + 1))), (0, .ref o), (1, .int (iI y))]) kx kb dX3_join_149 hl (k := 0) rfl (by decide) rfl (fun ls hl => ?_)
                  refine lv_goto (tgt := 23) kx kb dX3_join_152 (by decide) ?_
                  exact ih23 (i + 1) (va_up k1 i false) (by omega) (by (try rw [hki] at h77); (try rw [hki] at h86); rw [← flw_s, ← hk1]; exact congrArg _ (Eq.symm (by simp [jnB, h37, h68, h77, h86]))) (by omega) H locs hP hD hS ls hl
                · refine lv_iconst (v := iI 1) kx kb dX3_join_89 rfl ?_
                  refine lv_goto (tgt := 148) kx kb dX3_join_90 (by decide) ?_
                  refine W.eq (g2 := F0 m0 148 ls [.int (zI true), .int (iI (i : Int)), .ref b1]) rfl ?_
                  refine ta_zast C hK hP hD hS 1 rfl i (by omega) dX3_join_148 (fun H locs hP hD hS => ?_)
                  have hP : va_P D.1 clAll [(o, .inr (0, [.int (iI 0), .ref b1, .ref b2, .ref b3, .ref b4, .ref b5, .ref b6, .int (iI (w : Int)), .int (iI (g : Int))])), (b1, .inl (D.2 0, 1024, .inl (fun x_ => zI ((va_up k1 i true) x_)))), (b2, .inl (D.2 0, 1024, .inl (fun x_ => zI (st x_)))), (b3, .inl (D.2 0, 1024, .inl (fun x_ => zI (kp x_)))), (b4, .inl (D.2 0, 1024, .inl (fun x_ => zI (go x_)))), (b5, .inl (D.2 1, 1024, .inl (fun x_ => iI (dp x_)))), (b6, .inl (D.2 1, 1024, .inl (fun x_ => iI (pt x_))))] H := hP
                  have hD : va_D A [(o, .inr (0, [.int (iI 0), .ref b1, .ref b2, .ref b3, .ref b4, .ref b5, .ref b6, .int (iI (w : Int)), .int (iI (g : Int))])), (b1, .inl (D.2 0, 1024, .inl (fun x_ => zI ((va_up k1 i true) x_)))), (b2, .inl (D.2 0, 1024, .inl (fun x_ => zI (st x_)))), (b3, .inl (D.2 0, 1024, .inl (fun x_ => zI (kp x_)))), (b4, .inl (D.2 0, 1024, .inl (fun x_ => zI (go x_)))), (b5, .inl (D.2 1, 1024, .inl (fun x_ => iI (dp x_)))), (b6, .inl (D.2 1, 1024, .inl (fun x_ => iI (pt x_))))] := hD
                  refine ti_iinc (a := (i : Int)) (lv' := [(2, .int (iI ((i : Int) + 1))), (0, .ref o), (1, .int (iI y))]) kx kb dX3_join_149 hl (k := 0) rfl (by decide) rfl (fun ls hl => ?_)
                  refine lv_goto (tgt := 23) kx kb dX3_join_152 (by decide) ?_
                  exact ih23 (i + 1) (va_up k1 i true) (by omega) (by (try rw [hki] at h77); (try rw [hki] at h86); rw [← flw_s, ← hk1]; exact congrArg _ (Eq.symm (by simp [jnB, h37, h68, h77, h86]))) (by omega) H locs hP hD hS ls hl
          · refine lv_aload_n kx kb dX3_join_40 rfl (lv_at hl 1 rfl) ?_
            refine va_get (D := D.1) (ci := 0) (v := .ref b1) (C := RX3) (T := TX3) (N := 9) kx kb hts in_X3 hown hK hP 0 rfl rfl 1 (by decide) (hts _ q1371) (fun _ h9 => h9) rfl dX3_join_41 ?_
            refine lv_iload_n kx kb dX3_join_44 rfl (lv_at hl 0 rfl) ?_
            refine ta_zald C hK hP 1 rfl i (by omega) dX3_join_45 ?_
            refine tz_if_ne (tgt := 58) kx kb dX3_join_46 (by decide) (fun h46 => ?_) (fun h46 => ?_)
            · refine lv_iconst (v := iI 1) kx kb dX3_join_58 rfl ?_
              refine lv_goto (tgt := 148) kx kb dX3_join_59 (by decide) ?_
              refine W.eq (g2 := F0 m0 148 ls [.int (zI true), .int (iI (i : Int)), .ref b1]) rfl ?_
              refine ta_zast C hK hP hD hS 1 rfl i (by omega) dX3_join_148 (fun H locs hP hD hS => ?_)
              have hP : va_P D.1 clAll [(o, .inr (0, [.int (iI 0), .ref b1, .ref b2, .ref b3, .ref b4, .ref b5, .ref b6, .int (iI (w : Int)), .int (iI (g : Int))])), (b1, .inl (D.2 0, 1024, .inl (fun x_ => zI ((va_up k1 i true) x_)))), (b2, .inl (D.2 0, 1024, .inl (fun x_ => zI (st x_)))), (b3, .inl (D.2 0, 1024, .inl (fun x_ => zI (kp x_)))), (b4, .inl (D.2 0, 1024, .inl (fun x_ => zI (go x_)))), (b5, .inl (D.2 1, 1024, .inl (fun x_ => iI (dp x_)))), (b6, .inl (D.2 1, 1024, .inl (fun x_ => iI (pt x_))))] H := hP
              have hD : va_D A [(o, .inr (0, [.int (iI 0), .ref b1, .ref b2, .ref b3, .ref b4, .ref b5, .ref b6, .int (iI (w : Int)), .int (iI (g : Int))])), (b1, .inl (D.2 0, 1024, .inl (fun x_ => zI ((va_up k1 i true) x_)))), (b2, .inl (D.2 0, 1024, .inl (fun x_ => zI (st x_)))), (b3, .inl (D.2 0, 1024, .inl (fun x_ => zI (kp x_)))), (b4, .inl (D.2 0, 1024, .inl (fun x_ => zI (go x_)))), (b5, .inl (D.2 1, 1024, .inl (fun x_ => iI (dp x_)))), (b6, .inl (D.2 1, 1024, .inl (fun x_ => iI (pt x_))))] := hD
              refine ti_iinc (a := (i : Int)) (lv' := [(2, .int (iI ((i : Int) + 1))), (0, .ref o), (1, .int (iI y))]) kx kb dX3_join_149 hl (k := 0) rfl (by decide) rfl (fun ls hl => ?_)
              refine lv_goto (tgt := 23) kx kb dX3_join_152 (by decide) ?_
              exact ih23 (i + 1) (va_up k1 i true) (by omega) (by (try rw [hki] at h46); rw [← flw_s, ← hk1]; exact congrArg _ (Eq.symm (by simp [jnB, h37, h46]))) (by omega) H locs hP hD hS ls hl
            · refine lv_aload_n kx kb dX3_join_49 rfl (lv_at hl 1 rfl) ?_
              refine va_get (D := D.1) (ci := 0) (v := .ref b2) (C := RX3) (T := TX3) (N := 9) kx kb hts in_X3 hown hK hP 0 rfl rfl 2 (by decide) (hts _ q1372) (fun _ h9 => h9) rfl dX3_join_50 ?_
              refine lv_iload_n kx kb dX3_join_53 rfl (lv_at hl 0 rfl) ?_
              refine ta_zald C hK hP 2 rfl i (by omega) dX3_join_54 ?_
              refine tz_if_eq (tgt := 62) kx kb dX3_join_55 (by decide) (fun h55 => ?_) (fun h55 => ?_)
              · refine lv_iconst (v := iI 0) kx kb dX3_join_62 rfl ?_
                refine lv_goto (tgt := 148) kx kb dX3_join_63 (by decide) ?_
                refine W.eq (g2 := F0 m0 148 ls [.int (zI false), .int (iI (i : Int)), .ref b1]) rfl ?_
                refine ta_zast C hK hP hD hS 1 rfl i (by omega) dX3_join_148 (fun H locs hP hD hS => ?_)
                have hP : va_P D.1 clAll [(o, .inr (0, [.int (iI 0), .ref b1, .ref b2, .ref b3, .ref b4, .ref b5, .ref b6, .int (iI (w : Int)), .int (iI (g : Int))])), (b1, .inl (D.2 0, 1024, .inl (fun x_ => zI ((va_up k1 i false) x_)))), (b2, .inl (D.2 0, 1024, .inl (fun x_ => zI (st x_)))), (b3, .inl (D.2 0, 1024, .inl (fun x_ => zI (kp x_)))), (b4, .inl (D.2 0, 1024, .inl (fun x_ => zI (go x_)))), (b5, .inl (D.2 1, 1024, .inl (fun x_ => iI (dp x_)))), (b6, .inl (D.2 1, 1024, .inl (fun x_ => iI (pt x_))))] H := hP
                have hD : va_D A [(o, .inr (0, [.int (iI 0), .ref b1, .ref b2, .ref b3, .ref b4, .ref b5, .ref b6, .int (iI (w : Int)), .int (iI (g : Int))])), (b1, .inl (D.2 0, 1024, .inl (fun x_ => zI ((va_up k1 i false) x_)))), (b2, .inl (D.2 0, 1024, .inl (fun x_ => zI (st x_)))), (b3, .inl (D.2 0, 1024, .inl (fun x_ => zI (kp x_)))), (b4, .inl (D.2 0, 1024, .inl (fun x_ => zI (go x_)))), (b5, .inl (D.2 1, 1024, .inl (fun x_ => iI (dp x_)))), (b6, .inl (D.2 1, 1024, .inl (fun x_ => iI (pt x_))))] := hD
                refine ti_iinc (a := (i : Int)) (lv' := [(2, .int (iI ((i : Int) + 1))), (0, .ref o), (1, .int (iI y))]) kx kb dX3_join_149 hl (k := 0) rfl (by decide) rfl (fun ls hl => ?_)
                refine lv_goto (tgt := 23) kx kb dX3_join_152 (by decide) ?_
                exact ih23 (i + 1) (va_up k1 i false) (by omega) (by (try rw [hki] at h46); (try rw [hki] at h55); rw [← flw_s, ← hk1]; exact congrArg _ (Eq.symm (by simp [jnB, h37, h46, h55]))) (by omega) H locs hP hD hS ls hl
              · refine lv_iconst (v := iI 1) kx kb dX3_join_58 rfl ?_
                refine lv_goto (tgt := 148) kx kb dX3_join_59 (by decide) ?_
                refine W.eq (g2 := F0 m0 148 ls [.int (zI true), .int (iI (i : Int)), .ref b1]) rfl ?_
                refine ta_zast C hK hP hD hS 1 rfl i (by omega) dX3_join_148 (fun H locs hP hD hS => ?_)
                have hP : va_P D.1 clAll [(o, .inr (0, [.int (iI 0), .ref b1, .ref b2, .ref b3, .ref b4, .ref b5, .ref b6, .int (iI (w : Int)), .int (iI (g : Int))])), (b1, .inl (D.2 0, 1024, .inl (fun x_ => zI ((va_up k1 i true) x_)))), (b2, .inl (D.2 0, 1024, .inl (fun x_ => zI (st x_)))), (b3, .inl (D.2 0, 1024, .inl (fun x_ => zI (kp x_)))), (b4, .inl (D.2 0, 1024, .inl (fun x_ => zI (go x_)))), (b5, .inl (D.2 1, 1024, .inl (fun x_ => iI (dp x_)))), (b6, .inl (D.2 1, 1024, .inl (fun x_ => iI (pt x_))))] H := hP
                have hD : va_D A [(o, .inr (0, [.int (iI 0), .ref b1, .ref b2, .ref b3, .ref b4, .ref b5, .ref b6, .int (iI (w : Int)), .int (iI (g : Int))])), (b1, .inl (D.2 0, 1024, .inl (fun x_ => zI ((va_up k1 i true) x_)))), (b2, .inl (D.2 0, 1024, .inl (fun x_ => zI (st x_)))), (b3, .inl (D.2 0, 1024, .inl (fun x_ => zI (kp x_)))), (b4, .inl (D.2 0, 1024, .inl (fun x_ => zI (go x_)))), (b5, .inl (D.2 1, 1024, .inl (fun x_ => iI (dp x_)))), (b6, .inl (D.2 1, 1024, .inl (fun x_ => iI (pt x_))))] := hD
                refine ti_iinc (a := (i : Int)) (lv' := [(2, .int (iI ((i : Int) + 1))), (0, .ref o), (1, .int (iI y))]) kx kb dX3_join_149 hl (k := 0) rfl (by decide) rfl (fun ls hl => ?_)
                refine lv_goto (tgt := 23) kx kb dX3_join_152 (by decide) ?_
                exact ih23 (i + 1) (va_up k1 i true) (by omega) (by (try rw [hki] at h46); (try rw [hki] at h55); rw [← flw_s, ← hk1]; exact congrArg _ (Eq.symm (by simp [jnB, h37, h46, h55]))) (by omega) H locs hP hD hS ls hl
    exact cut23 ((w * g - 0) + 1) 0 ik (by omega) (by rw [flw_0]) (Nat.lt_succ_self _) H locs hP hD hS ls hl
  · simp only [decide_eq_false_iff_not] at h16; omega
set_option maxHeartbeats 4000000 in
set_option maxRecDepth 100000 in
theorem met_X3_join_no (l : Launch) (D : TG) (E : TE) (o : Nat) (b1 : Nat) (b2 : Nat) (b3 : Nat) (b4 : Nat) (b5 : Nat) (b6 : Nat) (thr : Int) (w : Nat) (g : Nat) (ik : Nat → Bool) (st : Nat → Bool) (kp : Nat → Bool) (go : Nat → Bool) (dp : Nat → Int) (pt : Nat → Int) (y : Int) (hw : 1 ≤ w ∧ w ≤ 32) (hg : 1 ≤ g ∧ g ≤ 32) (ry : -2147483648 ≤ y ∧ y < 2147483648) (hv : ¬ (0 ≤ y ∧ y ≤ 3)) : tMet l yX3_join cX3_join 3 (some .int) 2 42 (0) (0) [.ref o, .int (iI y)] D E [(o, .inr (0, [.int (iI thr), .ref b1, .ref b2, .ref b3, .ref b4, .ref b5, .ref b6, .int (iI (w : Int)), .int (iI (g : Int))])), (b1, .inl (D.2 0, 1024, .inl (fun x_ => zI (ik x_)))), (b2, .inl (D.2 0, 1024, .inl (fun x_ => zI (st x_)))), (b3, .inl (D.2 0, 1024, .inl (fun x_ => zI (kp x_)))), (b4, .inl (D.2 0, 1024, .inl (fun x_ => zI (go x_)))), (b5, .inl (D.2 1, 1024, .inl (fun x_ => iI (dp x_)))), (b6, .inl (D.2 1, 1024, .inl (fun x_ => iI (pt x_))))] tY0 (S := Unit) (fun u_ => True) (fun u_ => some (.int (iI 0))) (fun u_ => [(o, .inr (0, [.int (iI 1), .ref b1, .ref b2, .ref b3, .ref b4, .ref b5, .ref b6, .int (iI (w : Int)), .int (iI (g : Int))])), (b1, .inl (D.2 0, 1024, .inl (fun x_ => zI (ik x_)))), (b2, .inl (D.2 0, 1024, .inl (fun x_ => zI (st x_)))), (b3, .inl (D.2 0, 1024, .inl (fun x_ => zI (kp x_)))), (b4, .inl (D.2 0, 1024, .inl (fun x_ => zI (go x_)))), (b5, .inl (D.2 1, 1024, .inl (fun x_ => iI (dp x_)))), (b6, .inl (D.2 1, 1024, .inl (fun x_ => iI (pt x_))))]) := by
  refine tu_met (by decide +kernel) (Nat.le_of_ble_eq_true rfl) ?_
  intro p0 e0 s0 m0 below meth c0 A ls args Q hag hQ C hK hX hY hP hD hA hAe hl
  obtain ⟨kx, kb, hml, hown, hts, -⟩ := id C
  have hS : va_S A s0.heap s0.heap [] := va_S.rf
  have hl : lv_has ls 3 [(0, .ref o), (1, .int (iI y))] := hl
  have hwg := wg_le hw hg
  refine lv_aload_n kx kb dX3_join_0 rfl (lv_at hl 0 rfl) ?_
  refine lv_iconst (v := iI 0) kx kb dX3_join_1 rfl ?_
  refine va_put (D := D.1) (ci := 0) (v := .int (iI 0)) (ty := .int) (C := RX3) (T := TX3) (N := 9) kx kb hts in_X3 tyX3 tyX3_ok nmX3 hown hK hP hD hS 0 rfl rfl 0 (by decide) (hts _ q1370) (fun _ h9 => h9) rfl (by decide +kernel) rfl rfl (Nat.le_of_ble_eq_true rfl) dX3_join_2 (fun H locs hP hD hS => ?_)
  have hP : va_P D.1 clAll [(o, .inr (0, [.int (iI 0), .ref b1, .ref b2, .ref b3, .ref b4, .ref b5, .ref b6, .int (iI (w : Int)), .int (iI (g : Int))])), (b1, .inl (D.2 0, 1024, .inl (fun x_ => zI (ik x_)))), (b2, .inl (D.2 0, 1024, .inl (fun x_ => zI (st x_)))), (b3, .inl (D.2 0, 1024, .inl (fun x_ => zI (kp x_)))), (b4, .inl (D.2 0, 1024, .inl (fun x_ => zI (go x_)))), (b5, .inl (D.2 1, 1024, .inl (fun x_ => iI (dp x_)))), (b6, .inl (D.2 1, 1024, .inl (fun x_ => iI (pt x_))))] H := hP
  have hD : va_D A [(o, .inr (0, [.int (iI 0), .ref b1, .ref b2, .ref b3, .ref b4, .ref b5, .ref b6, .int (iI (w : Int)), .int (iI (g : Int))])), (b1, .inl (D.2 0, 1024, .inl (fun x_ => zI (ik x_)))), (b2, .inl (D.2 0, 1024, .inl (fun x_ => zI (st x_)))), (b3, .inl (D.2 0, 1024, .inl (fun x_ => zI (kp x_)))), (b4, .inl (D.2 0, 1024, .inl (fun x_ => zI (go x_)))), (b5, .inl (D.2 1, 1024, .inl (fun x_ => iI (dp x_)))), (b6, .inl (D.2 1, 1024, .inl (fun x_ => iI (pt x_))))] := hD
  refine lv_aload_n kx kb dX3_join_5 rfl (lv_at hl 0 rfl) ?_
  refine lv_iload_n kx kb dX3_join_6 rfl (lv_at hl 1 rfl) ?_
  refine lv_iconst (v := iI 0) kx kb dX3_join_7 rfl ?_
  refine lv_iconst (v := iI 3) kx kb dX3_join_8 rfl ?_
  refine t_callRS C (met_X3_isIn l D E y 0 3 (by first | assumption | omega)) (va_cwS 3 hts (lw_S q1407 q1408 q62 q1409) rfl rfl rfl (by decide +kernel) ⟨Nat.le_of_ble_eq_true rfl, Nat.le_of_ble_eq_true rfl⟩) hK hX hP hD hS hA [] rfl (by decide) tYb_0 (fun _ _ _ => trivial) rfl hl.1 rfl (Nat.le_of_ble_eq_true rfl) dX3_join_9 ⟨(show 0 ≤ 0 from by omega), (show 0 ≤ 0 from by omega)⟩ ?_
  refine W.eq (g2 := F0 m0 12 ls [.int (zI (decide (0 ≤ y ∧ y ≤ 3))), .ref o]) rfl ?_
  refine lv_iconst (v := iI 1) kx kb dX3_join_12 rfl ?_
  refine t_callV (wr := []) C (met_X3_right l D E o b1 b2 b3 b4 b5 b6 w g ik st kp go dp pt (decide (0 ≤ y ∧ y ≤ 3)) 1 (by first | assumption | omega) (by first | assumption | omega) (by first | assumption | omega)) (cwV 2 hts (lw_V q1410 q1412 qs24 q62 q1413) rfl rfl rfl (by decide +kernel) ⟨Nat.le_of_ble_eq_true rfl, Nat.le_of_ble_eq_true rfl⟩) (va_recv hK hP (ci := 0) (q0 := 0) rfl rfl) hK hX hP hD hS hA [0, 1, 2, 3, 4, 5, 6] [] rfl rfl (by decide) (by decide) (by decide) tYb_0 (fun _ _ _ => trivial) rfl hl.1 rfl (Nat.le_of_ble_eq_true rfl) dX3_join_13 ⟨(show 0 ≤ 0 from by omega), (show 0 ≤ 0 from by omega)⟩ (fun u_ H locs hp hP hD hS => ?_)
  obtain ⟨t2_1, rfl⟩ : ∃ z, z = u_ := ⟨_, rfl⟩
  have hc13_1 : t2_1 = if (decide (0 ≤ y ∧ y ≤ 3)) then 0 else 1 := hp
  subst hc13_1
  have hP : va_P D.1 clAll [(o, .inr (0, [.int (iI (if (decide (0 ≤ y ∧ y ≤ 3)) then 0 else 1)), .ref b1, .ref b2, .ref b3, .ref b4, .ref b5, .ref b6, .int (iI (w : Int)), .int (iI (g : Int))])), (b1, .inl (D.2 0, 1024, .inl (fun x_ => zI (ik x_)))), (b2, .inl (D.2 0, 1024, .inl (fun x_ => zI (st x_)))), (b3, .inl (D.2 0, 1024, .inl (fun x_ => zI (kp x_)))), (b4, .inl (D.2 0, 1024, .inl (fun x_ => zI (go x_)))), (b5, .inl (D.2 1, 1024, .inl (fun x_ => iI (dp x_)))), (b6, .inl (D.2 1, 1024, .inl (fun x_ => iI (pt x_))))] H := hP
  have hD : va_D A [(o, .inr (0, [.int (iI (if (decide (0 ≤ y ∧ y ≤ 3)) then 0 else 1)), .ref b1, .ref b2, .ref b3, .ref b4, .ref b5, .ref b6, .int (iI (w : Int)), .int (iI (g : Int))])), (b1, .inl (D.2 0, 1024, .inl (fun x_ => zI (ik x_)))), (b2, .inl (D.2 0, 1024, .inl (fun x_ => zI (st x_)))), (b3, .inl (D.2 0, 1024, .inl (fun x_ => zI (kp x_)))), (b4, .inl (D.2 0, 1024, .inl (fun x_ => zI (go x_)))), (b5, .inl (D.2 1, 1024, .inl (fun x_ => iI (dp x_)))), (b6, .inl (D.2 1, 1024, .inl (fun x_ => iI (pt x_))))] := hD
  refine W.eq (g2 := F0 m0 16 ls [.int (zI (decide (0 ≤ y ∧ y ≤ 3)))]) rfl ?_
  refine tz_if_ne (tgt := 21) kx kb dX3_join_16 (by decide) (fun h16 => ?_) (fun h16 => ?_)
  · simp only [decide_eq_true_eq] at h16; omega
  · simp only [decide_eq_true_eq, decide_eq_false_iff_not] at h16
    rw [show ((if (decide (0 ≤ y ∧ y ≤ 3)) then 0 else 1)) = (1 : Int) from by simp [h16]] at hP hD
    have hP : va_P D.1 clAll [(o, .inr (0, [.int (iI 1), .ref b1, .ref b2, .ref b3, .ref b4, .ref b5, .ref b6, .int (iI (w : Int)), .int (iI (g : Int))])), (b1, .inl (D.2 0, 1024, .inl (fun x_ => zI (ik x_)))), (b2, .inl (D.2 0, 1024, .inl (fun x_ => zI (st x_)))), (b3, .inl (D.2 0, 1024, .inl (fun x_ => zI (kp x_)))), (b4, .inl (D.2 0, 1024, .inl (fun x_ => zI (go x_)))), (b5, .inl (D.2 1, 1024, .inl (fun x_ => iI (dp x_)))), (b6, .inl (D.2 1, 1024, .inl (fun x_ => iI (pt x_))))] H := hP
    have hD : va_D A [(o, .inr (0, [.int (iI 1), .ref b1, .ref b2, .ref b3, .ref b4, .ref b5, .ref b6, .int (iI (w : Int)), .int (iI (g : Int))])), (b1, .inl (D.2 0, 1024, .inl (fun x_ => zI (ik x_)))), (b2, .inl (D.2 0, 1024, .inl (fun x_ => zI (st x_)))), (b3, .inl (D.2 0, 1024, .inl (fun x_ => zI (kp x_)))), (b4, .inl (D.2 0, 1024, .inl (fun x_ => zI (go x_)))), (b5, .inl (D.2 1, 1024, .inl (fun x_ => iI (dp x_)))), (b6, .inl (D.2 1, 1024, .inl (fun x_ => iI (pt x_))))] := hD
    refine lv_iconst (v := iI 0) kx kb dX3_join_19 rfl ?_
    subst hQ
    exact tm_iret C () trivial hP hD hS (show 0 ≤ 0 from by omega) (show 0 ≤ 0 from by omega) rfl rfl dX3_join_20
set_option maxHeartbeats 4000000 in
set_option maxRecDepth 100000 in
theorem met_X3_sizeOf (l : Launch) (D : TG) (E : TE) (o : Nat) (b1 : Nat) (b2 : Nat) (b3 : Nat) (b4 : Nat) (b5 : Nat) (b6 : Nat) (thr : Int) (w : Nat) (g : Nat) (ik : Nat → Bool) (st : Nat → Bool) (kp : Nat → Bool) (go : Nat → Bool) (dp : Nat → Int) (pt : Nat → Int) (v : Int) (hw : 1 ≤ w ∧ w ≤ 32) (hg : 1 ≤ g ∧ g ≤ 32) (rv : -2147483648 ≤ v ∧ v < 2147483648) (hpt : ∀ j, j < w * g → -2 < pt j ∧ pt j < 2000) : tRd l yX3_sizeOf cX3_sizeOf 4 (some .int) 1 20 [.ref o, .int (iI v)] D E [(o, .inr (0, [.int (iI thr), .ref b1, .ref b2, .ref b3, .ref b4, .ref b5, .ref b6, .int (iI (w : Int)), .int (iI (g : Int))])), (b1, .inl (D.2 0, 1024, .inl (fun x_ => zI (ik x_)))), (b2, .inl (D.2 0, 1024, .inl (fun x_ => zI (st x_)))), (b3, .inl (D.2 0, 1024, .inl (fun x_ => zI (kp x_)))), (b4, .inl (D.2 0, 1024, .inl (fun x_ => zI (go x_)))), (b5, .inl (D.2 1, 1024, .inl (fun x_ => iI (dp x_)))), (b6, .inl (D.2 1, 1024, .inl (fun x_ => iI (pt x_))))] tY0 (some (.int (iI ((fb_ct (fun j => decide (pt j = v)) (w * g) : Nat) : Int)))) := by
  refine tu_rd (by decide +kernel) (Nat.le_of_ble_eq_true rfl) ?_
  intro p0 e0 s0 m0 below meth c0 A ls args Q hag hQ C hK hX hY hP hD hA hAe hl
  obtain ⟨kx, kb, hml, hown, hts, -⟩ := id C
  have hS : va_S A s0.heap s0.heap [] := va_S.rf
  have hl : lv_has ls 4 [(0, .ref o), (1, .int (iI v))] := hl
  have hwg := wg_le hw hg
  refine lv_iconst (v := iI 0) kx kb dX3_sizeOf_0 rfl ?_
  refine lv_istore_n (lv' := [(2, .int (iI 0)), (0, .ref o), (1, .int (iI v))]) kx kb dX3_sizeOf_1 rfl hl (by decide) rfl (fun ls hl => ?_)
  refine lv_iconst (v := iI 0) kx kb dX3_sizeOf_2 rfl ?_
  refine lv_istore_n (lv' := [(3, .int (iI 0)), (2, .int (iI 0)), (0, .ref o), (1, .int (iI v))]) kx kb dX3_sizeOf_3 rfl hl (by decide) rfl (fun ls hl => ?_)
  have cut4 : ∀ (fuel : Nat) (i : Nat) (n : Int), (i ≤ w * g) → (n = ((fb_ct (fun j => decide (pt j = v)) i : Nat) : Int)) → (w * g - i) < fuel → ∀ ls : Array Slot, lv_has ls 4 [(3, .int (iI (i : Int))), (2, .int (iI n)), (0, .ref o), (1, .int (iI v))] → W p0 l e0 ({ frames := 1, cells := 0, slots := 0, locals := 20 } : Room) s0 m0 args below meth c0 s0.heap [] (0) (0) Q (F0 m0 4 ls []) := by
    intro fuel
    induction fuel with
    | zero =>
      intro i n hi hn hfuel4
      exact absurd hfuel4 (Nat.not_lt_zero _)
    | succ fuel ih4 =>
      intro i n hi hn hfuel4  ls hl
      refine lv_iload_n kx kb dX3_sizeOf_4 rfl (lv_at hl 0 rfl) ?_
      refine lv_aload_n kx kb dX3_sizeOf_5 rfl (lv_at hl 2 rfl) ?_
      refine t_callRV C (met_X3_cells l D E o b1 b2 b3 b4 b5 b6 thr w g ik st kp go dp pt (by first | assumption | omega) (by first | assumption | omega)) (cwV 0 hts (lw_V q1467 q1469 qs33 q62 q1470) rfl rfl rfl (by decide +kernel) ⟨Nat.le_of_ble_eq_true rfl, Nat.le_of_ble_eq_true rfl⟩) (va_recv hK hP (ci := 0) (q0 := 0) rfl rfl) hK hX hP hD hS hA [0, 1, 2, 3, 4, 5, 6] rfl (by decide) tYb_0 (fun _ _ _ => trivial) rfl hl.1 rfl (Nat.le_of_ble_eq_true rfl) dX3_sizeOf_6 ⟨(show 0 ≤ 0 from by omega), (show 0 ≤ 0 from by omega)⟩ ?_
      refine W.eq (g2 := F0 m0 9 ls [.int (iI ((w * g : Nat) : Int)), .int (iI (i : Int))]) rfl ?_
      refine ti_icmp_ge (tgt := 36) kx kb (by omega) dX3_sizeOf_9 (by decide) (fun h9 => ?_) (fun h9 => ?_)
      · refine lv_iload_n kx kb dX3_sizeOf_36 rfl (lv_at hl 1 rfl) ?_
        subst hQ
        exact tr_iret C rfl (by rw [hn, show i = w * g from by omega]) dX3_sizeOf_37
      · refine lv_iload_n kx kb dX3_sizeOf_12 rfl (lv_at hl 1 rfl) ?_
        refine lv_aload_n kx kb dX3_sizeOf_13 rfl (lv_at hl 2 rfl) ?_
        refine va_get (D := D.1) (ci := 0) (v := .ref b6) (C := RX3) (T := TX3) (N := 9) kx kb hts in_X3 hown hK hP 0 rfl rfl 6 (by decide) (hts _ q1376) (fun _ h9 => h9) rfl dX3_sizeOf_14 ?_
        refine lv_iload_n kx kb dX3_sizeOf_17 rfl (lv_at hl 0 rfl) ?_
        have hpi := hpt i (by omega)
        refine ta_iald C hK hP 6 rfl i (by omega) dX3_sizeOf_18 ?_
        refine lv_iload_n kx kb dX3_sizeOf_19 rfl (lv_at hl 3 rfl) ?_
        refine ti_icmp_ne (tgt := 27) kx kb (by omega) dX3_sizeOf_20 (by decide) (fun h20 => ?_) (fun h20 => ?_)
        · refine lv_iconst (v := iI 0) kx kb dX3_sizeOf_27 rfl ?_
          refine ti_iadd kx kb dX3_sizeOf_28 ?_
          refine lv_istore_n (lv' := [(2, .int (iI (n + 0))), (3, .int (iI (i : Int))), (0, .ref o), (1, .int (iI v))]) kx kb dX3_sizeOf_29 rfl hl (by decide) rfl (fun ls hl => ?_)
          refine ti_iinc (a := (i : Int)) (lv' := [(3, .int (iI ((i : Int) + 1))), (2, .int (iI (n + 0))), (0, .ref o), (1, .int (iI v))]) kx kb dX3_sizeOf_30 hl (k := 1) rfl (by decide) rfl (fun ls hl => ?_)
          refine lv_goto (tgt := 4) kx kb dX3_sizeOf_33 (by decide) ?_
          exact ih4 (i + 1) (n + 0) (by omega) (by simp [fb_ct_succ, h20, hn]) (by omega) ls hl
        · refine lv_iconst (v := iI 1) kx kb dX3_sizeOf_23 rfl ?_
          refine lv_goto (tgt := 28) kx kb dX3_sizeOf_24 (by decide) ?_
          refine ti_iadd kx kb dX3_sizeOf_28 ?_
          refine lv_istore_n (lv' := [(2, .int (iI (n + 1))), (3, .int (iI (i : Int))), (0, .ref o), (1, .int (iI v))]) kx kb dX3_sizeOf_29 rfl hl (by decide) rfl (fun ls hl => ?_)
          refine ti_iinc (a := (i : Int)) (lv' := [(3, .int (iI ((i : Int) + 1))), (2, .int (iI (n + 1))), (0, .ref o), (1, .int (iI v))]) kx kb dX3_sizeOf_30 hl (k := 1) rfl (by decide) rfl (fun ls hl => ?_)
          refine lv_goto (tgt := 4) kx kb dX3_sizeOf_33 (by decide) ?_
          exact ih4 (i + 1) (n + 1) (by omega) (by simp [fb_ct_succ, h20, hn]) (by omega) ls hl
  exact cut4 ((w * g - 0) + 1) 0 0 (by omega) (by rfl) (Nat.lt_succ_self _) ls hl
set_option maxHeartbeats 4000000 in
set_option maxRecDepth 100000 in
theorem met_X3_isFirst (l : Launch) (D : TG) (E : TE) (o : Nat) (b1 : Nat) (b2 : Nat) (b3 : Nat) (b4 : Nat) (b5 : Nat) (b6 : Nat) (thr : Int) (w : Nat) (g : Nat) (ik : Nat → Bool) (st : Nat → Bool) (kp : Nat → Bool) (go : Nat → Bool) (dp : Nat → Int) (pt : Nat → Int) (x : Int) (y : Int) (hw : 1 ≤ w ∧ w ≤ 32) (hg : 1 ≤ g ∧ g ≤ 32) (rx : -2147483648 ≤ x ∧ x < 2147483648) (ry : -2147483648 ≤ y ∧ y < 2147483648) (hx0 : -1000 < x) : tRd l yX3_isFirst cX3_isFirst 3 (some .boolean) 3 66 [.ref o, .int (iI x), .int (iI y)] D E [(o, .inr (0, [.int (iI thr), .ref b1, .ref b2, .ref b3, .ref b4, .ref b5, .ref b6, .int (iI (w : Int)), .int (iI (g : Int))])), (b1, .inl (D.2 0, 1024, .inl (fun x_ => zI (ik x_)))), (b2, .inl (D.2 0, 1024, .inl (fun x_ => zI (st x_)))), (b3, .inl (D.2 0, 1024, .inl (fun x_ => zI (kp x_)))), (b4, .inl (D.2 0, 1024, .inl (fun x_ => zI (go x_)))), (b5, .inl (D.2 1, 1024, .inl (fun x_ => iI (dp x_)))), (b6, .inl (D.2 1, 1024, .inl (fun x_ => iI (pt x_))))] tY0 (some (.int (zI (isF w g ik x y)))) := by
  refine tu_rd (by decide +kernel) (Nat.le_of_ble_eq_true rfl) ?_
  intro p0 e0 s0 m0 below meth c0 A ls args Q hag hQ C hK hX hY hP hD hA hAe hl
  obtain ⟨kx, kb, hml, hown, hts, -⟩ := id C
  have hS : va_S A s0.heap s0.heap [] := va_S.rf
  have hl : lv_has ls 3 [(0, .ref o), (1, .int (iI x)), (2, .int (iI y))] := hl
  have hwg := wg_le hw hg
  refine lv_aload_n kx kb dX3_isFirst_0 rfl (lv_at hl 0 rfl) ?_
  refine lv_iload_n kx kb dX3_isFirst_1 rfl (lv_at hl 1 rfl) ?_
  refine lv_iload_n kx kb dX3_isFirst_2 rfl (lv_at hl 2 rfl) ?_
  refine t_callRV C (met_X3_isInk l D E o b1 b2 b3 b4 b5 b6 thr w g ik st kp go dp pt x y (by first | assumption | omega) (by first | assumption | omega) (by first | assumption | omega) (by first | assumption | omega)) (cwV 2 hts (lw_V q1459 q1461 qs31 q62 q1462) rfl rfl rfl (by decide +kernel) ⟨Nat.le_of_ble_eq_true rfl, Nat.le_of_ble_eq_true rfl⟩) (va_recv hK hP (ci := 0) (q0 := 0) rfl rfl) hK hX hP hD hS hA [0, 1, 2, 3, 4, 5, 6] rfl (by decide) tYb_0 (fun _ _ _ => trivial) rfl hl.1 rfl (Nat.le_of_ble_eq_true rfl) dX3_isFirst_3 ⟨(show 0 ≤ 0 from by omega), (show 0 ≤ 0 from by omega)⟩ ?_
  refine W.eq (g2 := F0 m0 6 ls [.int (zI (isK w g ik x y))]) rfl ?_
  refine tz_if_eq (tgt := 24) kx kb dX3_isFirst_6 (by decide) (fun h6 => ?_) (fun h6 => ?_)
  · refine lv_iconst (v := iI 0) kx kb dX3_isFirst_24 rfl ?_
    refine W.eq (g2 := F0 m0 25 ls [.int (zI false)]) rfl ?_
    subst hQ
    exact tr_zret C rfl (by first | (simp [isF, h6]; done) | (simp [] at h6; done)) dX3_isFirst_25
  · refine lv_aload_n kx kb dX3_isFirst_9 rfl (lv_at hl 0 rfl) ?_
    refine lv_iload_n kx kb dX3_isFirst_10 rfl (lv_at hl 1 rfl) ?_
    refine lv_iconst (v := iI 1) kx kb dX3_isFirst_11 rfl ?_
    refine ti_isub kx kb dX3_isFirst_12 ?_
    refine lv_iload_n kx kb dX3_isFirst_13 rfl (lv_at hl 2 rfl) ?_
    refine t_callRV C (met_X3_isInk l D E o b1 b2 b3 b4 b5 b6 thr w g ik st kp go dp pt (x - 1) y (by first | assumption | omega) (by first | assumption | omega) (by first | assumption | omega) (by first | assumption | omega)) (cwV 2 hts (lw_V q1459 q1461 qs31 q62 q1462) rfl rfl rfl (by decide +kernel) ⟨Nat.le_of_ble_eq_true rfl, Nat.le_of_ble_eq_true rfl⟩) (va_recv hK hP (ci := 0) (q0 := 0) rfl rfl) hK hX hP hD hS hA [0, 1, 2, 3, 4, 5, 6] rfl (by decide) tYb_0 (fun _ _ _ => trivial) rfl hl.1 rfl (Nat.le_of_ble_eq_true rfl) dX3_isFirst_14 ⟨(show 0 ≤ 0 from by omega), (show 0 ≤ 0 from by omega)⟩ ?_
    refine W.eq (g2 := F0 m0 17 ls [.int (zI (isK w g ik (x - 1) y))]) rfl ?_
    refine tz_if_ne (tgt := 24) kx kb dX3_isFirst_17 (by decide) (fun h17 => ?_) (fun h17 => ?_)
    · refine lv_iconst (v := iI 0) kx kb dX3_isFirst_24 rfl ?_
      refine W.eq (g2 := F0 m0 25 ls [.int (zI false)]) rfl ?_
      subst hQ
      exact tr_zret C rfl (by first | (simp [isF, h6, h17]; done) | (simp [h6] at h17; done) | (simp [h17] at h6; done)) dX3_isFirst_25
    · refine lv_iconst (v := iI 1) kx kb dX3_isFirst_20 rfl ?_
      refine lv_goto (tgt := 25) kx kb dX3_isFirst_21 (by decide) ?_
      refine W.eq (g2 := F0 m0 25 ls [.int (zI true)]) rfl ?_
      subst hQ
      exact tr_zret C rfl (by first | (simp [isF, h6, h17]; done) | (simp [h6] at h17; done) | (simp [h17] at h6; done)) dX3_isFirst_25
set_option maxHeartbeats 4000000 in
set_option maxRecDepth 100000 in
theorem met_X3_runsOf (l : Launch) (D : TG) (E : TE) (o : Nat) (b1 : Nat) (b2 : Nat) (b3 : Nat) (b4 : Nat) (b5 : Nat) (b6 : Nat) (thr : Int) (w : Nat) (g : Nat) (ik : Nat → Bool) (st : Nat → Bool) (kp : Nat → Bool) (go : Nat → Bool) (dp : Nat → Int) (pt : Nat → Int) (y : Int) (hw : 1 ≤ w ∧ w ≤ 32) (hg : 1 ≤ g ∧ g ≤ 32) (ry : -2147483648 ≤ y ∧ y < 2147483648) : tRd l yX3_runsOf cX3_runsOf 4 (some .int) 4 88 [.ref o, .int (iI y)] D E [(o, .inr (0, [.int (iI thr), .ref b1, .ref b2, .ref b3, .ref b4, .ref b5, .ref b6, .int (iI (w : Int)), .int (iI (g : Int))])), (b1, .inl (D.2 0, 1024, .inl (fun x_ => zI (ik x_)))), (b2, .inl (D.2 0, 1024, .inl (fun x_ => zI (st x_)))), (b3, .inl (D.2 0, 1024, .inl (fun x_ => zI (kp x_)))), (b4, .inl (D.2 0, 1024, .inl (fun x_ => zI (go x_)))), (b5, .inl (D.2 1, 1024, .inl (fun x_ => iI (dp x_)))), (b6, .inl (D.2 1, 1024, .inl (fun x_ => iI (pt x_))))] tY0 (some (.int (iI ((rnO w g ik y : Nat) : Int)))) := by
  refine tu_rd (by decide +kernel) (Nat.le_of_ble_eq_true rfl) ?_
  intro p0 e0 s0 m0 below meth c0 A ls args Q hag hQ C hK hX hY hP hD hA hAe hl
  obtain ⟨kx, kb, hml, hown, hts, -⟩ := id C
  have hS : va_S A s0.heap s0.heap [] := va_S.rf
  have hl : lv_has ls 4 [(0, .ref o), (1, .int (iI y))] := hl
  have hwg := wg_le hw hg
  refine lv_iconst (v := iI 0) kx kb dX3_runsOf_0 rfl ?_
  refine lv_istore_n (lv' := [(2, .int (iI 0)), (0, .ref o), (1, .int (iI y))]) kx kb dX3_runsOf_1 rfl hl (by decide) rfl (fun ls hl => ?_)
  refine lv_iconst (v := iI 0) kx kb dX3_runsOf_2 rfl ?_
  refine lv_istore_n (lv' := [(3, .int (iI 0)), (2, .int (iI 0)), (0, .ref o), (1, .int (iI y))]) kx kb dX3_runsOf_3 rfl hl (by decide) rfl (fun ls hl => ?_)
  have cut4 : ∀ (fuel : Nat) (i : Nat) (n : Int), (i ≤ w) → (n = ((fb_ct (fun x => isF w g ik (x : Int) y) i : Nat) : Int)) → (w - i) < fuel → ∀ ls : Array Slot, lv_has ls 4 [(3, .int (iI (i : Int))), (2, .int (iI n)), (0, .ref o), (1, .int (iI y))] → W p0 l e0 ({ frames := 4, cells := 0, slots := 0, locals := 88 } : Room) s0 m0 args below meth c0 s0.heap [] (0) (0) Q (F0 m0 4 ls []) := by
    intro fuel
    induction fuel with
    | zero =>
      intro i n hi hn hfuel4
      exact absurd hfuel4 (Nat.not_lt_zero _)
    | succ fuel ih4 =>
      intro i n hi hn hfuel4  ls hl
      refine lv_iload_n kx kb dX3_runsOf_4 rfl (lv_at hl 0 rfl) ?_
      refine lv_aload_n kx kb dX3_runsOf_5 rfl (lv_at hl 2 rfl) ?_
      refine va_get (D := D.1) (ci := 0) (v := .int (iI (w : Int))) (C := RX3) (T := TX3) (N := 9) kx kb hts in_X3 hown hK hP 0 rfl rfl 7 (by decide) (hts _ q1377) (fun _ h9 => h9) rfl dX3_runsOf_6 ?_
      refine ti_icmp_ge (tgt := 35) kx kb (by omega) dX3_runsOf_9 (by decide) (fun h9 => ?_) (fun h9 => ?_)
      · refine lv_iload_n kx kb dX3_runsOf_35 rfl (lv_at hl 1 rfl) ?_
        subst hQ
        exact tr_iret C rfl (by rw [hn, show i = w from by omega]; rfl) dX3_runsOf_36
      · refine lv_iload_n kx kb dX3_runsOf_12 rfl (lv_at hl 1 rfl) ?_
        refine lv_aload_n kx kb dX3_runsOf_13 rfl (lv_at hl 2 rfl) ?_
        refine lv_iload_n kx kb dX3_runsOf_14 rfl (lv_at hl 0 rfl) ?_
        refine lv_iload_n kx kb dX3_runsOf_15 rfl (lv_at hl 3 rfl) ?_
        refine t_callRV C (met_X3_isFirst l D E o b1 b2 b3 b4 b5 b6 thr w g ik st kp go dp pt (i : Int) y (by first | assumption | omega) (by first | assumption | omega) (by first | assumption | omega) (by first | assumption | omega) (by first | assumption | omega)) (cwV 2 hts (lw_V q1578 q1580 qs47 q62 q1581) rfl rfl rfl (by decide +kernel) ⟨Nat.le_of_ble_eq_true rfl, Nat.le_of_ble_eq_true rfl⟩) (va_recv hK hP (ci := 0) (q0 := 0) rfl rfl) hK hX hP hD hS hA [0, 1, 2, 3, 4, 5, 6] rfl (by decide) tYb_0 (fun _ _ _ => trivial) rfl hl.1 rfl (Nat.le_of_ble_eq_true rfl) dX3_runsOf_16 ⟨(show 0 ≤ 0 from by omega), (show 0 ≤ 0 from by omega)⟩ ?_
        refine W.eq (g2 := F0 m0 19 ls [.int (zI (isF w g ik (i : Int) y)), .int (iI n)]) rfl ?_
        refine tz_if_eq (tgt := 26) kx kb dX3_runsOf_19 (by decide) (fun h19 => ?_) (fun h19 => ?_)
        · refine lv_iconst (v := iI 0) kx kb dX3_runsOf_26 rfl ?_
          refine ti_iadd kx kb dX3_runsOf_27 ?_
          refine lv_istore_n (lv' := [(2, .int (iI (n + 0))), (3, .int (iI (i : Int))), (0, .ref o), (1, .int (iI y))]) kx kb dX3_runsOf_28 rfl hl (by decide) rfl (fun ls hl => ?_)
          refine ti_iinc (a := (i : Int)) (lv' := [(3, .int (iI ((i : Int) + 1))), (2, .int (iI (n + 0))), (0, .ref o), (1, .int (iI y))]) kx kb dX3_runsOf_29 hl (k := 1) rfl (by decide) rfl (fun ls hl => ?_)
          refine lv_goto (tgt := 4) kx kb dX3_runsOf_32 (by decide) ?_
          exact ih4 (i + 1) (n + 0) (by omega) (by simp [fb_ct_succ, h19, hn]) (by omega) ls hl
        · refine lv_iconst (v := iI 1) kx kb dX3_runsOf_22 rfl ?_
          refine lv_goto (tgt := 27) kx kb dX3_runsOf_23 (by decide) ?_
          refine ti_iadd kx kb dX3_runsOf_27 ?_
          refine lv_istore_n (lv' := [(2, .int (iI (n + 1))), (3, .int (iI (i : Int))), (0, .ref o), (1, .int (iI y))]) kx kb dX3_runsOf_28 rfl hl (by decide) rfl (fun ls hl => ?_)
          refine ti_iinc (a := (i : Int)) (lv' := [(3, .int (iI ((i : Int) + 1))), (2, .int (iI (n + 1))), (0, .ref o), (1, .int (iI y))]) kx kb dX3_runsOf_29 hl (k := 1) rfl (by decide) rfl (fun ls hl => ?_)
          refine lv_goto (tgt := 4) kx kb dX3_runsOf_32 (by decide) ?_
          exact ih4 (i + 1) (n + 1) (by omega) (by simp [fb_ct_succ, h19, hn]) (by omega) ls hl
  exact cut4 ((w - 0) + 1) 0 0 (by omega) (by rfl) (Nat.lt_succ_self _) ls hl
set_option maxHeartbeats 4000000 in
set_option maxRecDepth 100000 in
theorem met_X3_runsInAll (l : Launch) (D : TG) (E : TE) (o : Nat) (b1 : Nat) (b2 : Nat) (b3 : Nat) (b4 : Nat) (b5 : Nat) (b6 : Nat) (thr : Int) (w : Nat) (g : Nat) (ik : Nat → Bool) (st : Nat → Bool) (kp : Nat → Bool) (go : Nat → Bool) (dp : Nat → Int) (pt : Nat → Int) (hw : 1 ≤ w ∧ w ≤ 32) (hg : 1 ≤ g ∧ g ≤ 32) : tRd l yX3_runsInAll cX3_runsInAll 3 (some .int) 5 111 [.ref o] D E [(o, .inr (0, [.int (iI thr), .ref b1, .ref b2, .ref b3, .ref b4, .ref b5, .ref b6, .int (iI (w : Int)), .int (iI (g : Int))])), (b1, .inl (D.2 0, 1024, .inl (fun x_ => zI (ik x_)))), (b2, .inl (D.2 0, 1024, .inl (fun x_ => zI (st x_)))), (b3, .inl (D.2 0, 1024, .inl (fun x_ => zI (kp x_)))), (b4, .inl (D.2 0, 1024, .inl (fun x_ => zI (go x_)))), (b5, .inl (D.2 1, 1024, .inl (fun x_ => iI (dp x_)))), (b6, .inl (D.2 1, 1024, .inl (fun x_ => iI (pt x_))))] tY0 (some (.int (iI ((rnA w g ik g : Nat) : Int)))) := by
  refine tu_rd (by decide +kernel) (Nat.le_of_ble_eq_true rfl) ?_
  intro p0 e0 s0 m0 below meth c0 A ls args Q hag hQ C hK hX hY hP hD hA hAe hl
  obtain ⟨kx, kb, hml, hown, hts, -⟩ := id C
  have hS : va_S A s0.heap s0.heap [] := va_S.rf
  have hl : lv_has ls 3 [(0, .ref o)] := hl
  have hwg := wg_le hw hg
  refine lv_iconst (v := iI 0) kx kb dX3_runsInAll_0 rfl ?_
  refine lv_istore_n (lv' := [(1, .int (iI 0)), (0, .ref o)]) kx kb dX3_runsInAll_1 rfl hl (by decide) rfl (fun ls hl => ?_)
  refine lv_iconst (v := iI 0) kx kb dX3_runsInAll_2 rfl ?_
  refine lv_istore_n (lv' := [(2, .int (iI 0)), (1, .int (iI 0)), (0, .ref o)]) kx kb dX3_runsInAll_3 rfl hl (by decide) rfl (fun ls hl => ?_)
  have cut4 : ∀ (fuel : Nat) (i : Nat) (n : Int), (i ≤ g) → (n = ((rnA w g ik i : Nat) : Int)) → (g - i) < fuel → ∀ ls : Array Slot, lv_has ls 3 [(2, .int (iI (i : Int))), (1, .int (iI n)), (0, .ref o)] → W p0 l e0 ({ frames := 5, cells := 0, slots := 0, locals := 111 } : Room) s0 m0 args below meth c0 s0.heap [] (0) (0) Q (F0 m0 4 ls []) := by
    intro fuel
    induction fuel with
    | zero =>
      intro i n hi hn hfuel4
      exact absurd hfuel4 (Nat.not_lt_zero _)
    | succ fuel ih4 =>
      intro i n hi hn hfuel4  ls hl
      refine lv_iload_n kx kb dX3_runsInAll_4 rfl (lv_at hl 0 rfl) ?_
      refine lv_aload_n kx kb dX3_runsInAll_5 rfl (lv_at hl 2 rfl) ?_
      refine va_get (D := D.1) (ci := 0) (v := .int (iI (g : Int))) (C := RX3) (T := TX3) (N := 9) kx kb hts in_X3 hown hK hP 0 rfl rfl 8 (by decide) (hts _ q1378) (fun _ h9 => h9) rfl dX3_runsInAll_6 ?_
      refine ti_icmp_ge (tgt := 26) kx kb (by omega) dX3_runsInAll_9 (by decide) (fun h9 => ?_) (fun h9 => ?_)
      · refine lv_iload_n kx kb dX3_runsInAll_26 rfl (lv_at hl 1 rfl) ?_
        subst hQ
        exact tr_iret C rfl (by rw [hn, show i = g from by omega]) dX3_runsInAll_27
      · refine lv_iload_n kx kb dX3_runsInAll_12 rfl (lv_at hl 1 rfl) ?_
        refine lv_aload_n kx kb dX3_runsInAll_13 rfl (lv_at hl 2 rfl) ?_
        refine lv_iload_n kx kb dX3_runsInAll_14 rfl (lv_at hl 0 rfl) ?_
        refine t_callRV C (met_X3_runsOf l D E o b1 b2 b3 b4 b5 b6 thr w g ik st kp go dp pt (i : Int) (by first | assumption | omega) (by first | assumption | omega) (by first | assumption | omega)) (cwV 1 hts (lw_V q1574 q1576 qs46 q62 q1577) rfl rfl rfl (by decide +kernel) ⟨Nat.le_of_ble_eq_true rfl, Nat.le_of_ble_eq_true rfl⟩) (va_recv hK hP (ci := 0) (q0 := 0) rfl rfl) hK hX hP hD hS hA [0, 1, 2, 3, 4, 5, 6] rfl (by decide) tYb_0 (fun _ _ _ => trivial) rfl hl.1 rfl (Nat.le_of_ble_eq_true rfl) dX3_runsInAll_15 ⟨(show 0 ≤ 0 from by omega), (show 0 ≤ 0 from by omega)⟩ ?_
        refine W.eq (g2 := F0 m0 18 ls [.int (iI ((rnO w g ik (i : Int) : Nat) : Int)), .int (iI n)]) rfl ?_
        refine ti_iadd kx kb dX3_runsInAll_18 ?_
        refine lv_istore_n (lv' := [(1, .int (iI (n + ((rnO w g ik (i : Int) : Nat) : Int)))), (2, .int (iI (i : Int))), (0, .ref o)]) kx kb dX3_runsInAll_19 rfl hl (by decide) rfl (fun ls hl => ?_)
        refine ti_iinc (a := (i : Int)) (lv' := [(2, .int (iI ((i : Int) + 1))), (1, .int (iI (n + ((rnO w g ik (i : Int) : Nat) : Int)))), (0, .ref o)]) kx kb dX3_runsInAll_20 hl (k := 1) rfl (by decide) rfl (fun ls hl => ?_)
        refine lv_goto (tgt := 4) kx kb dX3_runsInAll_23 (by decide) ?_
        exact ih4 (i + 1) (n + ((rnO w g ik (i : Int) : Nat) : Int)) (by omega) (by simp [rnA, hn]) (by omega) ls hl
  exact cut4 ((g - 0) + 1) 0 0 (by omega) (by rfl) (Nat.lt_succ_self _) ls hl
set_option maxHeartbeats 4000000 in
set_option maxRecDepth 100000 in
theorem met_X3_allRuns (l : Launch) (D : TG) (E : TE) (o : Nat) (b1 : Nat) (b2 : Nat) (b3 : Nat) (b4 : Nat) (b5 : Nat) (b6 : Nat) (thr : Int) (w : Nat) (g : Nat) (ik : Nat → Bool) (st : Nat → Bool) (kp : Nat → Bool) (go : Nat → Bool) (dp : Nat → Int) (pt : Nat → Int) (hw : 1 ≤ w ∧ w ≤ 32) (hg : 1 ≤ g ∧ g ≤ 32) : tMet l yX3_allRuns cX3_allRuns 1 (some .int) 6 133 (0) (0) [.ref o] D E [(o, .inr (0, [.int (iI thr), .ref b1, .ref b2, .ref b3, .ref b4, .ref b5, .ref b6, .int (iI (w : Int)), .int (iI (g : Int))])), (b1, .inl (D.2 0, 1024, .inl (fun x_ => zI (ik x_)))), (b2, .inl (D.2 0, 1024, .inl (fun x_ => zI (st x_)))), (b3, .inl (D.2 0, 1024, .inl (fun x_ => zI (kp x_)))), (b4, .inl (D.2 0, 1024, .inl (fun x_ => zI (go x_)))), (b5, .inl (D.2 1, 1024, .inl (fun x_ => iI (dp x_)))), (b6, .inl (D.2 1, 1024, .inl (fun x_ => iI (pt x_))))] tY0 (S := Unit) (fun u_ => True) (fun u_ => some (.int (iI ((rnA w g ik g : Nat) : Int)))) (fun u_ => [(o, .inr (0, [.int (iI 0), .ref b1, .ref b2, .ref b3, .ref b4, .ref b5, .ref b6, .int (iI (w : Int)), .int (iI (g : Int))])), (b1, .inl (D.2 0, 1024, .inl (fun x_ => zI (ik x_)))), (b2, .inl (D.2 0, 1024, .inl (fun x_ => zI (st x_)))), (b3, .inl (D.2 0, 1024, .inl (fun x_ => zI (kp x_)))), (b4, .inl (D.2 0, 1024, .inl (fun x_ => zI (go x_)))), (b5, .inl (D.2 1, 1024, .inl (fun x_ => iI (dp x_)))), (b6, .inl (D.2 1, 1024, .inl (fun x_ => iI (pt x_))))]) := by
  refine tu_met (by decide +kernel) (Nat.le_of_ble_eq_true rfl) ?_
  intro p0 e0 s0 m0 below meth c0 A ls args Q hag hQ C hK hX hY hP hD hA hAe hl
  obtain ⟨kx, kb, hml, hown, hts, -⟩ := id C
  have hS : va_S A s0.heap s0.heap [] := va_S.rf
  have hl : lv_has ls 1 [(0, .ref o)] := hl
  have hwg := wg_le hw hg
  refine lv_aload_n kx kb dX3_allRuns_0 rfl (lv_at hl 0 rfl) ?_
  refine lv_aload_n kx kb dX3_allRuns_1 rfl (lv_at hl 0 rfl) ?_
  refine t_callRV C (met_X3_runsInAll l D E o b1 b2 b3 b4 b5 b6 thr w g ik st kp go dp pt (by first | assumption | omega) (by first | assumption | omega)) (cwV 0 hts (lw_V q1594 q1596 qs49 q62 q1597) rfl rfl rfl (by decide +kernel) ⟨Nat.le_of_ble_eq_true rfl, Nat.le_of_ble_eq_true rfl⟩) (va_recv hK hP (ci := 0) (q0 := 0) rfl rfl) hK hX hP hD hS hA [0, 1, 2, 3, 4, 5, 6] rfl (by decide) tYb_0 (fun _ _ _ => trivial) rfl hl.1 rfl (Nat.le_of_ble_eq_true rfl) dX3_allRuns_2 ⟨(show 0 ≤ 0 from by omega), (show 0 ≤ 0 from by omega)⟩ ?_
  refine W.eq (g2 := F0 m0 5 ls [.int (iI ((rnA w g ik g : Nat) : Int)), .ref o]) rfl ?_
  refine t_callV (wr := []) C (met_X3_toldOf l D E o b1 b2 b3 b4 b5 b6 thr w g ik st kp go dp pt ((rnA w g ik g : Nat) : Int) (by first | assumption | omega) (by first | assumption | omega)) (cwV 1 hts (lw_V q1525 q1527 qs42 q62 q1528) rfl rfl rfl (by decide +kernel) ⟨Nat.le_of_ble_eq_true rfl, Nat.le_of_ble_eq_true rfl⟩) (va_recv hK hP (ci := 0) (q0 := 0) rfl rfl) hK hX hP hD hS hA [0, 1, 2, 3, 4, 5, 6] [] rfl rfl (by decide) (by decide) (by decide) tYb_0 (fun _ _ _ => trivial) rfl hl.1 rfl (Nat.le_of_ble_eq_true rfl) dX3_allRuns_5 ⟨(show 0 ≤ 0 from by omega), (show 0 ≤ 0 from by omega)⟩ (fun u_ H locs hp hP hD hS => ?_)
  have hP : va_P D.1 clAll [(o, .inr (0, [.int (iI 0), .ref b1, .ref b2, .ref b3, .ref b4, .ref b5, .ref b6, .int (iI (w : Int)), .int (iI (g : Int))])), (b1, .inl (D.2 0, 1024, .inl (fun x_ => zI (ik x_)))), (b2, .inl (D.2 0, 1024, .inl (fun x_ => zI (st x_)))), (b3, .inl (D.2 0, 1024, .inl (fun x_ => zI (kp x_)))), (b4, .inl (D.2 0, 1024, .inl (fun x_ => zI (go x_)))), (b5, .inl (D.2 1, 1024, .inl (fun x_ => iI (dp x_)))), (b6, .inl (D.2 1, 1024, .inl (fun x_ => iI (pt x_))))] H := hP
  have hD : va_D A [(o, .inr (0, [.int (iI 0), .ref b1, .ref b2, .ref b3, .ref b4, .ref b5, .ref b6, .int (iI (w : Int)), .int (iI (g : Int))])), (b1, .inl (D.2 0, 1024, .inl (fun x_ => zI (ik x_)))), (b2, .inl (D.2 0, 1024, .inl (fun x_ => zI (st x_)))), (b3, .inl (D.2 0, 1024, .inl (fun x_ => zI (kp x_)))), (b4, .inl (D.2 0, 1024, .inl (fun x_ => zI (go x_)))), (b5, .inl (D.2 1, 1024, .inl (fun x_ => iI (dp x_)))), (b6, .inl (D.2 1, 1024, .inl (fun x_ => iI (pt x_))))] := hD
  refine W.eq (g2 := F0 m0 8 ls [.int (iI ((rnA w g ik g : Nat) : Int))]) rfl ?_
  subst hQ
  exact tm_iret C () trivial hP hD hS (show 0 ≤ 0 from by omega) (show 0 ≤ 0 from by omega) rfl rfl dX3_allRuns_8
set_option maxHeartbeats 4000000 in
set_option maxRecDepth 100000 in
theorem met_X3_runs_ok (l : Launch) (D : TG) (E : TE) (o : Nat) (b1 : Nat) (b2 : Nat) (b3 : Nat) (b4 : Nat) (b5 : Nat) (b6 : Nat) (thr : Int) (w : Nat) (g : Nat) (ik : Nat → Bool) (st : Nat → Bool) (kp : Nat → Bool) (go : Nat → Bool) (dp : Nat → Int) (pt : Nat → Int) (y : Int) (hw : 1 ≤ w ∧ w ≤ 32) (hg : 1 ≤ g ∧ g ≤ 32) (hv : 0 ≤ y ∧ y < g) : tMet l yX3_runs cX3_runs 2 (some .int) 5 111 (0) (0) [.ref o, .int (iI y)] D E [(o, .inr (0, [.int (iI thr), .ref b1, .ref b2, .ref b3, .ref b4, .ref b5, .ref b6, .int (iI (w : Int)), .int (iI (g : Int))])), (b1, .inl (D.2 0, 1024, .inl (fun x_ => zI (ik x_)))), (b2, .inl (D.2 0, 1024, .inl (fun x_ => zI (st x_)))), (b3, .inl (D.2 0, 1024, .inl (fun x_ => zI (kp x_)))), (b4, .inl (D.2 0, 1024, .inl (fun x_ => zI (go x_)))), (b5, .inl (D.2 1, 1024, .inl (fun x_ => iI (dp x_)))), (b6, .inl (D.2 1, 1024, .inl (fun x_ => iI (pt x_))))] tY0 (S := Unit) (fun u_ => True) (fun u_ => some (.int (iI ((rnO w g ik y : Nat) : Int)))) (fun u_ => [(o, .inr (0, [.int (iI 0), .ref b1, .ref b2, .ref b3, .ref b4, .ref b5, .ref b6, .int (iI (w : Int)), .int (iI (g : Int))])), (b1, .inl (D.2 0, 1024, .inl (fun x_ => zI (ik x_)))), (b2, .inl (D.2 0, 1024, .inl (fun x_ => zI (st x_)))), (b3, .inl (D.2 0, 1024, .inl (fun x_ => zI (kp x_)))), (b4, .inl (D.2 0, 1024, .inl (fun x_ => zI (go x_)))), (b5, .inl (D.2 1, 1024, .inl (fun x_ => iI (dp x_)))), (b6, .inl (D.2 1, 1024, .inl (fun x_ => iI (pt x_))))]) := by
  refine tu_met (by decide +kernel) (Nat.le_of_ble_eq_true rfl) ?_
  intro p0 e0 s0 m0 below meth c0 A ls args Q hag hQ C hK hX hY hP hD hA hAe hl
  obtain ⟨kx, kb, hml, hown, hts, -⟩ := id C
  have hS : va_S A s0.heap s0.heap [] := va_S.rf
  have hl : lv_has ls 2 [(0, .ref o), (1, .int (iI y))] := hl
  have hwg := wg_le hw hg
  refine lv_aload_n kx kb dX3_runs_0 rfl (lv_at hl 0 rfl) ?_
  refine lv_iload_n kx kb dX3_runs_1 rfl (lv_at hl 1 rfl) ?_
  refine t_callV (wr := []) C (met_X3_row l D E o b1 b2 b3 b4 b5 b6 thr w g ik st kp go dp pt y (by first | assumption | omega) (by first | assumption | omega) (by first | assumption | omega)) (cwV 1 hts (lw_V q1570 q1572 qs45 q62 q1573) rfl rfl rfl (by decide +kernel) ⟨Nat.le_of_ble_eq_true rfl, Nat.le_of_ble_eq_true rfl⟩) (va_recv hK hP (ci := 0) (q0 := 0) rfl rfl) hK hX hP hD hS hA [0, 1, 2, 3, 4, 5, 6] [] rfl rfl (by decide) (by decide) (by decide) tYb_0 (fun _ _ _ => trivial) rfl hl.1 rfl (Nat.le_of_ble_eq_true rfl) dX3_runs_2 ⟨(show 0 ≤ 0 from by omega), (show 0 ≤ 0 from by omega)⟩ (fun u_ H locs hp hP hD hS => ?_)
  obtain ⟨t2_1, rfl⟩ : ∃ z, z = u_ := ⟨_, rfl⟩
  have hc2_1 : t2_1 = if decide (0 ≤ y ∧ y ≤ (g : Int) - 1) then 0 else 1 := hp
  subst hc2_1
  have hP : va_P D.1 clAll [(o, .inr (0, [.int (iI (if decide (0 ≤ y ∧ y ≤ (g : Int) - 1) then 0 else 1)), .ref b1, .ref b2, .ref b3, .ref b4, .ref b5, .ref b6, .int (iI (w : Int)), .int (iI (g : Int))])), (b1, .inl (D.2 0, 1024, .inl (fun x_ => zI (ik x_)))), (b2, .inl (D.2 0, 1024, .inl (fun x_ => zI (st x_)))), (b3, .inl (D.2 0, 1024, .inl (fun x_ => zI (kp x_)))), (b4, .inl (D.2 0, 1024, .inl (fun x_ => zI (go x_)))), (b5, .inl (D.2 1, 1024, .inl (fun x_ => iI (dp x_)))), (b6, .inl (D.2 1, 1024, .inl (fun x_ => iI (pt x_))))] H := hP
  have hD : va_D A [(o, .inr (0, [.int (iI (if decide (0 ≤ y ∧ y ≤ (g : Int) - 1) then 0 else 1)), .ref b1, .ref b2, .ref b3, .ref b4, .ref b5, .ref b6, .int (iI (w : Int)), .int (iI (g : Int))])), (b1, .inl (D.2 0, 1024, .inl (fun x_ => zI (ik x_)))), (b2, .inl (D.2 0, 1024, .inl (fun x_ => zI (st x_)))), (b3, .inl (D.2 0, 1024, .inl (fun x_ => zI (kp x_)))), (b4, .inl (D.2 0, 1024, .inl (fun x_ => zI (go x_)))), (b5, .inl (D.2 1, 1024, .inl (fun x_ => iI (dp x_)))), (b6, .inl (D.2 1, 1024, .inl (fun x_ => iI (pt x_))))] := hD
  refine W.eq (g2 := F0 m0 5 ls [.int (zI (decide (0 ≤ y ∧ y ≤ (g : Int) - 1)))]) rfl ?_
  refine tz_if_eq (tgt := 16) kx kb dX3_runs_5 (by decide) (fun h5 => ?_) (fun h5 => ?_)
  · simp only [decide_eq_false_iff_not] at h5; omega
  · simp only [decide_eq_true_eq, decide_eq_false_iff_not] at h5
    rw [show ((if decide (0 ≤ y ∧ y ≤ (g : Int) - 1) then 0 else 1)) = (0 : Int) from by rw [decide_eq_true h5]; rfl] at hP hD
    have hP : va_P D.1 clAll [(o, .inr (0, [.int (iI 0), .ref b1, .ref b2, .ref b3, .ref b4, .ref b5, .ref b6, .int (iI (w : Int)), .int (iI (g : Int))])), (b1, .inl (D.2 0, 1024, .inl (fun x_ => zI (ik x_)))), (b2, .inl (D.2 0, 1024, .inl (fun x_ => zI (st x_)))), (b3, .inl (D.2 0, 1024, .inl (fun x_ => zI (kp x_)))), (b4, .inl (D.2 0, 1024, .inl (fun x_ => zI (go x_)))), (b5, .inl (D.2 1, 1024, .inl (fun x_ => iI (dp x_)))), (b6, .inl (D.2 1, 1024, .inl (fun x_ => iI (pt x_))))] H := hP
    have hD : va_D A [(o, .inr (0, [.int (iI 0), .ref b1, .ref b2, .ref b3, .ref b4, .ref b5, .ref b6, .int (iI (w : Int)), .int (iI (g : Int))])), (b1, .inl (D.2 0, 1024, .inl (fun x_ => zI (ik x_)))), (b2, .inl (D.2 0, 1024, .inl (fun x_ => zI (st x_)))), (b3, .inl (D.2 0, 1024, .inl (fun x_ => zI (kp x_)))), (b4, .inl (D.2 0, 1024, .inl (fun x_ => zI (go x_)))), (b5, .inl (D.2 1, 1024, .inl (fun x_ => iI (dp x_)))), (b6, .inl (D.2 1, 1024, .inl (fun x_ => iI (pt x_))))] := hD
    refine lv_aload_n kx kb dX3_runs_8 rfl (lv_at hl 0 rfl) ?_
    refine lv_iload_n kx kb dX3_runs_9 rfl (lv_at hl 1 rfl) ?_
    refine t_callRV C (met_X3_runsOf l D E o b1 b2 b3 b4 b5 b6 0 w g ik st kp go dp pt y (by first | assumption | omega) (by first | assumption | omega) (by first | assumption | omega)) (cwV 1 hts (lw_V q1574 q1576 qs46 q62 q1577) rfl rfl rfl (by decide +kernel) ⟨Nat.le_of_ble_eq_true rfl, Nat.le_of_ble_eq_true rfl⟩) (va_recv hK hP (ci := 0) (q0 := 0) rfl rfl) hK hX hP hD hS hA [0, 1, 2, 3, 4, 5, 6] rfl (by decide) tYb_0 (fun _ _ _ => trivial) rfl hl.1 rfl (Nat.le_of_ble_eq_true rfl) dX3_runs_10 ⟨(show 0 ≤ 0 from by omega), (show 0 ≤ 0 from by omega)⟩ ?_
    refine W.eq (g2 := F0 m0 13 ls [.int (iI ((rnO w g ik y : Nat) : Int))]) rfl ?_
    refine lv_goto (tgt := 17) kx kb dX3_runs_13 (by decide) ?_
    subst hQ
    exact tm_iret C () trivial hP hD hS (show 0 ≤ 0 from by omega) (show 0 ≤ 0 from by omega) rfl rfl dX3_runs_17
set_option maxHeartbeats 4000000 in
set_option maxRecDepth 100000 in
theorem met_X3_runs_no (l : Launch) (D : TG) (E : TE) (o : Nat) (b1 : Nat) (b2 : Nat) (b3 : Nat) (b4 : Nat) (b5 : Nat) (b6 : Nat) (thr : Int) (w : Nat) (g : Nat) (ik : Nat → Bool) (st : Nat → Bool) (kp : Nat → Bool) (go : Nat → Bool) (dp : Nat → Int) (pt : Nat → Int) (y : Int) (hw : 1 ≤ w ∧ w ≤ 32) (hg : 1 ≤ g ∧ g ≤ 32) (ry : -2147483648 ≤ y ∧ y < 2147483648) (hv : ¬ (0 ≤ y ∧ y < g)) : tMet l yX3_runs cX3_runs 2 (some .int) 5 111 (0) (0) [.ref o, .int (iI y)] D E [(o, .inr (0, [.int (iI thr), .ref b1, .ref b2, .ref b3, .ref b4, .ref b5, .ref b6, .int (iI (w : Int)), .int (iI (g : Int))])), (b1, .inl (D.2 0, 1024, .inl (fun x_ => zI (ik x_)))), (b2, .inl (D.2 0, 1024, .inl (fun x_ => zI (st x_)))), (b3, .inl (D.2 0, 1024, .inl (fun x_ => zI (kp x_)))), (b4, .inl (D.2 0, 1024, .inl (fun x_ => zI (go x_)))), (b5, .inl (D.2 1, 1024, .inl (fun x_ => iI (dp x_)))), (b6, .inl (D.2 1, 1024, .inl (fun x_ => iI (pt x_))))] tY0 (S := Unit) (fun u_ => True) (fun u_ => some (.int (iI 0))) (fun u_ => [(o, .inr (0, [.int (iI 1), .ref b1, .ref b2, .ref b3, .ref b4, .ref b5, .ref b6, .int (iI (w : Int)), .int (iI (g : Int))])), (b1, .inl (D.2 0, 1024, .inl (fun x_ => zI (ik x_)))), (b2, .inl (D.2 0, 1024, .inl (fun x_ => zI (st x_)))), (b3, .inl (D.2 0, 1024, .inl (fun x_ => zI (kp x_)))), (b4, .inl (D.2 0, 1024, .inl (fun x_ => zI (go x_)))), (b5, .inl (D.2 1, 1024, .inl (fun x_ => iI (dp x_)))), (b6, .inl (D.2 1, 1024, .inl (fun x_ => iI (pt x_))))]) := by
  refine tu_met (by decide +kernel) (Nat.le_of_ble_eq_true rfl) ?_
  intro p0 e0 s0 m0 below meth c0 A ls args Q hag hQ C hK hX hY hP hD hA hAe hl
  obtain ⟨kx, kb, hml, hown, hts, -⟩ := id C
  have hS : va_S A s0.heap s0.heap [] := va_S.rf
  have hl : lv_has ls 2 [(0, .ref o), (1, .int (iI y))] := hl
  have hwg := wg_le hw hg
  refine lv_aload_n kx kb dX3_runs_0 rfl (lv_at hl 0 rfl) ?_
  refine lv_iload_n kx kb dX3_runs_1 rfl (lv_at hl 1 rfl) ?_
  refine t_callV (wr := []) C (met_X3_row l D E o b1 b2 b3 b4 b5 b6 thr w g ik st kp go dp pt y (by first | assumption | omega) (by first | assumption | omega) (by first | assumption | omega)) (cwV 1 hts (lw_V q1570 q1572 qs45 q62 q1573) rfl rfl rfl (by decide +kernel) ⟨Nat.le_of_ble_eq_true rfl, Nat.le_of_ble_eq_true rfl⟩) (va_recv hK hP (ci := 0) (q0 := 0) rfl rfl) hK hX hP hD hS hA [0, 1, 2, 3, 4, 5, 6] [] rfl rfl (by decide) (by decide) (by decide) tYb_0 (fun _ _ _ => trivial) rfl hl.1 rfl (Nat.le_of_ble_eq_true rfl) dX3_runs_2 ⟨(show 0 ≤ 0 from by omega), (show 0 ≤ 0 from by omega)⟩ (fun u_ H locs hp hP hD hS => ?_)
  obtain ⟨t2_1, rfl⟩ : ∃ z, z = u_ := ⟨_, rfl⟩
  have hc2_1 : t2_1 = if decide (0 ≤ y ∧ y ≤ (g : Int) - 1) then 0 else 1 := hp
  subst hc2_1
  have hP : va_P D.1 clAll [(o, .inr (0, [.int (iI (if decide (0 ≤ y ∧ y ≤ (g : Int) - 1) then 0 else 1)), .ref b1, .ref b2, .ref b3, .ref b4, .ref b5, .ref b6, .int (iI (w : Int)), .int (iI (g : Int))])), (b1, .inl (D.2 0, 1024, .inl (fun x_ => zI (ik x_)))), (b2, .inl (D.2 0, 1024, .inl (fun x_ => zI (st x_)))), (b3, .inl (D.2 0, 1024, .inl (fun x_ => zI (kp x_)))), (b4, .inl (D.2 0, 1024, .inl (fun x_ => zI (go x_)))), (b5, .inl (D.2 1, 1024, .inl (fun x_ => iI (dp x_)))), (b6, .inl (D.2 1, 1024, .inl (fun x_ => iI (pt x_))))] H := hP
  have hD : va_D A [(o, .inr (0, [.int (iI (if decide (0 ≤ y ∧ y ≤ (g : Int) - 1) then 0 else 1)), .ref b1, .ref b2, .ref b3, .ref b4, .ref b5, .ref b6, .int (iI (w : Int)), .int (iI (g : Int))])), (b1, .inl (D.2 0, 1024, .inl (fun x_ => zI (ik x_)))), (b2, .inl (D.2 0, 1024, .inl (fun x_ => zI (st x_)))), (b3, .inl (D.2 0, 1024, .inl (fun x_ => zI (kp x_)))), (b4, .inl (D.2 0, 1024, .inl (fun x_ => zI (go x_)))), (b5, .inl (D.2 1, 1024, .inl (fun x_ => iI (dp x_)))), (b6, .inl (D.2 1, 1024, .inl (fun x_ => iI (pt x_))))] := hD
  refine W.eq (g2 := F0 m0 5 ls [.int (zI (decide (0 ≤ y ∧ y ≤ (g : Int) - 1)))]) rfl ?_
  refine tz_if_eq (tgt := 16) kx kb dX3_runs_5 (by decide) (fun h5 => ?_) (fun h5 => ?_)
  · simp only [decide_eq_true_eq, decide_eq_false_iff_not] at h5
    rw [show ((if decide (0 ≤ y ∧ y ≤ (g : Int) - 1) then 0 else 1)) = (1 : Int) from by rw [decide_eq_false h5]; rfl] at hP hD
    have hP : va_P D.1 clAll [(o, .inr (0, [.int (iI 1), .ref b1, .ref b2, .ref b3, .ref b4, .ref b5, .ref b6, .int (iI (w : Int)), .int (iI (g : Int))])), (b1, .inl (D.2 0, 1024, .inl (fun x_ => zI (ik x_)))), (b2, .inl (D.2 0, 1024, .inl (fun x_ => zI (st x_)))), (b3, .inl (D.2 0, 1024, .inl (fun x_ => zI (kp x_)))), (b4, .inl (D.2 0, 1024, .inl (fun x_ => zI (go x_)))), (b5, .inl (D.2 1, 1024, .inl (fun x_ => iI (dp x_)))), (b6, .inl (D.2 1, 1024, .inl (fun x_ => iI (pt x_))))] H := hP
    have hD : va_D A [(o, .inr (0, [.int (iI 1), .ref b1, .ref b2, .ref b3, .ref b4, .ref b5, .ref b6, .int (iI (w : Int)), .int (iI (g : Int))])), (b1, .inl (D.2 0, 1024, .inl (fun x_ => zI (ik x_)))), (b2, .inl (D.2 0, 1024, .inl (fun x_ => zI (st x_)))), (b3, .inl (D.2 0, 1024, .inl (fun x_ => zI (kp x_)))), (b4, .inl (D.2 0, 1024, .inl (fun x_ => zI (go x_)))), (b5, .inl (D.2 1, 1024, .inl (fun x_ => iI (dp x_)))), (b6, .inl (D.2 1, 1024, .inl (fun x_ => iI (pt x_))))] := hD
    refine lv_iconst (v := iI 0) kx kb dX3_runs_16 rfl ?_
    subst hQ
    exact tm_iret C () trivial hP hD hS (show 0 ≤ 0 from by omega) (show 0 ≤ 0 from by omega) rfl rfl dX3_runs_17
  · simp only [decide_eq_true_eq] at h5; omega
set_option maxHeartbeats 4000000 in
set_option maxRecDepth 100000 in
theorem met_X3_edges (l : Launch) (D : TG) (E : TE) (o : Nat) (b1 : Nat) (b2 : Nat) (b3 : Nat) (b4 : Nat) (b5 : Nat) (b6 : Nat) (thr : Int) (w : Nat) (g : Nat) (ik : Nat → Bool) (st : Nat → Bool) (kp : Nat → Bool) (go : Nat → Bool) (dp : Nat → Int) (pt : Nat → Int) (hw : 1 ≤ w ∧ w ≤ 32) (hg : 1 ≤ g ∧ g ≤ 32) : tMet l yX3_edges cX3_edges 4 (some .int) 4 88 (0) (0) [.ref o] D E [(o, .inr (0, [.int (iI thr), .ref b1, .ref b2, .ref b3, .ref b4, .ref b5, .ref b6, .int (iI (w : Int)), .int (iI (g : Int))])), (b1, .inl (D.2 0, 1024, .inl (fun x_ => zI (ik x_)))), (b2, .inl (D.2 0, 1024, .inl (fun x_ => zI (st x_)))), (b3, .inl (D.2 0, 1024, .inl (fun x_ => zI (kp x_)))), (b4, .inl (D.2 0, 1024, .inl (fun x_ => zI (go x_)))), (b5, .inl (D.2 1, 1024, .inl (fun x_ => iI (dp x_)))), (b6, .inl (D.2 1, 1024, .inl (fun x_ => iI (pt x_))))] tY0 (S := Unit) (fun u_ => True) (fun u_ => some (.int (iI ((egA w g ik (w * g) : Nat) : Int)))) (fun u_ => [(o, .inr (0, [.int (iI 0), .ref b1, .ref b2, .ref b3, .ref b4, .ref b5, .ref b6, .int (iI (w : Int)), .int (iI (g : Int))])), (b1, .inl (D.2 0, 1024, .inl (fun x_ => zI (ik x_)))), (b2, .inl (D.2 0, 1024, .inl (fun x_ => zI (st x_)))), (b3, .inl (D.2 0, 1024, .inl (fun x_ => zI (kp x_)))), (b4, .inl (D.2 0, 1024, .inl (fun x_ => zI (go x_)))), (b5, .inl (D.2 1, 1024, .inl (fun x_ => iI (dp x_)))), (b6, .inl (D.2 1, 1024, .inl (fun x_ => iI (pt x_))))]) := by
  refine tu_met (by decide +kernel) (Nat.le_of_ble_eq_true rfl) ?_
  intro p0 e0 s0 m0 below meth c0 A ls args Q hag hQ C hK hX hY hP hD hA hAe hl
  obtain ⟨kx, kb, hml, hown, hts, -⟩ := id C
  have hS : va_S A s0.heap s0.heap [] := va_S.rf
  have hl : lv_has ls 4 [(0, .ref o)] := hl
  have hwg := wg_le hw hg
  refine lv_aload_n kx kb dX3_edges_0 rfl (lv_at hl 0 rfl) ?_
  refine lv_iconst (v := iI 0) kx kb dX3_edges_1 rfl ?_
  refine va_put (D := D.1) (ci := 0) (v := .int (iI 0)) (ty := .int) (C := RX3) (T := TX3) (N := 9) kx kb hts in_X3 tyX3 tyX3_ok nmX3 hown hK hP hD hS 0 rfl rfl 0 (by decide) (hts _ q1370) (fun _ h9 => h9) rfl (by decide +kernel) rfl rfl (Nat.le_of_ble_eq_true rfl) dX3_edges_2 (fun H locs hP hD hS => ?_)
  have hP : va_P D.1 clAll [(o, .inr (0, [.int (iI 0), .ref b1, .ref b2, .ref b3, .ref b4, .ref b5, .ref b6, .int (iI (w : Int)), .int (iI (g : Int))])), (b1, .inl (D.2 0, 1024, .inl (fun x_ => zI (ik x_)))), (b2, .inl (D.2 0, 1024, .inl (fun x_ => zI (st x_)))), (b3, .inl (D.2 0, 1024, .inl (fun x_ => zI (kp x_)))), (b4, .inl (D.2 0, 1024, .inl (fun x_ => zI (go x_)))), (b5, .inl (D.2 1, 1024, .inl (fun x_ => iI (dp x_)))), (b6, .inl (D.2 1, 1024, .inl (fun x_ => iI (pt x_))))] H := hP
  have hD : va_D A [(o, .inr (0, [.int (iI 0), .ref b1, .ref b2, .ref b3, .ref b4, .ref b5, .ref b6, .int (iI (w : Int)), .int (iI (g : Int))])), (b1, .inl (D.2 0, 1024, .inl (fun x_ => zI (ik x_)))), (b2, .inl (D.2 0, 1024, .inl (fun x_ => zI (st x_)))), (b3, .inl (D.2 0, 1024, .inl (fun x_ => zI (kp x_)))), (b4, .inl (D.2 0, 1024, .inl (fun x_ => zI (go x_)))), (b5, .inl (D.2 1, 1024, .inl (fun x_ => iI (dp x_)))), (b6, .inl (D.2 1, 1024, .inl (fun x_ => iI (pt x_))))] := hD
  refine lv_iconst (v := iI 0) kx kb dX3_edges_5 rfl ?_
  refine lv_istore_n (lv' := [(1, .int (iI 0)), (0, .ref o)]) kx kb dX3_edges_6 rfl hl (by decide) rfl (fun ls hl => ?_)
  refine lv_iconst (v := iI 0) kx kb dX3_edges_7 rfl ?_
  refine lv_istore_n (lv' := [(2, .int (iI 0)), (1, .int (iI 0)), (0, .ref o)]) kx kb dX3_edges_8 rfl hl (by decide) rfl (fun ls hl => ?_)
  have cut9 : ∀ (fuel : Nat) (i : Nat) (n : Int), (i ≤ w * g) → (n = ((egA w g ik i : Nat) : Int)) → (w * g - i) < fuel → ∀ ls : Array Slot, lv_has ls 4 [(2, .int (iI (i : Int))), (1, .int (iI n)), (0, .ref o)] → W p0 l e0 ({ frames := 4, cells := 0, slots := 0, locals := 88 } : Room) s0 m0 args below meth c0 H locs (0) (0) Q (F0 m0 9 ls []) := by
    intro fuel
    induction fuel with
    | zero =>
      intro i n hi hn hfuel9
      exact absurd hfuel9 (Nat.not_lt_zero _)
    | succ fuel ih9 =>
      intro i n hi hn hfuel9  ls hl
      have hk := egA_le w g ik i
      refine lv_iload_n kx kb dX3_edges_9 rfl (lv_at hl 0 rfl) ?_
      refine lv_aload_n kx kb dX3_edges_10 rfl (lv_at hl 2 rfl) ?_
      refine t_callRV C (met_X3_cells l D E o b1 b2 b3 b4 b5 b6 0 w g ik st kp go dp pt (by first | assumption | omega) (by first | assumption | omega)) (cwV 0 hts (lw_V q1467 q1469 qs33 q62 q1470) rfl rfl rfl (by decide +kernel) ⟨Nat.le_of_ble_eq_true rfl, Nat.le_of_ble_eq_true rfl⟩) (va_recv hK hP (ci := 0) (q0 := 0) rfl rfl) hK hX hP hD hS hA [0, 1, 2, 3, 4, 5, 6] rfl (by decide) tYb_0 (fun _ _ _ => trivial) rfl hl.1 rfl (Nat.le_of_ble_eq_true rfl) dX3_edges_11 ⟨(show 0 ≤ 0 from by omega), (show 0 ≤ 0 from by omega)⟩ ?_
      refine W.eq (g2 := F0 m0 14 ls [.int (iI ((w * g : Nat) : Int)), .int (iI (i : Int))]) rfl ?_
      refine ti_icmp_ge (tgt := 63) kx kb (by omega) dX3_edges_14 (by decide) (fun h14 => ?_) (fun h14 => ?_)
      · refine lv_iload_n kx kb dX3_edges_63 rfl (lv_at hl 1 rfl) ?_
        subst hQ
        exact tm_iret C () trivial hP hD hS (show 0 ≤ 0 from by omega) (show 0 ≤ 0 from by omega) (by rw [hn, show i = w * g from by omega]) rfl dX3_edges_64
      · refine lv_iconst (v := iI 0) kx kb dX3_edges_17 rfl ?_
        refine lv_istore_n (lv' := [(3, .int (iI 0)), (2, .int (iI (i : Int))), (1, .int (iI n)), (0, .ref o)]) kx kb dX3_edges_18 rfl hl (by decide) rfl (fun ls hl => ?_)
        have cut19 : ∀ (fuel : Nat) (k : Int) (n2 : Int) (q : Nat), (q ≤ 4 ∧ k = 2 * (q : Int)) → (n2 = n + ((egC w g ik i q : Nat) : Int)) → (4 - q) < fuel → ∀ ls : Array Slot, lv_has ls 4 [(3, .int (iI k)), (2, .int (iI (i : Int))), (1, .int (iI n2)), (0, .ref o)] → W p0 l e0 ({ frames := 4, cells := 0, slots := 0, locals := 88 } : Room) s0 m0 args below meth c0 H locs (0) (0) Q (F0 m0 19 ls []) := by
          intro fuel
          induction fuel with
          | zero =>
            intro k n2 q hq hn2 hfuel19
            exact absurd hfuel19 (Nat.not_lt_zero _)
          | succ fuel ih19 =>
            intro k n2 q hq hn2 hfuel19  ls hl
            have hk2 := egC_le w g ik i q
            refine lv_iload_n kx kb dX3_edges_19 rfl (lv_at hl 0 rfl) ?_
            refine lv_bipush (v := iI 8) kx kb dX3_edges_20 rfl ?_
            refine ti_icmp_ge (tgt := 57) kx kb (by omega) dX3_edges_22 (by decide) (fun h22 => ?_) (fun h22 => ?_)
            · refine ti_iinc (a := (i : Int)) (lv' := [(2, .int (iI ((i : Int) + 1))), (3, .int (iI k)), (1, .int (iI n2)), (0, .ref o)]) kx kb dX3_edges_57 hl (k := 1) rfl (by decide) rfl (fun ls hl => ?_)
              refine lv_goto (tgt := 9) kx kb dX3_edges_60 (by decide) ?_
              exact ih9 (i + 1) n2 (by omega) (by simp only [egA, Int.natCast_add]; rw [show egC w g ik i 4 = egC w g ik i q from by rw [show q = 4 from by omega]]; omega) (by omega) ls (lv_sub hl [0, 2, 3] rfl)
            · refine lv_aload_n kx kb dX3_edges_25 rfl (lv_at hl 3 rfl) ?_
              refine va_get (D := D.1) (ci := 0) (v := .ref b1) (C := RX3) (T := TX3) (N := 9) kx kb hts in_X3 hown hK hP 0 rfl rfl 1 (by decide) (hts _ q1371) (fun _ h9 => h9) rfl dX3_edges_26 ?_
              refine lv_iload_n kx kb dX3_edges_29 rfl (lv_at hl 1 rfl) ?_
              refine ta_zald C hK hP 1 rfl i (by omega) dX3_edges_30 ?_
              refine tz_if_eq (tgt := 57) kx kb dX3_edges_31 (by decide) (fun h31 => ?_) (fun h31 => ?_)
              · refine ti_iinc (a := (i : Int)) (lv' := [(2, .int (iI ((i : Int) + 1))), (3, .int (iI k)), (1, .int (iI n2)), (0, .ref o)]) kx kb dX3_edges_57 hl (k := 1) rfl (by decide) rfl (fun ls hl => ?_)
                refine lv_goto (tgt := 9) kx kb dX3_edges_60 (by decide) ?_
                exact ih9 (i + 1) n2 (by omega) (by simp only [egA, Int.natCast_add]; have := egC_0 (w := w) (g := g) h31; rw [this 4]; rw [this q] at hn2; omega) (by omega) ls (lv_sub hl [0, 2, 3] rfl)
              · refine lv_iload_n kx kb dX3_edges_34 rfl (lv_at hl 2 rfl) ?_
                refine lv_aload_n kx kb dX3_edges_35 rfl (lv_at hl 3 rfl) ?_
                refine lv_iload_n kx kb dX3_edges_36 rfl (lv_at hl 1 rfl) ?_
                refine lv_iload_n kx kb dX3_edges_37 rfl (lv_at hl 0 rfl) ?_
                refine t_callRV C (met_X3_beside l D E o b1 b2 b3 b4 b5 b6 0 w g ik st kp go dp pt i k (by first | assumption | omega) (by first | assumption | omega) (by first | assumption | omega) (by first | assumption | omega)) (cwV 2 hts (lw_V q1517 q1519 qs40 q62 q1520) rfl rfl rfl (by decide +kernel) ⟨Nat.le_of_ble_eq_true rfl, Nat.le_of_ble_eq_true rfl⟩) (va_recv hK hP (ci := 0) (q0 := 0) rfl rfl) hK hX hP hD hS hA [0, 1, 2, 3, 4, 5, 6] rfl (by decide) tYb_0 (fun _ _ _ => trivial) rfl hl.1 rfl (Nat.le_of_ble_eq_true rfl) dX3_edges_38 ⟨(show 0 ≤ 0 from by omega), (show 0 ≤ 0 from by omega)⟩ ?_
                refine W.eq (g2 := F0 m0 41 ls [.int (zI (bes w g ik i k)), .int (iI n2)]) rfl ?_
                refine tz_if_eq (tgt := 48) kx kb dX3_edges_41 (by decide) (fun h41 => ?_) (fun h41 => ?_)
                · refine lv_iconst (v := iI 1) kx kb dX3_edges_48 rfl ?_
                  refine ti_iadd kx kb dX3_edges_49 ?_
                  refine lv_istore_n (lv' := [(1, .int (iI (n2 + 1))), (3, .int (iI k)), (2, .int (iI (i : Int))), (0, .ref o)]) kx kb dX3_edges_50 rfl hl (by decide) rfl (fun ls hl => ?_)
                  refine ti_iinc (a := k) (lv' := [(3, .int (iI (k + 2))), (1, .int (iI (n2 + 1))), (2, .int (iI (i : Int))), (0, .ref o)]) kx kb dX3_edges_51 hl (k := 1) rfl (by decide) rfl (fun ls hl => ?_)
                  refine lv_goto (tgt := 19) kx kb dX3_edges_54 (by decide) ?_
                  exact ih19 (k + 2) (n2 + 1) (q + 1) (by omega) (by rw [hq.2] at h41; simp [egC, h31, h41, hn2, hq.2]; try omega) (by omega) ls (lv_sub hl [0, 2, 1, 3] rfl)
                · refine lv_iconst (v := iI 0) kx kb dX3_edges_44 rfl ?_
                  refine lv_goto (tgt := 49) kx kb dX3_edges_45 (by decide) ?_
                  refine ti_iadd kx kb dX3_edges_49 ?_
                  refine lv_istore_n (lv' := [(1, .int (iI (n2 + 0))), (3, .int (iI k)), (2, .int (iI (i : Int))), (0, .ref o)]) kx kb dX3_edges_50 rfl hl (by decide) rfl (fun ls hl => ?_)
                  refine ti_iinc (a := k) (lv' := [(3, .int (iI (k + 2))), (1, .int (iI (n2 + 0))), (2, .int (iI (i : Int))), (0, .ref o)]) kx kb dX3_edges_51 hl (k := 1) rfl (by decide) rfl (fun ls hl => ?_)
                  refine lv_goto (tgt := 19) kx kb dX3_edges_54 (by decide) ?_
                  exact ih19 (k + 2) (n2 + 0) (q + 1) (by omega) (by rw [hq.2] at h41; simp [egC, h31, h41, hn2, hq.2]; try omega) (by omega) ls (lv_sub hl [0, 2, 1, 3] rfl)
        exact cut19 ((4 - 0) + 1) 0 n 0 (by omega) (by simp [egC]) (Nat.lt_succ_self _) ls hl
  exact cut9 ((w * g - 0) + 1) 0 0 (by omega) (by rfl) (Nat.lt_succ_self _) ls hl
set_option maxHeartbeats 4000000 in
set_option maxRecDepth 100000 in
theorem met_X3_mixes (l : Launch) (D : TG) (E : TE) (x : Int64) (y : Int64) : tRd l yX3_mixes cX3_mixes 4 (some .long) 0 0 [.long x, .long y] D E [] tY0 (some (.long (31 * x + y))) := by
  refine tu_rd (by decide +kernel) (Nat.le_of_ble_eq_true rfl) ?_
  intro p0 e0 s0 m0 below meth c0 A ls args Q hag hQ C hK hX hY hP hD hA hAe hl
  obtain ⟨kx, kb, hml, hown, hts, -⟩ := id C
  have hS : va_S A s0.heap s0.heap [] := va_S.rf
  have hl : lv_has ls 4 [(0, .long x), (2, .long y)] := hl
  refine lv_ldc2 (v := 31) kx kb hown (hts _ q1678) dX3_mixes_0 ?_
  refine lv_lload_n kx kb dX3_mixes_3 rfl (lv_at hl 0 rfl) ?_
  refine lv_lmul kx kb dX3_mixes_4 ?_
  refine lv_lload_n kx kb dX3_mixes_5 rfl (lv_at hl 1 rfl) ?_
  refine lv_ladd kx kb dX3_mixes_6 ?_
  subst hQ
  exact tr_lret C rfl rfl dX3_mixes_7
