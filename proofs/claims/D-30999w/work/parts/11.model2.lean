set_option maxRecDepth 100000
set_option maxHeartbeats 4000000 in
set_option maxRecDepth 100000 in
theorem met_X3_right (l : Launch) (D : TG) (E : TE) (o : Nat) (b1 : Nat) (b2 : Nat) (b3 : Nat) (b4 : Nat) (b5 : Nat) (b6 : Nat) (w : Nat) (g : Nat) (ik : Nat → Bool) (st : Nat → Bool) (kp : Nat → Bool) (go : Nat → Bool) (dp : Nat → Int) (pt : Nat → Int) (b : Bool) (k : Int) (hw : 1 ≤ w ∧ w ≤ 32) (hg : 1 ≤ g ∧ g ≤ 32) (rk : 0 < k ∧ k < 2147483648) : tMet l yX3_right cX3_right 3 (some .boolean) 0 0 (0) (0) [.ref o, .int (zI b), .int (iI k)] D E [(o, .inr (0, [.int (iI 0), .ref b1, .ref b2, .ref b3, .ref b4, .ref b5, .ref b6, .int (iI (w : Int)), .int (iI (g : Int))])), (b1, .inl (D.2 0, 1024, .inl (fun x_ => zI (ik x_)))), (b2, .inl (D.2 0, 1024, .inl (fun x_ => zI (st x_)))), (b3, .inl (D.2 0, 1024, .inl (fun x_ => zI (kp x_)))), (b4, .inl (D.2 0, 1024, .inl (fun x_ => zI (go x_)))), (b5, .inl (D.2 1, 1024, .inl (fun x_ => iI (dp x_)))), (b6, .inl (D.2 1, 1024, .inl (fun x_ => iI (pt x_))))] tY0 (S := Int) (fun u_ => u_ = if b then 0 else k) (fun u_ => some (.int (zI b))) (fun u_ => [(o, .inr (0, [.int (iI u_), .ref b1, .ref b2, .ref b3, .ref b4, .ref b5, .ref b6, .int (iI (w : Int)), .int (iI (g : Int))])), (b1, .inl (D.2 0, 1024, .inl (fun x_ => zI (ik x_)))), (b2, .inl (D.2 0, 1024, .inl (fun x_ => zI (st x_)))), (b3, .inl (D.2 0, 1024, .inl (fun x_ => zI (kp x_)))), (b4, .inl (D.2 0, 1024, .inl (fun x_ => zI (go x_)))), (b5, .inl (D.2 1, 1024, .inl (fun x_ => iI (dp x_)))), (b6, .inl (D.2 1, 1024, .inl (fun x_ => iI (pt x_))))]) := by
  refine tu_met (by decide +kernel) (Nat.le_of_ble_eq_true rfl) ?_
  intro p0 e0 s0 m0 below meth c0 A ls args Q hag hQ C hK hX hY hP hD hA hAe hl
  obtain ⟨kx, kb, hml, hown, hts, -⟩ := id C
  have hS : va_S A s0.heap s0.heap [] := va_S.rf
  have hl : lv_has ls 3 [(0, .ref o), (1, .int (zI b)), (2, .int (iI k))] := hl
  have hwg := wg_le hw hg
  refine lv_aload_n kx kb dX3_right_0 rfl (lv_at hl 0 rfl) ?_
  refine va_get (D := D.1) (ci := 0) (v := .int (iI 0)) (C := RX3) (T := TX3) (N := 9) kx kb hts in_X3 hown hK hP 0 rfl rfl 0 (by decide) (hts _ q1370) (fun _ h9 => h9) rfl dX3_right_1 ?_
  refine ti_if_ne (tgt := 16) kx kb (by omega) dX3_right_4 (by decide) (fun h4 => ?_) (fun h4 => ?_)
  · exact absurd rfl h4
  · refine lv_iload_n kx kb dX3_right_7 rfl (lv_at hl 1 rfl) ?_
    refine tz_if_ne (tgt := 16) kx kb dX3_right_8 (by decide) (fun h8 => ?_) (fun h8 => ?_)
    · refine lv_aload_n kx kb dX3_right_16 rfl (lv_at hl 0 rfl) ?_
      refine va_get (D := D.1) (ci := 0) (v := .int (iI 0)) (C := RX3) (T := TX3) (N := 9) kx kb hts in_X3 hown hK hP 0 rfl rfl 0 (by decide) (hts _ q1370) (fun _ h9 => h9) rfl dX3_right_17 ?_
      refine ti_if_ne (tgt := 27) kx kb (by omega) dX3_right_20 (by decide) (fun h20 => ?_) (fun h20 => ?_)
      · exact absurd rfl h20
      · refine lv_iconst (v := iI 1) kx kb dX3_right_23 rfl ?_
        refine lv_goto (tgt := 28) kx kb dX3_right_24 (by decide) ?_
        refine W.eq (g2 := F0 m0 28 ls [.int (zI true)]) rfl ?_
        subst hQ
        exact tm_zret C 0 (by simp [h8]) hP hD hS (show 0 ≤ 0 from by omega) (show 0 ≤ 0 from by omega) (by simp [h8]) rfl dX3_right_28
    · refine lv_aload_n kx kb dX3_right_11 rfl (lv_at hl 0 rfl) ?_
      refine lv_iload_n kx kb dX3_right_12 rfl (lv_at hl 2 rfl) ?_
      refine va_put (D := D.1) (ci := 0) (v := .int (iI k)) (ty := .int) (C := RX3) (T := TX3) (N := 9) kx kb hts in_X3 tyX3 tyX3_ok nmX3 hown hK hP hD hS 0 rfl rfl 0 (by decide) (hts _ q1370) (fun _ h9 => h9) rfl (by decide +kernel) rfl rfl (Nat.le_of_ble_eq_true rfl) dX3_right_13 (fun H locs hP hD hS => ?_)
      have hP : va_P D.1 clAll [(o, .inr (0, [.int (iI k), .ref b1, .ref b2, .ref b3, .ref b4, .ref b5, .ref b6, .int (iI (w : Int)), .int (iI (g : Int))])), (b1, .inl (D.2 0, 1024, .inl (fun x_ => zI (ik x_)))), (b2, .inl (D.2 0, 1024, .inl (fun x_ => zI (st x_)))), (b3, .inl (D.2 0, 1024, .inl (fun x_ => zI (kp x_)))), (b4, .inl (D.2 0, 1024, .inl (fun x_ => zI (go x_)))), (b5, .inl (D.2 1, 1024, .inl (fun x_ => iI (dp x_)))), (b6, .inl (D.2 1, 1024, .inl (fun x_ => iI (pt x_))))] H := hP
      have hD : va_D A [(o, .inr (0, [.int (iI k), .ref b1, .ref b2, .ref b3, .ref b4, .ref b5, .ref b6, .int (iI (w : Int)), .int (iI (g : Int))])), (b1, .inl (D.2 0, 1024, .inl (fun x_ => zI (ik x_)))), (b2, .inl (D.2 0, 1024, .inl (fun x_ => zI (st x_)))), (b3, .inl (D.2 0, 1024, .inl (fun x_ => zI (kp x_)))), (b4, .inl (D.2 0, 1024, .inl (fun x_ => zI (go x_)))), (b5, .inl (D.2 1, 1024, .inl (fun x_ => iI (dp x_)))), (b6, .inl (D.2 1, 1024, .inl (fun x_ => iI (pt x_))))] := hD
      refine lv_aload_n kx kb dX3_right_16 rfl (lv_at hl 0 rfl) ?_
      refine va_get (D := D.1) (ci := 0) (v := .int (iI k)) (C := RX3) (T := TX3) (N := 9) kx kb hts in_X3 hown hK hP 0 rfl rfl 0 (by decide) (hts _ q1370) (fun _ h9 => h9) rfl dX3_right_17 ?_
      refine ti_if_ne (tgt := 27) kx kb (by omega) dX3_right_20 (by decide) (fun h20 => ?_) (fun h20 => ?_)
      · refine lv_iconst (v := iI 0) kx kb dX3_right_27 rfl ?_
        refine W.eq (g2 := F0 m0 28 ls [.int (zI false)]) rfl ?_
        subst hQ
        exact tm_zret C k (by simp [h8]) hP hD hS (show 0 ≤ 0 from by omega) (show 0 ≤ 0 from by omega) (by simp [h8]) rfl dX3_right_28
      · exact absurd h20 (by omega)
set_option maxHeartbeats 4000000 in
set_option maxRecDepth 100000 in
theorem met_X3_toldOf (l : Launch) (D : TG) (E : TE) (o : Nat) (b1 : Nat) (b2 : Nat) (b3 : Nat) (b4 : Nat) (b5 : Nat) (b6 : Nat) (thr : Int) (w : Nat) (g : Nat) (ik : Nat → Bool) (st : Nat → Bool) (kp : Nat → Bool) (go : Nat → Bool) (dp : Nat → Int) (pt : Nat → Int) (v : Int) (hw : 1 ≤ w ∧ w ≤ 32) (hg : 1 ≤ g ∧ g ≤ 32) : tMet l yX3_toldOf cX3_toldOf 2 (some .int) 0 0 (0) (0) [.ref o, .int (iI v)] D E [(o, .inr (0, [.int (iI thr), .ref b1, .ref b2, .ref b3, .ref b4, .ref b5, .ref b6, .int (iI (w : Int)), .int (iI (g : Int))])), (b1, .inl (D.2 0, 1024, .inl (fun x_ => zI (ik x_)))), (b2, .inl (D.2 0, 1024, .inl (fun x_ => zI (st x_)))), (b3, .inl (D.2 0, 1024, .inl (fun x_ => zI (kp x_)))), (b4, .inl (D.2 0, 1024, .inl (fun x_ => zI (go x_)))), (b5, .inl (D.2 1, 1024, .inl (fun x_ => iI (dp x_)))), (b6, .inl (D.2 1, 1024, .inl (fun x_ => iI (pt x_))))] tY0 (S := Unit) (fun u_ => True) (fun u_ => some (.int (iI v))) (fun u_ => [(o, .inr (0, [.int (iI 0), .ref b1, .ref b2, .ref b3, .ref b4, .ref b5, .ref b6, .int (iI (w : Int)), .int (iI (g : Int))])), (b1, .inl (D.2 0, 1024, .inl (fun x_ => zI (ik x_)))), (b2, .inl (D.2 0, 1024, .inl (fun x_ => zI (st x_)))), (b3, .inl (D.2 0, 1024, .inl (fun x_ => zI (kp x_)))), (b4, .inl (D.2 0, 1024, .inl (fun x_ => zI (go x_)))), (b5, .inl (D.2 1, 1024, .inl (fun x_ => iI (dp x_)))), (b6, .inl (D.2 1, 1024, .inl (fun x_ => iI (pt x_))))]) := by
  refine tu_met (by decide +kernel) (Nat.le_of_ble_eq_true rfl) ?_
  intro p0 e0 s0 m0 below meth c0 A ls args Q hag hQ C hK hX hY hP hD hA hAe hl
  obtain ⟨kx, kb, hml, hown, hts, -⟩ := id C
  have hS : va_S A s0.heap s0.heap [] := va_S.rf
  have hl : lv_has ls 2 [(0, .ref o), (1, .int (iI v))] := hl
  have hwg := wg_le hw hg
  refine lv_aload_n kx kb dX3_toldOf_0 rfl (lv_at hl 0 rfl) ?_
  refine lv_iconst (v := iI 0) kx kb dX3_toldOf_1 rfl ?_
  refine va_put (D := D.1) (ci := 0) (v := .int (iI 0)) (ty := .int) (C := RX3) (T := TX3) (N := 9) kx kb hts in_X3 tyX3 tyX3_ok nmX3 hown hK hP hD hS 0 rfl rfl 0 (by decide) (hts _ q1370) (fun _ h9 => h9) rfl (by decide +kernel) rfl rfl (Nat.le_of_ble_eq_true rfl) dX3_toldOf_2 (fun H locs hP hD hS => ?_)
  have hP : va_P D.1 clAll [(o, .inr (0, [.int (iI 0), .ref b1, .ref b2, .ref b3, .ref b4, .ref b5, .ref b6, .int (iI (w : Int)), .int (iI (g : Int))])), (b1, .inl (D.2 0, 1024, .inl (fun x_ => zI (ik x_)))), (b2, .inl (D.2 0, 1024, .inl (fun x_ => zI (st x_)))), (b3, .inl (D.2 0, 1024, .inl (fun x_ => zI (kp x_)))), (b4, .inl (D.2 0, 1024, .inl (fun x_ => zI (go x_)))), (b5, .inl (D.2 1, 1024, .inl (fun x_ => iI (dp x_)))), (b6, .inl (D.2 1, 1024, .inl (fun x_ => iI (pt x_))))] H := hP
  have hD : va_D A [(o, .inr (0, [.int (iI 0), .ref b1, .ref b2, .ref b3, .ref b4, .ref b5, .ref b6, .int (iI (w : Int)), .int (iI (g : Int))])), (b1, .inl (D.2 0, 1024, .inl (fun x_ => zI (ik x_)))), (b2, .inl (D.2 0, 1024, .inl (fun x_ => zI (st x_)))), (b3, .inl (D.2 0, 1024, .inl (fun x_ => zI (kp x_)))), (b4, .inl (D.2 0, 1024, .inl (fun x_ => zI (go x_)))), (b5, .inl (D.2 1, 1024, .inl (fun x_ => iI (dp x_)))), (b6, .inl (D.2 1, 1024, .inl (fun x_ => iI (pt x_))))] := hD
  refine lv_iload_n kx kb dX3_toldOf_5 rfl (lv_at hl 1 rfl) ?_
  subst hQ
  exact tm_iret C () trivial hP hD hS (show 0 ≤ 0 from by omega) (show 0 ≤ 0 from by omega) rfl rfl dX3_toldOf_6
set_option maxHeartbeats 4000000 in
set_option maxRecDepth 100000 in
theorem met_X3_begins (l : Launch) (D : TG) (E : TE) (o : Nat) (b1 : Nat) (b2 : Nat) (b3 : Nat) (b4 : Nat) (b5 : Nat) (b6 : Nat) (thr : Int) (w : Nat) (g : Nat) (ik : Nat → Bool) (st : Nat → Bool) (kp : Nat → Bool) (go : Nat → Bool) (dp : Nat → Int) (pt : Nat → Int) (w2 : Nat) (g2 : Nat) : tMet l yX3_begins cX3_begins 4 none 0 0 (0) (0) [.ref o, .int (iI (w2 : Int)), .int (iI (g2 : Int))] D E [(o, .inr (0, [.int (iI thr), .ref b1, .ref b2, .ref b3, .ref b4, .ref b5, .ref b6, .int (iI (w : Int)), .int (iI (g : Int))])), (b1, .inl (D.2 0, 1024, .inl (fun x_ => zI (ik x_)))), (b2, .inl (D.2 0, 1024, .inl (fun x_ => zI (st x_)))), (b3, .inl (D.2 0, 1024, .inl (fun x_ => zI (kp x_)))), (b4, .inl (D.2 0, 1024, .inl (fun x_ => zI (go x_)))), (b5, .inl (D.2 1, 1024, .inl (fun x_ => iI (dp x_)))), (b6, .inl (D.2 1, 1024, .inl (fun x_ => iI (pt x_))))] tY0 (S := Unit) (fun u_ => True) (fun u_ => none) (fun u_ => [(o, .inr (0, [.int (iI thr), .ref b1, .ref b2, .ref b3, .ref b4, .ref b5, .ref b6, .int (iI (w2 : Int)), .int (iI (g2 : Int))])), (b1, .inl (D.2 0, 1024, .inl (fun x_ => zI ((fun _ => false) x_)))), (b2, .inl (D.2 0, 1024, .inl (fun x_ => zI ((fun _ => false) x_)))), (b3, .inl (D.2 0, 1024, .inl (fun x_ => zI (kp x_)))), (b4, .inl (D.2 0, 1024, .inl (fun x_ => zI (go x_)))), (b5, .inl (D.2 1, 1024, .inl (fun x_ => iI (dp x_)))), (b6, .inl (D.2 1, 1024, .inl (fun x_ => iI (pt x_))))]) := by
  refine tu_met (by decide +kernel) (Nat.le_of_ble_eq_true rfl) ?_
  intro p0 e0 s0 m0 below meth c0 A ls args Q hag hQ C hK hX hY hP hD hA hAe hl
  obtain ⟨kx, kb, hml, hown, hts, -⟩ := id C
  have hS : va_S A s0.heap s0.heap [] := va_S.rf
  have hl : lv_has ls 4 [(0, .ref o), (1, .int (iI (w2 : Int))), (2, .int (iI (g2 : Int)))] := hl
  refine lv_aload_n kx kb dX3_begins_0 rfl (lv_at hl 0 rfl) ?_
  refine lv_iload_n kx kb dX3_begins_1 rfl (lv_at hl 1 rfl) ?_
  refine va_put (D := D.1) (ci := 0) (v := .int (iI (w2 : Int))) (ty := .int) (C := RX3) (T := TX3) (N := 9) kx kb hts in_X3 tyX3 tyX3_ok nmX3 hown hK hP hD hS 0 rfl rfl 7 (by decide) (hts _ q1377) (fun _ h9 => h9) rfl (by decide +kernel) rfl rfl (Nat.le_of_ble_eq_true rfl) dX3_begins_2 (fun H locs hP hD hS => ?_)
  have hP : va_P D.1 clAll [(o, .inr (0, [.int (iI thr), .ref b1, .ref b2, .ref b3, .ref b4, .ref b5, .ref b6, .int (iI (w2 : Int)), .int (iI (g : Int))])), (b1, .inl (D.2 0, 1024, .inl (fun x_ => zI (ik x_)))), (b2, .inl (D.2 0, 1024, .inl (fun x_ => zI (st x_)))), (b3, .inl (D.2 0, 1024, .inl (fun x_ => zI (kp x_)))), (b4, .inl (D.2 0, 1024, .inl (fun x_ => zI (go x_)))), (b5, .inl (D.2 1, 1024, .inl (fun x_ => iI (dp x_)))), (b6, .inl (D.2 1, 1024, .inl (fun x_ => iI (pt x_))))] H := hP
  have hD : va_D A [(o, .inr (0, [.int (iI thr), .ref b1, .ref b2, .ref b3, .ref b4, .ref b5, .ref b6, .int (iI (w2 : Int)), .int (iI (g : Int))])), (b1, .inl (D.2 0, 1024, .inl (fun x_ => zI (ik x_)))), (b2, .inl (D.2 0, 1024, .inl (fun x_ => zI (st x_)))), (b3, .inl (D.2 0, 1024, .inl (fun x_ => zI (kp x_)))), (b4, .inl (D.2 0, 1024, .inl (fun x_ => zI (go x_)))), (b5, .inl (D.2 1, 1024, .inl (fun x_ => iI (dp x_)))), (b6, .inl (D.2 1, 1024, .inl (fun x_ => iI (pt x_))))] := hD
  refine lv_aload_n kx kb dX3_begins_5 rfl (lv_at hl 0 rfl) ?_
  refine lv_iload_n kx kb dX3_begins_6 rfl (lv_at hl 2 rfl) ?_
  refine va_put (D := D.1) (ci := 0) (v := .int (iI (g2 : Int))) (ty := .int) (C := RX3) (T := TX3) (N := 9) kx kb hts in_X3 tyX3 tyX3_ok nmX3 hown hK hP hD hS 0 rfl rfl 8 (by decide) (hts _ q1378) (fun _ h9 => h9) rfl (by decide +kernel) rfl rfl (Nat.le_of_ble_eq_true rfl) dX3_begins_7 (fun H locs hP hD hS => ?_)
  have hP : va_P D.1 clAll [(o, .inr (0, [.int (iI thr), .ref b1, .ref b2, .ref b3, .ref b4, .ref b5, .ref b6, .int (iI (w2 : Int)), .int (iI (g2 : Int))])), (b1, .inl (D.2 0, 1024, .inl (fun x_ => zI (ik x_)))), (b2, .inl (D.2 0, 1024, .inl (fun x_ => zI (st x_)))), (b3, .inl (D.2 0, 1024, .inl (fun x_ => zI (kp x_)))), (b4, .inl (D.2 0, 1024, .inl (fun x_ => zI (go x_)))), (b5, .inl (D.2 1, 1024, .inl (fun x_ => iI (dp x_)))), (b6, .inl (D.2 1, 1024, .inl (fun x_ => iI (pt x_))))] H := hP
  have hD : va_D A [(o, .inr (0, [.int (iI thr), .ref b1, .ref b2, .ref b3, .ref b4, .ref b5, .ref b6, .int (iI (w2 : Int)), .int (iI (g2 : Int))])), (b1, .inl (D.2 0, 1024, .inl (fun x_ => zI (ik x_)))), (b2, .inl (D.2 0, 1024, .inl (fun x_ => zI (st x_)))), (b3, .inl (D.2 0, 1024, .inl (fun x_ => zI (kp x_)))), (b4, .inl (D.2 0, 1024, .inl (fun x_ => zI (go x_)))), (b5, .inl (D.2 1, 1024, .inl (fun x_ => iI (dp x_)))), (b6, .inl (D.2 1, 1024, .inl (fun x_ => iI (pt x_))))] := hD
  refine lv_iconst (v := iI 0) kx kb dX3_begins_10 rfl ?_
  refine lv_istore_n (lv' := [(3, .int (iI 0)), (0, .ref o), (1, .int (iI (w2 : Int))), (2, .int (iI (g2 : Int)))]) kx kb dX3_begins_11 rfl hl (by decide) rfl (fun ls hl => ?_)
  have cut12 : ∀ (fuel : Nat) (i : Nat) (k1 : Nat → Bool) (k2 : Nat → Bool), (i ≤ 1024) → (k1 = flw (fun _ => false) ik i) → (k2 = flw (fun _ => false) st i) → (1024 - i) < fuel → ∀ (H : Heap) (locs : List Loc), va_P D.1 clAll [(o, .inr (0, [.int (iI thr), .ref b1, .ref b2, .ref b3, .ref b4, .ref b5, .ref b6, .int (iI (w2 : Int)), .int (iI (g2 : Int))])), (b1, .inl (D.2 0, 1024, .inl (fun x_ => zI (k1 x_)))), (b2, .inl (D.2 0, 1024, .inl (fun x_ => zI (k2 x_)))), (b3, .inl (D.2 0, 1024, .inl (fun x_ => zI (kp x_)))), (b4, .inl (D.2 0, 1024, .inl (fun x_ => zI (go x_)))), (b5, .inl (D.2 1, 1024, .inl (fun x_ => iI (dp x_)))), (b6, .inl (D.2 1, 1024, .inl (fun x_ => iI (pt x_))))] H → va_D A [(o, .inr (0, [.int (iI thr), .ref b1, .ref b2, .ref b3, .ref b4, .ref b5, .ref b6, .int (iI (w2 : Int)), .int (iI (g2 : Int))])), (b1, .inl (D.2 0, 1024, .inl (fun x_ => zI (k1 x_)))), (b2, .inl (D.2 0, 1024, .inl (fun x_ => zI (k2 x_)))), (b3, .inl (D.2 0, 1024, .inl (fun x_ => zI (kp x_)))), (b4, .inl (D.2 0, 1024, .inl (fun x_ => zI (go x_)))), (b5, .inl (D.2 1, 1024, .inl (fun x_ => iI (dp x_)))), (b6, .inl (D.2 1, 1024, .inl (fun x_ => iI (pt x_))))] → va_S A s0.heap H locs → ∀ ls : Array Slot, lv_has ls 4 [(3, .int (iI (i : Int))), (0, .ref o), (1, .int (iI (w2 : Int))), (2, .int (iI (g2 : Int)))] → W p0 l e0 ({ frames := 0, cells := 0, slots := 0, locals := 0 } : Room) s0 m0 args below meth c0 H locs (0) (0) Q (F0 m0 12 ls []) := by
    intro fuel
    induction fuel with
    | zero =>
      intro i k1 k2 hi hk1 hk2 hfuel12
      exact absurd hfuel12 (Nat.not_lt_zero _)
    | succ fuel ih12 =>
      intro i k1 k2 hi hk1 hk2 hfuel12 H locs hP hD hS ls hl
      refine lv_iload_n kx kb dX3_begins_12 rfl (lv_at hl 0 rfl) ?_
      refine lv_sipush (v := iI 1024) kx kb dX3_begins_13 rfl ?_
      refine ti_icmp_ge (tgt := 39) kx kb (by omega) dX3_begins_16 (by decide) (fun h16 => ?_) (fun h16 => ?_)
      · have hP := tx_arrZ (g := fun _ => false) 1 rfl (fun j hj => by rw [hk1]; exact if_pos (by omega)) hP
        have hP : va_P D.1 clAll [(o, .inr (0, [.int (iI thr), .ref b1, .ref b2, .ref b3, .ref b4, .ref b5, .ref b6, .int (iI (w2 : Int)), .int (iI (g2 : Int))])), (b1, .inl (D.2 0, 1024, .inl (fun x_ => zI ((fun _ => false) x_)))), (b2, .inl (D.2 0, 1024, .inl (fun x_ => zI (k2 x_)))), (b3, .inl (D.2 0, 1024, .inl (fun x_ => zI (kp x_)))), (b4, .inl (D.2 0, 1024, .inl (fun x_ => zI (go x_)))), (b5, .inl (D.2 1, 1024, .inl (fun x_ => iI (dp x_)))), (b6, .inl (D.2 1, 1024, .inl (fun x_ => iI (pt x_))))] H := hP
        have hD : va_D A [(o, .inr (0, [.int (iI thr), .ref b1, .ref b2, .ref b3, .ref b4, .ref b5, .ref b6, .int (iI (w2 : Int)), .int (iI (g2 : Int))])), (b1, .inl (D.2 0, 1024, .inl (fun x_ => zI ((fun _ => false) x_)))), (b2, .inl (D.2 0, 1024, .inl (fun x_ => zI (k2 x_)))), (b3, .inl (D.2 0, 1024, .inl (fun x_ => zI (kp x_)))), (b4, .inl (D.2 0, 1024, .inl (fun x_ => zI (go x_)))), (b5, .inl (D.2 1, 1024, .inl (fun x_ => iI (dp x_)))), (b6, .inl (D.2 1, 1024, .inl (fun x_ => iI (pt x_))))] := hD.set (p := 1) rfl
        have hP := tx_arrZ (g := fun _ => false) 2 rfl (fun j hj => by rw [hk2]; exact if_pos (by omega)) hP
        have hP : va_P D.1 clAll [(o, .inr (0, [.int (iI thr), .ref b1, .ref b2, .ref b3, .ref b4, .ref b5, .ref b6, .int (iI (w2 : Int)), .int (iI (g2 : Int))])), (b1, .inl (D.2 0, 1024, .inl (fun x_ => zI ((fun _ => false) x_)))), (b2, .inl (D.2 0, 1024, .inl (fun x_ => zI ((fun _ => false) x_)))), (b3, .inl (D.2 0, 1024, .inl (fun x_ => zI (kp x_)))), (b4, .inl (D.2 0, 1024, .inl (fun x_ => zI (go x_)))), (b5, .inl (D.2 1, 1024, .inl (fun x_ => iI (dp x_)))), (b6, .inl (D.2 1, 1024, .inl (fun x_ => iI (pt x_))))] H := hP
        have hD : va_D A [(o, .inr (0, [.int (iI thr), .ref b1, .ref b2, .ref b3, .ref b4, .ref b5, .ref b6, .int (iI (w2 : Int)), .int (iI (g2 : Int))])), (b1, .inl (D.2 0, 1024, .inl (fun x_ => zI ((fun _ => false) x_)))), (b2, .inl (D.2 0, 1024, .inl (fun x_ => zI ((fun _ => false) x_)))), (b3, .inl (D.2 0, 1024, .inl (fun x_ => zI (kp x_)))), (b4, .inl (D.2 0, 1024, .inl (fun x_ => zI (go x_)))), (b5, .inl (D.2 1, 1024, .inl (fun x_ => iI (dp x_)))), (b6, .inl (D.2 1, 1024, .inl (fun x_ => iI (pt x_))))] := hD.set (p := 2) rfl
        subst hQ
        exact tm_vret C () trivial hP hD hS (show 0 ≤ 0 from by omega) (show 0 ≤ 0 from by omega) rfl rfl dX3_begins_39
      · refine lv_aload_n kx kb dX3_begins_19 rfl (lv_at hl 1 rfl) ?_
        refine va_get (D := D.1) (ci := 0) (v := .ref b1) (C := RX3) (T := TX3) (N := 9) kx kb hts in_X3 hown hK hP 0 rfl rfl 1 (by decide) (hts _ q1371) (fun _ h9 => h9) rfl dX3_begins_20 ?_
        refine lv_iload_n kx kb dX3_begins_23 rfl (lv_at hl 0 rfl) ?_
        refine lv_iconst (v := iI 0) kx kb dX3_begins_24 rfl ?_
        refine W.eq (g2 := F0 m0 25 ls [.int (zI false), .int (iI (i : Int)), .ref b1]) rfl ?_
        refine ta_zast C hK hP hD hS 1 rfl i (by omega) dX3_begins_25 (fun H locs hP hD hS => ?_)
        have hP : va_P D.1 clAll [(o, .inr (0, [.int (iI thr), .ref b1, .ref b2, .ref b3, .ref b4, .ref b5, .ref b6, .int (iI (w2 : Int)), .int (iI (g2 : Int))])), (b1, .inl (D.2 0, 1024, .inl (fun x_ => zI ((va_up k1 i false) x_)))), (b2, .inl (D.2 0, 1024, .inl (fun x_ => zI (k2 x_)))), (b3, .inl (D.2 0, 1024, .inl (fun x_ => zI (kp x_)))), (b4, .inl (D.2 0, 1024, .inl (fun x_ => zI (go x_)))), (b5, .inl (D.2 1, 1024, .inl (fun x_ => iI (dp x_)))), (b6, .inl (D.2 1, 1024, .inl (fun x_ => iI (pt x_))))] H := hP
        have hD : va_D A [(o, .inr (0, [.int (iI thr), .ref b1, .ref b2, .ref b3, .ref b4, .ref b5, .ref b6, .int (iI (w2 : Int)), .int (iI (g2 : Int))])), (b1, .inl (D.2 0, 1024, .inl (fun x_ => zI ((va_up k1 i false) x_)))), (b2, .inl (D.2 0, 1024, .inl (fun x_ => zI (k2 x_)))), (b3, .inl (D.2 0, 1024, .inl (fun x_ => zI (kp x_)))), (b4, .inl (D.2 0, 1024, .inl (fun x_ => zI (go x_)))), (b5, .inl (D.2 1, 1024, .inl (fun x_ => iI (dp x_)))), (b6, .inl (D.2 1, 1024, .inl (fun x_ => iI (pt x_))))] := hD
        refine lv_aload_n kx kb dX3_begins_26 rfl (lv_at hl 1 rfl) ?_
        refine va_get (D := D.1) (ci := 0) (v := .ref b2) (C := RX3) (T := TX3) (N := 9) kx kb hts in_X3 hown hK hP 0 rfl rfl 2 (by decide) (hts _ q1372) (fun _ h9 => h9) rfl dX3_begins_27 ?_
        refine lv_iload_n kx kb dX3_begins_30 rfl (lv_at hl 0 rfl) ?_
        refine lv_iconst (v := iI 0) kx kb dX3_begins_31 rfl ?_
        refine W.eq (g2 := F0 m0 32 ls [.int (zI false), .int (iI (i : Int)), .ref b2]) rfl ?_
        refine ta_zast C hK hP hD hS 2 rfl i (by omega) dX3_begins_32 (fun H locs hP hD hS => ?_)
        have hP : va_P D.1 clAll [(o, .inr (0, [.int (iI thr), .ref b1, .ref b2, .ref b3, .ref b4, .ref b5, .ref b6, .int (iI (w2 : Int)), .int (iI (g2 : Int))])), (b1, .inl (D.2 0, 1024, .inl (fun x_ => zI ((va_up k1 i false) x_)))), (b2, .inl (D.2 0, 1024, .inl (fun x_ => zI ((va_up k2 i false) x_)))), (b3, .inl (D.2 0, 1024, .inl (fun x_ => zI (kp x_)))), (b4, .inl (D.2 0, 1024, .inl (fun x_ => zI (go x_)))), (b5, .inl (D.2 1, 1024, .inl (fun x_ => iI (dp x_)))), (b6, .inl (D.2 1, 1024, .inl (fun x_ => iI (pt x_))))] H := hP
        have hD : va_D A [(o, .inr (0, [.int (iI thr), .ref b1, .ref b2, .ref b3, .ref b4, .ref b5, .ref b6, .int (iI (w2 : Int)), .int (iI (g2 : Int))])), (b1, .inl (D.2 0, 1024, .inl (fun x_ => zI ((va_up k1 i false) x_)))), (b2, .inl (D.2 0, 1024, .inl (fun x_ => zI ((va_up k2 i false) x_)))), (b3, .inl (D.2 0, 1024, .inl (fun x_ => zI (kp x_)))), (b4, .inl (D.2 0, 1024, .inl (fun x_ => zI (go x_)))), (b5, .inl (D.2 1, 1024, .inl (fun x_ => iI (dp x_)))), (b6, .inl (D.2 1, 1024, .inl (fun x_ => iI (pt x_))))] := hD
        refine ti_iinc (a := (i : Int)) (lv' := [(3, .int (iI ((i : Int) + 1))), (0, .ref o), (1, .int (iI (w2 : Int))), (2, .int (iI (g2 : Int)))]) kx kb dX3_begins_33 hl (k := 0) rfl (by decide) rfl (fun ls hl => ?_)
        refine lv_goto (tgt := 12) kx kb dX3_begins_36 (by decide) ?_
        exact ih12 (i + 1) (va_up k1 i false) (va_up k2 i false) (by omega) (by rw [hk1]; exact flw_s (fun _ => false) ik i) (by rw [hk2]; exact flw_s (fun _ => false) st i) (by omega) H locs hP hD hS ls hl
  exact cut12 ((1024 - 0) + 1) 0 ik st (by omega) (by rw [flw_0]) (by rw [flw_0]) (Nat.lt_succ_self _) H locs hP hD hS ls hl
set_option maxHeartbeats 4000000 in
set_option maxRecDepth 100000 in
theorem met_X3_cell (l : Launch) (D : TG) (E : TE) (o : Nat) (b1 : Nat) (b2 : Nat) (b3 : Nat) (b4 : Nat) (b5 : Nat) (b6 : Nat) (thr : Int) (w : Nat) (g : Nat) (ik : Nat → Bool) (st : Nat → Bool) (kp : Nat → Bool) (go : Nat → Bool) (dp : Nat → Int) (pt : Nat → Int) (x : Int) (y : Int) (hw : 1 ≤ w ∧ w ≤ 32) (hg : 1 ≤ g ∧ g ≤ 32) (rx : -2147483648 ≤ x ∧ x < 2147483648) (ry : -2147483648 ≤ y ∧ y < 2147483648) : tMet l yX3_cell cX3_cell 3 (some .boolean) 2 44 (0) (0) [.ref o, .int (iI x), .int (iI y)] D E [(o, .inr (0, [.int (iI thr), .ref b1, .ref b2, .ref b3, .ref b4, .ref b5, .ref b6, .int (iI (w : Int)), .int (iI (g : Int))])), (b1, .inl (D.2 0, 1024, .inl (fun x_ => zI (ik x_)))), (b2, .inl (D.2 0, 1024, .inl (fun x_ => zI (st x_)))), (b3, .inl (D.2 0, 1024, .inl (fun x_ => zI (kp x_)))), (b4, .inl (D.2 0, 1024, .inl (fun x_ => zI (go x_)))), (b5, .inl (D.2 1, 1024, .inl (fun x_ => iI (dp x_)))), (b6, .inl (D.2 1, 1024, .inl (fun x_ => iI (pt x_))))] tY0 (S := Int) (fun u_ => u_ = if isBd w g x y then 0 else 1) (fun u_ => some (.int (zI (isBd w g x y)))) (fun u_ => [(o, .inr (0, [.int (iI u_), .ref b1, .ref b2, .ref b3, .ref b4, .ref b5, .ref b6, .int (iI (w : Int)), .int (iI (g : Int))])), (b1, .inl (D.2 0, 1024, .inl (fun x_ => zI (ik x_)))), (b2, .inl (D.2 0, 1024, .inl (fun x_ => zI (st x_)))), (b3, .inl (D.2 0, 1024, .inl (fun x_ => zI (kp x_)))), (b4, .inl (D.2 0, 1024, .inl (fun x_ => zI (go x_)))), (b5, .inl (D.2 1, 1024, .inl (fun x_ => iI (dp x_)))), (b6, .inl (D.2 1, 1024, .inl (fun x_ => iI (pt x_))))]) := by
  refine tu_met (by decide +kernel) (Nat.le_of_ble_eq_true rfl) ?_
  intro p0 e0 s0 m0 below meth c0 A ls args Q hag hQ C hK hX hY hP hD hA hAe hl
  obtain ⟨kx, kb, hml, hown, hts, -⟩ := id C
  have hS : va_S A s0.heap s0.heap [] := va_S.rf
  have hl : lv_has ls 3 [(0, .ref o), (1, .int (iI x)), (2, .int (iI y))] := hl
  have hwg := wg_le hw hg
  refine lv_aload_n kx kb dX3_cell_0 rfl (lv_at hl 0 rfl) ?_
  refine lv_iconst (v := iI 0) kx kb dX3_cell_1 rfl ?_
  refine va_put (D := D.1) (ci := 0) (v := .int (iI 0)) (ty := .int) (C := RX3) (T := TX3) (N := 9) kx kb hts in_X3 tyX3 tyX3_ok nmX3 hown hK hP hD hS 0 rfl rfl 0 (by decide) (hts _ q1370) (fun _ h9 => h9) rfl (by decide +kernel) rfl rfl (Nat.le_of_ble_eq_true rfl) dX3_cell_2 (fun H locs hP hD hS => ?_)
  have hP : va_P D.1 clAll [(o, .inr (0, [.int (iI 0), .ref b1, .ref b2, .ref b3, .ref b4, .ref b5, .ref b6, .int (iI (w : Int)), .int (iI (g : Int))])), (b1, .inl (D.2 0, 1024, .inl (fun x_ => zI (ik x_)))), (b2, .inl (D.2 0, 1024, .inl (fun x_ => zI (st x_)))), (b3, .inl (D.2 0, 1024, .inl (fun x_ => zI (kp x_)))), (b4, .inl (D.2 0, 1024, .inl (fun x_ => zI (go x_)))), (b5, .inl (D.2 1, 1024, .inl (fun x_ => iI (dp x_)))), (b6, .inl (D.2 1, 1024, .inl (fun x_ => iI (pt x_))))] H := hP
  have hD : va_D A [(o, .inr (0, [.int (iI 0), .ref b1, .ref b2, .ref b3, .ref b4, .ref b5, .ref b6, .int (iI (w : Int)), .int (iI (g : Int))])), (b1, .inl (D.2 0, 1024, .inl (fun x_ => zI (ik x_)))), (b2, .inl (D.2 0, 1024, .inl (fun x_ => zI (st x_)))), (b3, .inl (D.2 0, 1024, .inl (fun x_ => zI (kp x_)))), (b4, .inl (D.2 0, 1024, .inl (fun x_ => zI (go x_)))), (b5, .inl (D.2 1, 1024, .inl (fun x_ => iI (dp x_)))), (b6, .inl (D.2 1, 1024, .inl (fun x_ => iI (pt x_))))] := hD
  refine lv_aload_n kx kb dX3_cell_5 rfl (lv_at hl 0 rfl) ?_
  refine lv_aload_n kx kb dX3_cell_6 rfl (lv_at hl 0 rfl) ?_
  refine lv_iload_n kx kb dX3_cell_7 rfl (lv_at hl 1 rfl) ?_
  refine lv_iload_n kx kb dX3_cell_8 rfl (lv_at hl 2 rfl) ?_
  refine t_callRV C (met_X3_isBoard l D E o b1 b2 b3 b4 b5 b6 0 w g ik st kp go dp pt x y (by first | assumption | omega) (by first | assumption | omega) (by first | assumption | omega) (by first | assumption | omega)) (cwV 2 hts (lw_V q1422 q1424 qs26 q62 q1425) rfl rfl rfl (by decide +kernel) ⟨Nat.le_of_ble_eq_true rfl, Nat.le_of_ble_eq_true rfl⟩) (va_recv hK hP (ci := 0) (q0 := 0) rfl rfl) hK hX hP hD hS hA [0, 1, 2, 3, 4, 5, 6] rfl (by decide) tYb_0 (fun _ _ _ => trivial) rfl hl.1 rfl (Nat.le_of_ble_eq_true rfl) dX3_cell_9 ⟨(show 0 ≤ 0 from by omega), (show 0 ≤ 0 from by omega)⟩ ?_
  refine W.eq (g2 := F0 m0 12 ls [.int (zI (isBd w g x y)), .ref o]) rfl ?_
  refine lv_iconst (v := iI 1) kx kb dX3_cell_12 rfl ?_
  refine t_callV (wr := []) C (met_X3_right l D E o b1 b2 b3 b4 b5 b6 w g ik st kp go dp pt (isBd w g x y) 1 (by first | assumption | omega) (by first | assumption | omega) (by first | assumption | omega)) (cwV 2 hts (lw_V q1410 q1412 qs24 q62 q1413) rfl rfl rfl (by decide +kernel) ⟨Nat.le_of_ble_eq_true rfl, Nat.le_of_ble_eq_true rfl⟩) (va_recv hK hP (ci := 0) (q0 := 0) rfl rfl) hK hX hP hD hS hA [0, 1, 2, 3, 4, 5, 6] [] rfl rfl (by decide) (by decide) (by decide) tYb_0 (fun _ _ _ => trivial) rfl hl.1 rfl (Nat.le_of_ble_eq_true rfl) dX3_cell_13 ⟨(show 0 ≤ 0 from by omega), (show 0 ≤ 0 from by omega)⟩ (fun u_ H locs hp hP hD hS => ?_)
  obtain ⟨t2_1, rfl⟩ : ∃ z, z = u_ := ⟨_, rfl⟩
  have hc13_1 : t2_1 = if (isBd w g x y) then 0 else 1 := hp
  subst hc13_1
  have hP : va_P D.1 clAll [(o, .inr (0, [.int (iI (if (isBd w g x y) then 0 else 1)), .ref b1, .ref b2, .ref b3, .ref b4, .ref b5, .ref b6, .int (iI (w : Int)), .int (iI (g : Int))])), (b1, .inl (D.2 0, 1024, .inl (fun x_ => zI (ik x_)))), (b2, .inl (D.2 0, 1024, .inl (fun x_ => zI (st x_)))), (b3, .inl (D.2 0, 1024, .inl (fun x_ => zI (kp x_)))), (b4, .inl (D.2 0, 1024, .inl (fun x_ => zI (go x_)))), (b5, .inl (D.2 1, 1024, .inl (fun x_ => iI (dp x_)))), (b6, .inl (D.2 1, 1024, .inl (fun x_ => iI (pt x_))))] H := hP
  have hD : va_D A [(o, .inr (0, [.int (iI (if (isBd w g x y) then 0 else 1)), .ref b1, .ref b2, .ref b3, .ref b4, .ref b5, .ref b6, .int (iI (w : Int)), .int (iI (g : Int))])), (b1, .inl (D.2 0, 1024, .inl (fun x_ => zI (ik x_)))), (b2, .inl (D.2 0, 1024, .inl (fun x_ => zI (st x_)))), (b3, .inl (D.2 0, 1024, .inl (fun x_ => zI (kp x_)))), (b4, .inl (D.2 0, 1024, .inl (fun x_ => zI (go x_)))), (b5, .inl (D.2 1, 1024, .inl (fun x_ => iI (dp x_)))), (b6, .inl (D.2 1, 1024, .inl (fun x_ => iI (pt x_))))] := hD
  refine W.eq (g2 := F0 m0 16 ls [.int (zI (isBd w g x y))]) rfl ?_
  subst hQ
  exact tm_zret C (if (isBd w g x y) then 0 else 1) (by first | rfl | assumption) hP hD hS (show 0 ≤ 0 from by omega) (show 0 ≤ 0 from by omega) rfl rfl dX3_cell_16
set_option maxHeartbeats 4000000 in
set_option maxRecDepth 100000 in
theorem met_X3_row (l : Launch) (D : TG) (E : TE) (o : Nat) (b1 : Nat) (b2 : Nat) (b3 : Nat) (b4 : Nat) (b5 : Nat) (b6 : Nat) (thr : Int) (w : Nat) (g : Nat) (ik : Nat → Bool) (st : Nat → Bool) (kp : Nat → Bool) (go : Nat → Bool) (dp : Nat → Int) (pt : Nat → Int) (y : Int) (hw : 1 ≤ w ∧ w ≤ 32) (hg : 1 ≤ g ∧ g ≤ 32) (ry : -2147483648 ≤ y ∧ y < 2147483648) : tMet l yX3_row cX3_row 2 (some .boolean) 1 22 (0) (0) [.ref o, .int (iI y)] D E [(o, .inr (0, [.int (iI thr), .ref b1, .ref b2, .ref b3, .ref b4, .ref b5, .ref b6, .int (iI (w : Int)), .int (iI (g : Int))])), (b1, .inl (D.2 0, 1024, .inl (fun x_ => zI (ik x_)))), (b2, .inl (D.2 0, 1024, .inl (fun x_ => zI (st x_)))), (b3, .inl (D.2 0, 1024, .inl (fun x_ => zI (kp x_)))), (b4, .inl (D.2 0, 1024, .inl (fun x_ => zI (go x_)))), (b5, .inl (D.2 1, 1024, .inl (fun x_ => iI (dp x_)))), (b6, .inl (D.2 1, 1024, .inl (fun x_ => iI (pt x_))))] tY0 (S := Int) (fun u_ => u_ = if decide (0 ≤ y ∧ y ≤ (g : Int) - 1) then 0 else 1) (fun u_ => some (.int (zI (decide (0 ≤ y ∧ y ≤ (g : Int) - 1))))) (fun u_ => [(o, .inr (0, [.int (iI u_), .ref b1, .ref b2, .ref b3, .ref b4, .ref b5, .ref b6, .int (iI (w : Int)), .int (iI (g : Int))])), (b1, .inl (D.2 0, 1024, .inl (fun x_ => zI (ik x_)))), (b2, .inl (D.2 0, 1024, .inl (fun x_ => zI (st x_)))), (b3, .inl (D.2 0, 1024, .inl (fun x_ => zI (kp x_)))), (b4, .inl (D.2 0, 1024, .inl (fun x_ => zI (go x_)))), (b5, .inl (D.2 1, 1024, .inl (fun x_ => iI (dp x_)))), (b6, .inl (D.2 1, 1024, .inl (fun x_ => iI (pt x_))))]) := by
  refine tu_met (by decide +kernel) (Nat.le_of_ble_eq_true rfl) ?_
  intro p0 e0 s0 m0 below meth c0 A ls args Q hag hQ C hK hX hY hP hD hA hAe hl
  obtain ⟨kx, kb, hml, hown, hts, -⟩ := id C
  have hS : va_S A s0.heap s0.heap [] := va_S.rf
  have hl : lv_has ls 2 [(0, .ref o), (1, .int (iI y))] := hl
  have hwg := wg_le hw hg
  refine lv_aload_n kx kb dX3_row_0 rfl (lv_at hl 0 rfl) ?_
  refine lv_iconst (v := iI 0) kx kb dX3_row_1 rfl ?_
  refine va_put (D := D.1) (ci := 0) (v := .int (iI 0)) (ty := .int) (C := RX3) (T := TX3) (N := 9) kx kb hts in_X3 tyX3 tyX3_ok nmX3 hown hK hP hD hS 0 rfl rfl 0 (by decide) (hts _ q1370) (fun _ h9 => h9) rfl (by decide +kernel) rfl rfl (Nat.le_of_ble_eq_true rfl) dX3_row_2 (fun H locs hP hD hS => ?_)
  have hP : va_P D.1 clAll [(o, .inr (0, [.int (iI 0), .ref b1, .ref b2, .ref b3, .ref b4, .ref b5, .ref b6, .int (iI (w : Int)), .int (iI (g : Int))])), (b1, .inl (D.2 0, 1024, .inl (fun x_ => zI (ik x_)))), (b2, .inl (D.2 0, 1024, .inl (fun x_ => zI (st x_)))), (b3, .inl (D.2 0, 1024, .inl (fun x_ => zI (kp x_)))), (b4, .inl (D.2 0, 1024, .inl (fun x_ => zI (go x_)))), (b5, .inl (D.2 1, 1024, .inl (fun x_ => iI (dp x_)))), (b6, .inl (D.2 1, 1024, .inl (fun x_ => iI (pt x_))))] H := hP
  have hD : va_D A [(o, .inr (0, [.int (iI 0), .ref b1, .ref b2, .ref b3, .ref b4, .ref b5, .ref b6, .int (iI (w : Int)), .int (iI (g : Int))])), (b1, .inl (D.2 0, 1024, .inl (fun x_ => zI (ik x_)))), (b2, .inl (D.2 0, 1024, .inl (fun x_ => zI (st x_)))), (b3, .inl (D.2 0, 1024, .inl (fun x_ => zI (kp x_)))), (b4, .inl (D.2 0, 1024, .inl (fun x_ => zI (go x_)))), (b5, .inl (D.2 1, 1024, .inl (fun x_ => iI (dp x_)))), (b6, .inl (D.2 1, 1024, .inl (fun x_ => iI (pt x_))))] := hD
  refine lv_aload_n kx kb dX3_row_5 rfl (lv_at hl 0 rfl) ?_
  refine lv_iload_n kx kb dX3_row_6 rfl (lv_at hl 1 rfl) ?_
  refine lv_iconst (v := iI 0) kx kb dX3_row_7 rfl ?_
  refine lv_aload_n kx kb dX3_row_8 rfl (lv_at hl 0 rfl) ?_
  refine va_get (D := D.1) (ci := 0) (v := .int (iI (g : Int))) (C := RX3) (T := TX3) (N := 9) kx kb hts in_X3 hown hK hP 0 rfl rfl 8 (by decide) (hts _ q1378) (fun _ h9 => h9) rfl dX3_row_9 ?_
  refine lv_iconst (v := iI 1) kx kb dX3_row_12 rfl ?_
  refine ti_isub kx kb dX3_row_13 ?_
  refine t_callRS C (met_X3_isIn l D E y 0 ((g : Int) - 1) (by first | assumption | omega)) (va_cwS 3 hts (lw_S q1407 q1408 q62 q1409) rfl rfl rfl (by decide +kernel) ⟨Nat.le_of_ble_eq_true rfl, Nat.le_of_ble_eq_true rfl⟩) hK hX hP hD hS hA [] rfl (by decide) tYb_0 (fun _ _ _ => trivial) rfl hl.1 rfl (Nat.le_of_ble_eq_true rfl) dX3_row_14 ⟨(show 0 ≤ 0 from by omega), (show 0 ≤ 0 from by omega)⟩ ?_
  refine W.eq (g2 := F0 m0 17 ls [.int (zI (decide (0 ≤ y ∧ y ≤ ((g : Int) - 1)))), .ref o]) rfl ?_
  refine lv_iconst (v := iI 1) kx kb dX3_row_17 rfl ?_
  refine t_callV (wr := []) C (met_X3_right l D E o b1 b2 b3 b4 b5 b6 w g ik st kp go dp pt (decide (0 ≤ y ∧ y ≤ ((g : Int) - 1))) 1 (by first | assumption | omega) (by first | assumption | omega) (by first | assumption | omega)) (cwV 2 hts (lw_V q1410 q1412 qs24 q62 q1413) rfl rfl rfl (by decide +kernel) ⟨Nat.le_of_ble_eq_true rfl, Nat.le_of_ble_eq_true rfl⟩) (va_recv hK hP (ci := 0) (q0 := 0) rfl rfl) hK hX hP hD hS hA [0, 1, 2, 3, 4, 5, 6] [] rfl rfl (by decide) (by decide) (by decide) tYb_0 (fun _ _ _ => trivial) rfl hl.1 rfl (Nat.le_of_ble_eq_true rfl) dX3_row_18 ⟨(show 0 ≤ 0 from by omega), (show 0 ≤ 0 from by omega)⟩ (fun u_ H locs hp hP hD hS => ?_)
  obtain ⟨t2_1, rfl⟩ : ∃ z, z = u_ := ⟨_, rfl⟩
  have hc18_1 : t2_1 = if (decide (0 ≤ y ∧ y ≤ ((g : Int) - 1))) then 0 else 1 := hp
  subst hc18_1
  have hP : va_P D.1 clAll [(o, .inr (0, [.int (iI (if (decide (0 ≤ y ∧ y ≤ ((g : Int) - 1))) then 0 else 1)), .ref b1, .ref b2, .ref b3, .ref b4, .ref b5, .ref b6, .int (iI (w : Int)), .int (iI (g : Int))])), (b1, .inl (D.2 0, 1024, .inl (fun x_ => zI (ik x_)))), (b2, .inl (D.2 0, 1024, .inl (fun x_ => zI (st x_)))), (b3, .inl (D.2 0, 1024, .inl (fun x_ => zI (kp x_)))), (b4, .inl (D.2 0, 1024, .inl (fun x_ => zI (go x_)))), (b5, .inl (D.2 1, 1024, .inl (fun x_ => iI (dp x_)))), (b6, .inl (D.2 1, 1024, .inl (fun x_ => iI (pt x_))))] H := hP
  have hD : va_D A [(o, .inr (0, [.int (iI (if (decide (0 ≤ y ∧ y ≤ ((g : Int) - 1))) then 0 else 1)), .ref b1, .ref b2, .ref b3, .ref b4, .ref b5, .ref b6, .int (iI (w : Int)), .int (iI (g : Int))])), (b1, .inl (D.2 0, 1024, .inl (fun x_ => zI (ik x_)))), (b2, .inl (D.2 0, 1024, .inl (fun x_ => zI (st x_)))), (b3, .inl (D.2 0, 1024, .inl (fun x_ => zI (kp x_)))), (b4, .inl (D.2 0, 1024, .inl (fun x_ => zI (go x_)))), (b5, .inl (D.2 1, 1024, .inl (fun x_ => iI (dp x_)))), (b6, .inl (D.2 1, 1024, .inl (fun x_ => iI (pt x_))))] := hD
  refine W.eq (g2 := F0 m0 21 ls [.int (zI (decide (0 ≤ y ∧ y ≤ ((g : Int) - 1))))]) rfl ?_
  subst hQ
  exact tm_zret C (if (decide (0 ≤ y ∧ y ≤ ((g : Int) - 1))) then 0 else 1) (by first | rfl | assumption) hP hD hS (show 0 ≤ 0 from by omega) (show 0 ≤ 0 from by omega) rfl rfl dX3_row_21
set_option maxHeartbeats 4000000 in
set_option maxRecDepth 100000 in
theorem met_X3_draws (l : Launch) (D : TG) (E : TE) (o : Nat) (b1 : Nat) (b2 : Nat) (b3 : Nat) (b4 : Nat) (b5 : Nat) (b6 : Nat) (thr : Int) (w : Nat) (g : Nat) (ik : Nat → Bool) (st : Nat → Bool) (kp : Nat → Bool) (go : Nat → Bool) (dp : Nat → Int) (pt : Nat → Int) (x : Int) (y : Int) (b : Bool) (hw : 1 ≤ w ∧ w ≤ 32) (hg : 1 ≤ g ∧ g ≤ 32) (rx : -2147483648 ≤ x ∧ x < 2147483648) (ry : -2147483648 ≤ y ∧ y < 2147483648) : tMet l yX3_draws cX3_draws 4 (some .int) 2 44 (0) (0) [.ref o, .int (iI x), .int (iI y), .int (zI b)] D E [(o, .inr (0, [.int (iI thr), .ref b1, .ref b2, .ref b3, .ref b4, .ref b5, .ref b6, .int (iI (w : Int)), .int (iI (g : Int))])), (b1, .inl (D.2 0, 1024, .inl (fun x_ => zI (ik x_)))), (b2, .inl (D.2 0, 1024, .inl (fun x_ => zI (st x_)))), (b3, .inl (D.2 0, 1024, .inl (fun x_ => zI (kp x_)))), (b4, .inl (D.2 0, 1024, .inl (fun x_ => zI (go x_)))), (b5, .inl (D.2 1, 1024, .inl (fun x_ => iI (dp x_)))), (b6, .inl (D.2 1, 1024, .inl (fun x_ => iI (pt x_))))] tY0 (S := (Nat → Bool)) (fun u_ => u_ = drw w g x y b ik) (fun u_ => some (.int (iI (drwN w g x y b ik)))) (fun u_ => [(o, .inr (0, [.int (iI thr), .ref b1, .ref b2, .ref b3, .ref b4, .ref b5, .ref b6, .int (iI (w : Int)), .int (iI (g : Int))])), (b1, .inl (D.2 0, 1024, .inl (fun x_ => zI (u_ x_)))), (b2, .inl (D.2 0, 1024, .inl (fun x_ => zI (st x_)))), (b3, .inl (D.2 0, 1024, .inl (fun x_ => zI (kp x_)))), (b4, .inl (D.2 0, 1024, .inl (fun x_ => zI (go x_)))), (b5, .inl (D.2 1, 1024, .inl (fun x_ => iI (dp x_)))), (b6, .inl (D.2 1, 1024, .inl (fun x_ => iI (pt x_))))]) := by
  refine tu_met (by decide +kernel) (Nat.le_of_ble_eq_true rfl) ?_
  intro p0 e0 s0 m0 below meth c0 A ls args Q hag hQ C hK hX hY hP hD hA hAe hl
  obtain ⟨kx, kb, hml, hown, hts, -⟩ := id C
  have hS : va_S A s0.heap s0.heap [] := va_S.rf
  have hl : lv_has ls 4 [(0, .ref o), (1, .int (iI x)), (2, .int (iI y)), (3, .int (zI b))] := hl
  have hwg := wg_le hw hg
  refine lv_aload_n kx kb dX3_draws_0 rfl (lv_at hl 0 rfl) ?_
  refine lv_iload_n kx kb dX3_draws_1 rfl (lv_at hl 1 rfl) ?_
  refine lv_iload_n kx kb dX3_draws_2 rfl (lv_at hl 2 rfl) ?_
  refine t_callRV C (met_X3_isBoard l D E o b1 b2 b3 b4 b5 b6 thr w g ik st kp go dp pt x y (by first | assumption | omega) (by first | assumption | omega) (by first | assumption | omega) (by first | assumption | omega)) (cwV 2 hts (lw_V q1422 q1424 qs26 q62 q1425) rfl rfl rfl (by decide +kernel) ⟨Nat.le_of_ble_eq_true rfl, Nat.le_of_ble_eq_true rfl⟩) (va_recv hK hP (ci := 0) (q0 := 0) rfl rfl) hK hX hP hD hS hA [0, 1, 2, 3, 4, 5, 6] rfl (by decide) tYb_0 (fun _ _ _ => trivial) rfl hl.1 rfl (Nat.le_of_ble_eq_true rfl) dX3_draws_3 ⟨(show 0 ≤ 0 from by omega), (show 0 ≤ 0 from by omega)⟩ ?_
  refine W.eq (g2 := F0 m0 6 ls [.int (zI (isBd w g x y))]) rfl ?_
  refine tz_if_eq (tgt := 26) kx kb dX3_draws_6 (by decide) (fun h6 => ?_) (fun h6 => ?_)
  · simp only [isBd_t, isBd_f] at h6
    have h6b := (isBd_f w g x y).mpr h6
    refine lv_iconst (v := iI 0) kx kb dX3_draws_26 rfl ?_
    subst hQ
    exact tm_iret C ik (by simp only [drw, h6b]; rfl) hP hD hS (show 0 ≤ 0 from by omega) (show 0 ≤ 0 from by omega) (by simp [drwN, h6b]) rfl dX3_draws_27
  · simp only [isBd_t, isBd_f] at h6
    have hq := cel_int h6
    have h6b := (isBd_t w g x y).mpr h6
    refine lv_aload_n kx kb dX3_draws_9 rfl (lv_at hl 0 rfl) ?_
    refine va_get (D := D.1) (ci := 0) (v := .ref b1) (C := RX3) (T := TX3) (N := 9) kx kb hts in_X3 hown hK hP 0 rfl rfl 1 (by decide) (hts _ q1371) (fun _ h9 => h9) rfl dX3_draws_10 ?_
    refine lv_iload_n kx kb dX3_draws_13 rfl (lv_at hl 2 rfl) ?_
    refine lv_aload_n kx kb dX3_draws_14 rfl (lv_at hl 0 rfl) ?_
    refine va_get (D := D.1) (ci := 0) (v := .int (iI (w : Int))) (C := RX3) (T := TX3) (N := 9) kx kb hts in_X3 hown hK hP 0 rfl rfl 7 (by decide) (hts _ q1377) (fun _ h9 => h9) rfl dX3_draws_15 ?_
    refine ti_imul kx kb dX3_draws_18 ?_
    refine lv_iload_n kx kb dX3_draws_19 rfl (lv_at hl 1 rfl) ?_
    refine ti_iadd kx kb dX3_draws_20 ?_
    refine ta_zald C hK hP 1 rfl (cel w x y) (by omega) dX3_draws_21 ?_
    refine lv_iload_n kx kb dX3_draws_22 rfl (lv_at hl 3 rfl) ?_
    refine tz_icmp_ne (tgt := 28) kx kb dX3_draws_23 (by decide) (fun h23 => ?_) (fun h23 => ?_)
    · refine lv_aload_n kx kb dX3_draws_28 rfl (lv_at hl 0 rfl) ?_
      refine va_get (D := D.1) (ci := 0) (v := .ref b1) (C := RX3) (T := TX3) (N := 9) kx kb hts in_X3 hown hK hP 0 rfl rfl 1 (by decide) (hts _ q1371) (fun _ h9 => h9) rfl dX3_draws_29 ?_
      refine lv_iload_n kx kb dX3_draws_32 rfl (lv_at hl 2 rfl) ?_
      refine lv_aload_n kx kb dX3_draws_33 rfl (lv_at hl 0 rfl) ?_
      refine va_get (D := D.1) (ci := 0) (v := .int (iI (w : Int))) (C := RX3) (T := TX3) (N := 9) kx kb hts in_X3 hown hK hP 0 rfl rfl 7 (by decide) (hts _ q1377) (fun _ h9 => h9) rfl dX3_draws_34 ?_
      refine ti_imul kx kb dX3_draws_37 ?_
      refine lv_iload_n kx kb dX3_draws_38 rfl (lv_at hl 1 rfl) ?_
      refine ti_iadd kx kb dX3_draws_39 ?_
      refine lv_iload_n kx kb dX3_draws_40 rfl (lv_at hl 3 rfl) ?_
      refine ta_zast C hK hP hD hS 1 rfl (cel w x y) (by omega) dX3_draws_41 (fun H locs hP hD hS => ?_)
      have hP : va_P D.1 clAll [(o, .inr (0, [.int (iI thr), .ref b1, .ref b2, .ref b3, .ref b4, .ref b5, .ref b6, .int (iI (w : Int)), .int (iI (g : Int))])), (b1, .inl (D.2 0, 1024, .inl (fun x_ => zI ((va_up ik (cel w x y) b) x_)))), (b2, .inl (D.2 0, 1024, .inl (fun x_ => zI (st x_)))), (b3, .inl (D.2 0, 1024, .inl (fun x_ => zI (kp x_)))), (b4, .inl (D.2 0, 1024, .inl (fun x_ => zI (go x_)))), (b5, .inl (D.2 1, 1024, .inl (fun x_ => iI (dp x_)))), (b6, .inl (D.2 1, 1024, .inl (fun x_ => iI (pt x_))))] H := hP
      have hD : va_D A [(o, .inr (0, [.int (iI thr), .ref b1, .ref b2, .ref b3, .ref b4, .ref b5, .ref b6, .int (iI (w : Int)), .int (iI (g : Int))])), (b1, .inl (D.2 0, 1024, .inl (fun x_ => zI ((va_up ik (cel w x y) b) x_)))), (b2, .inl (D.2 0, 1024, .inl (fun x_ => zI (st x_)))), (b3, .inl (D.2 0, 1024, .inl (fun x_ => zI (kp x_)))), (b4, .inl (D.2 0, 1024, .inl (fun x_ => zI (go x_)))), (b5, .inl (D.2 1, 1024, .inl (fun x_ => iI (dp x_)))), (b6, .inl (D.2 1, 1024, .inl (fun x_ => iI (pt x_))))] := hD
      refine lv_iconst (v := iI 1) kx kb dX3_draws_42 rfl ?_
      subst hQ
      exact tm_iret C (va_up ik (cel w x y) b) (by simp only [drw, h6b]; rfl) hP hD hS (show 0 ≤ 0 from by omega) (show 0 ≤ 0 from by omega) (by simp [drwN, h6b, h23]) rfl dX3_draws_43
    · refine lv_iconst (v := iI 0) kx kb dX3_draws_26 rfl ?_
      subst hQ
      exact tm_iret C ik (by simp only [drw, h6b]; simp [up_same h23]) hP hD hS (show 0 ≤ 0 from by omega) (show 0 ≤ 0 from by omega) (by simp [drwN, h6b, h23]) rfl dX3_draws_27
set_option maxHeartbeats 4000000 in
set_option maxRecDepth 100000 in
theorem met_X3_keeps (l : Launch) (D : TG) (E : TE) (o : Nat) (b1 : Nat) (b2 : Nat) (b3 : Nat) (b4 : Nat) (b5 : Nat) (b6 : Nat) (thr : Int) (w : Nat) (g : Nat) (ik : Nat → Bool) (st : Nat → Bool) (kp : Nat → Bool) (go : Nat → Bool) (dp : Nat → Int) (pt : Nat → Int) (hw : 1 ≤ w ∧ w ≤ 32) (hg : 1 ≤ g ∧ g ≤ 32) : tMet l yX3_keeps cX3_keeps 2 none 1 20 (0) (0) [.ref o] D E [(o, .inr (0, [.int (iI thr), .ref b1, .ref b2, .ref b3, .ref b4, .ref b5, .ref b6, .int (iI (w : Int)), .int (iI (g : Int))])), (b1, .inl (D.2 0, 1024, .inl (fun x_ => zI (ik x_)))), (b2, .inl (D.2 0, 1024, .inl (fun x_ => zI (st x_)))), (b3, .inl (D.2 0, 1024, .inl (fun x_ => zI (kp x_)))), (b4, .inl (D.2 0, 1024, .inl (fun x_ => zI (go x_)))), (b5, .inl (D.2 1, 1024, .inl (fun x_ => iI (dp x_)))), (b6, .inl (D.2 1, 1024, .inl (fun x_ => iI (pt x_))))] tY0 (S := Unit) (fun u_ => True) (fun u_ => none) (fun u_ => [(o, .inr (0, [.int (iI thr), .ref b1, .ref b2, .ref b3, .ref b4, .ref b5, .ref b6, .int (iI (w : Int)), .int (iI (g : Int))])), (b1, .inl (D.2 0, 1024, .inl (fun x_ => zI (ik x_)))), (b2, .inl (D.2 0, 1024, .inl (fun x_ => zI (st x_)))), (b3, .inl (D.2 0, 1024, .inl (fun x_ => zI ((flw ik kp (w * g)) x_)))), (b4, .inl (D.2 0, 1024, .inl (fun x_ => zI (go x_)))), (b5, .inl (D.2 1, 1024, .inl (fun x_ => iI (dp x_)))), (b6, .inl (D.2 1, 1024, .inl (fun x_ => iI (pt x_))))]) := by
  refine tu_met (by decide +kernel) (Nat.le_of_ble_eq_true rfl) ?_
  intro p0 e0 s0 m0 below meth c0 A ls args Q hag hQ C hK hX hY hP hD hA hAe hl
  obtain ⟨kx, kb, hml, hown, hts, -⟩ := id C
  have hS : va_S A s0.heap s0.heap [] := va_S.rf
  have hl : lv_has ls 2 [(0, .ref o)] := hl
  have hwg := wg_le hw hg
  refine lv_iconst (v := iI 0) kx kb dX3_keeps_0 rfl ?_
  refine lv_istore_n (lv' := [(1, .int (iI 0)), (0, .ref o)]) kx kb dX3_keeps_1 rfl hl (by decide) rfl (fun ls hl => ?_)
  have cut2 : ∀ (fuel : Nat) (i : Nat) (k1 : Nat → Bool), (i ≤ w * g) → (k1 = flw ik kp i) → (w * g - i) < fuel → ∀ (H : Heap) (locs : List Loc), va_P D.1 clAll [(o, .inr (0, [.int (iI thr), .ref b1, .ref b2, .ref b3, .ref b4, .ref b5, .ref b6, .int (iI (w : Int)), .int (iI (g : Int))])), (b1, .inl (D.2 0, 1024, .inl (fun x_ => zI (ik x_)))), (b2, .inl (D.2 0, 1024, .inl (fun x_ => zI (st x_)))), (b3, .inl (D.2 0, 1024, .inl (fun x_ => zI (k1 x_)))), (b4, .inl (D.2 0, 1024, .inl (fun x_ => zI (go x_)))), (b5, .inl (D.2 1, 1024, .inl (fun x_ => iI (dp x_)))), (b6, .inl (D.2 1, 1024, .inl (fun x_ => iI (pt x_))))] H → va_D A [(o, .inr (0, [.int (iI thr), .ref b1, .ref b2, .ref b3, .ref b4, .ref b5, .ref b6, .int (iI (w : Int)), .int (iI (g : Int))])), (b1, .inl (D.2 0, 1024, .inl (fun x_ => zI (ik x_)))), (b2, .inl (D.2 0, 1024, .inl (fun x_ => zI (st x_)))), (b3, .inl (D.2 0, 1024, .inl (fun x_ => zI (k1 x_)))), (b4, .inl (D.2 0, 1024, .inl (fun x_ => zI (go x_)))), (b5, .inl (D.2 1, 1024, .inl (fun x_ => iI (dp x_)))), (b6, .inl (D.2 1, 1024, .inl (fun x_ => iI (pt x_))))] → va_S A s0.heap H locs → ∀ ls : Array Slot, lv_has ls 2 [(1, .int (iI (i : Int))), (0, .ref o)] → W p0 l e0 ({ frames := 1, cells := 0, slots := 0, locals := 20 } : Room) s0 m0 args below meth c0 H locs (0) (0) Q (F0 m0 2 ls []) := by
    intro fuel
    induction fuel with
    | zero =>
      intro i k1 hi hk1 hfuel2
      exact absurd hfuel2 (Nat.not_lt_zero _)
    | succ fuel ih2 =>
      intro i k1 hi hk1 hfuel2 H locs hP hD hS ls hl
      refine lv_iload_n kx kb dX3_keeps_2 rfl (lv_at hl 0 rfl) ?_
      refine lv_aload_n kx kb dX3_keeps_3 rfl (lv_at hl 1 rfl) ?_
      refine t_callRV C (met_X3_cells l D E o b1 b2 b3 b4 b5 b6 thr w g ik st k1 go dp pt (by first | assumption | omega) (by first | assumption | omega)) (cwV 0 hts (lw_V q1467 q1469 qs33 q62 q1470) rfl rfl rfl (by decide +kernel) ⟨Nat.le_of_ble_eq_true rfl, Nat.le_of_ble_eq_true rfl⟩) (va_recv hK hP (ci := 0) (q0 := 0) rfl rfl) hK hX hP hD hS hA [0, 1, 2, 3, 4, 5, 6] rfl (by decide) tYb_0 (fun _ _ _ => trivial) rfl hl.1 rfl (Nat.le_of_ble_eq_true rfl) dX3_keeps_4 ⟨(show 0 ≤ 0 from by omega), (show 0 ≤ 0 from by omega)⟩ ?_
      refine W.eq (g2 := F0 m0 7 ls [.int (iI ((w * g : Nat) : Int)), .int (iI (i : Int))]) rfl ?_
      refine ti_icmp_ge (tgt := 28) kx kb (by omega) dX3_keeps_7 (by decide) (fun h7 => ?_) (fun h7 => ?_)
      · have hP := tx_arrZ (g := flw ik kp (w * g)) 3 rfl (fun j hj => by rw [hk1, show i = w * g from by omega]) hP
        have hP : va_P D.1 clAll [(o, .inr (0, [.int (iI thr), .ref b1, .ref b2, .ref b3, .ref b4, .ref b5, .ref b6, .int (iI (w : Int)), .int (iI (g : Int))])), (b1, .inl (D.2 0, 1024, .inl (fun x_ => zI (ik x_)))), (b2, .inl (D.2 0, 1024, .inl (fun x_ => zI (st x_)))), (b3, .inl (D.2 0, 1024, .inl (fun x_ => zI ((flw ik kp (w * g)) x_)))), (b4, .inl (D.2 0, 1024, .inl (fun x_ => zI (go x_)))), (b5, .inl (D.2 1, 1024, .inl (fun x_ => iI (dp x_)))), (b6, .inl (D.2 1, 1024, .inl (fun x_ => iI (pt x_))))] H := hP
        have hD : va_D A [(o, .inr (0, [.int (iI thr), .ref b1, .ref b2, .ref b3, .ref b4, .ref b5, .ref b6, .int (iI (w : Int)), .int (iI (g : Int))])), (b1, .inl (D.2 0, 1024, .inl (fun x_ => zI (ik x_)))), (b2, .inl (D.2 0, 1024, .inl (fun x_ => zI (st x_)))), (b3, .inl (D.2 0, 1024, .inl (fun x_ => zI ((flw ik kp (w * g)) x_)))), (b4, .inl (D.2 0, 1024, .inl (fun x_ => zI (go x_)))), (b5, .inl (D.2 1, 1024, .inl (fun x_ => iI (dp x_)))), (b6, .inl (D.2 1, 1024, .inl (fun x_ => iI (pt x_))))] := hD.set (p := 3) rfl
        subst hQ
        exact tm_vret C () trivial hP hD hS (show 0 ≤ 0 from by omega) (show 0 ≤ 0 from by omega) rfl rfl dX3_keeps_28
      · refine lv_aload_n kx kb dX3_keeps_10 rfl (lv_at hl 1 rfl) ?_
        refine va_get (D := D.1) (ci := 0) (v := .ref b3) (C := RX3) (T := TX3) (N := 9) kx kb hts in_X3 hown hK hP 0 rfl rfl 3 (by decide) (hts _ q1373) (fun _ h9 => h9) rfl dX3_keeps_11 ?_
        refine lv_iload_n kx kb dX3_keeps_14 rfl (lv_at hl 0 rfl) ?_
        refine lv_aload_n kx kb dX3_keeps_15 rfl (lv_at hl 1 rfl) ?_
        refine va_get (D := D.1) (ci := 0) (v := .ref b1) (C := RX3) (T := TX3) (N := 9) kx kb hts in_X3 hown hK hP 0 rfl rfl 1 (by decide) (hts _ q1371) (fun _ h9 => h9) rfl dX3_keeps_16 ?_
        refine lv_iload_n kx kb dX3_keeps_19 rfl (lv_at hl 0 rfl) ?_
        refine ta_zald C hK hP 1 rfl i (by omega) dX3_keeps_20 ?_
        refine ta_zast C hK hP hD hS 3 rfl i (by omega) dX3_keeps_21 (fun H locs hP hD hS => ?_)
        have hP : va_P D.1 clAll [(o, .inr (0, [.int (iI thr), .ref b1, .ref b2, .ref b3, .ref b4, .ref b5, .ref b6, .int (iI (w : Int)), .int (iI (g : Int))])), (b1, .inl (D.2 0, 1024, .inl (fun x_ => zI (ik x_)))), (b2, .inl (D.2 0, 1024, .inl (fun x_ => zI (st x_)))), (b3, .inl (D.2 0, 1024, .inl (fun x_ => zI ((va_up k1 i (ik i)) x_)))), (b4, .inl (D.2 0, 1024, .inl (fun x_ => zI (go x_)))), (b5, .inl (D.2 1, 1024, .inl (fun x_ => iI (dp x_)))), (b6, .inl (D.2 1, 1024, .inl (fun x_ => iI (pt x_))))] H := hP
        have hD : va_D A [(o, .inr (0, [.int (iI thr), .ref b1, .ref b2, .ref b3, .ref b4, .ref b5, .ref b6, .int (iI (w : Int)), .int (iI (g : Int))])), (b1, .inl (D.2 0, 1024, .inl (fun x_ => zI (ik x_)))), (b2, .inl (D.2 0, 1024, .inl (fun x_ => zI (st x_)))), (b3, .inl (D.2 0, 1024, .inl (fun x_ => zI ((va_up k1 i (ik i)) x_)))), (b4, .inl (D.2 0, 1024, .inl (fun x_ => zI (go x_)))), (b5, .inl (D.2 1, 1024, .inl (fun x_ => iI (dp x_)))), (b6, .inl (D.2 1, 1024, .inl (fun x_ => iI (pt x_))))] := hD
        refine ti_iinc (a := (i : Int)) (lv' := [(1, .int (iI ((i : Int) + 1))), (0, .ref o)]) kx kb dX3_keeps_22 hl (k := 0) rfl (by decide) rfl (fun ls hl => ?_)
        refine lv_goto (tgt := 2) kx kb dX3_keeps_25 (by decide) ?_
        exact ih2 (i + 1) (va_up k1 i (ik i)) (by omega) (by rw [hk1, flw_s]) (by omega) H locs hP hD hS ls hl
  exact cut2 ((w * g - 0) + 1) 0 kp (by omega) (by rw [flw_0]) (Nat.lt_succ_self _) s0.heap [] hP hD hS ls hl
set_option maxHeartbeats 4000000 in
set_option maxRecDepth 100000 in
theorem met_X3_brings (l : Launch) (D : TG) (E : TE) (o : Nat) (b1 : Nat) (b2 : Nat) (b3 : Nat) (b4 : Nat) (b5 : Nat) (b6 : Nat) (thr : Int) (w : Nat) (g : Nat) (ik : Nat → Bool) (st : Nat → Bool) (kp : Nat → Bool) (go : Nat → Bool) (dp : Nat → Int) (pt : Nat → Int) (hw : 1 ≤ w ∧ w ≤ 32) (hg : 1 ≤ g ∧ g ≤ 32) : tMet l yX3_brings cX3_brings 2 none 1 20 (0) (0) [.ref o] D E [(o, .inr (0, [.int (iI thr), .ref b1, .ref b2, .ref b3, .ref b4, .ref b5, .ref b6, .int (iI (w : Int)), .int (iI (g : Int))])), (b1, .inl (D.2 0, 1024, .inl (fun x_ => zI (ik x_)))), (b2, .inl (D.2 0, 1024, .inl (fun x_ => zI (st x_)))), (b3, .inl (D.2 0, 1024, .inl (fun x_ => zI (kp x_)))), (b4, .inl (D.2 0, 1024, .inl (fun x_ => zI (go x_)))), (b5, .inl (D.2 1, 1024, .inl (fun x_ => iI (dp x_)))), (b6, .inl (D.2 1, 1024, .inl (fun x_ => iI (pt x_))))] tY0 (S := Unit) (fun u_ => True) (fun u_ => none) (fun u_ => [(o, .inr (0, [.int (iI thr), .ref b1, .ref b2, .ref b3, .ref b4, .ref b5, .ref b6, .int (iI (w : Int)), .int (iI (g : Int))])), (b1, .inl (D.2 0, 1024, .inl (fun x_ => zI ((flw kp ik (w * g)) x_)))), (b2, .inl (D.2 0, 1024, .inl (fun x_ => zI (st x_)))), (b3, .inl (D.2 0, 1024, .inl (fun x_ => zI (kp x_)))), (b4, .inl (D.2 0, 1024, .inl (fun x_ => zI (go x_)))), (b5, .inl (D.2 1, 1024, .inl (fun x_ => iI (dp x_)))), (b6, .inl (D.2 1, 1024, .inl (fun x_ => iI (pt x_))))]) := by
  refine tu_met (by decide +kernel) (Nat.le_of_ble_eq_true rfl) ?_
  intro p0 e0 s0 m0 below meth c0 A ls args Q hag hQ C hK hX hY hP hD hA hAe hl
  obtain ⟨kx, kb, hml, hown, hts, -⟩ := id C
  have hS : va_S A s0.heap s0.heap [] := va_S.rf
  have hl : lv_has ls 2 [(0, .ref o)] := hl
  have hwg := wg_le hw hg
  refine lv_iconst (v := iI 0) kx kb dX3_brings_0 rfl ?_
  refine lv_istore_n (lv' := [(1, .int (iI 0)), (0, .ref o)]) kx kb dX3_brings_1 rfl hl (by decide) rfl (fun ls hl => ?_)
  have cut2 : ∀ (fuel : Nat) (i : Nat) (k1 : Nat → Bool), (i ≤ w * g) → (k1 = flw kp ik i) → (w * g - i) < fuel → ∀ (H : Heap) (locs : List Loc), va_P D.1 clAll [(o, .inr (0, [.int (iI thr), .ref b1, .ref b2, .ref b3, .ref b4, .ref b5, .ref b6, .int (iI (w : Int)), .int (iI (g : Int))])), (b1, .inl (D.2 0, 1024, .inl (fun x_ => zI (k1 x_)))), (b2, .inl (D.2 0, 1024, .inl (fun x_ => zI (st x_)))), (b3, .inl (D.2 0, 1024, .inl (fun x_ => zI (kp x_)))), (b4, .inl (D.2 0, 1024, .inl (fun x_ => zI (go x_)))), (b5, .inl (D.2 1, 1024, .inl (fun x_ => iI (dp x_)))), (b6, .inl (D.2 1, 1024, .inl (fun x_ => iI (pt x_))))] H → va_D A [(o, .inr (0, [.int (iI thr), .ref b1, .ref b2, .ref b3, .ref b4, .ref b5, .ref b6, .int (iI (w : Int)), .int (iI (g : Int))])), (b1, .inl (D.2 0, 1024, .inl (fun x_ => zI (k1 x_)))), (b2, .inl (D.2 0, 1024, .inl (fun x_ => zI (st x_)))), (b3, .inl (D.2 0, 1024, .inl (fun x_ => zI (kp x_)))), (b4, .inl (D.2 0, 1024, .inl (fun x_ => zI (go x_)))), (b5, .inl (D.2 1, 1024, .inl (fun x_ => iI (dp x_)))), (b6, .inl (D.2 1, 1024, .inl (fun x_ => iI (pt x_))))] → va_S A s0.heap H locs → ∀ ls : Array Slot, lv_has ls 2 [(1, .int (iI (i : Int))), (0, .ref o)] → W p0 l e0 ({ frames := 1, cells := 0, slots := 0, locals := 20 } : Room) s0 m0 args below meth c0 H locs (0) (0) Q (F0 m0 2 ls []) := by
    intro fuel
    induction fuel with
    | zero =>
      intro i k1 hi hk1 hfuel2
      exact absurd hfuel2 (Nat.not_lt_zero _)
    | succ fuel ih2 =>
      intro i k1 hi hk1 hfuel2 H locs hP hD hS ls hl
      refine lv_iload_n kx kb dX3_brings_2 rfl (lv_at hl 0 rfl) ?_
      refine lv_aload_n kx kb dX3_brings_3 rfl (lv_at hl 1 rfl) ?_
      refine t_callRV C (met_X3_cells l D E o b1 b2 b3 b4 b5 b6 thr w g k1 st kp go dp pt (by first | assumption | omega) (by first | assumption | omega)) (cwV 0 hts (lw_V q1467 q1469 qs33 q62 q1470) rfl rfl rfl (by decide +kernel) ⟨Nat.le_of_ble_eq_true rfl, Nat.le_of_ble_eq_true rfl⟩) (va_recv hK hP (ci := 0) (q0 := 0) rfl rfl) hK hX hP hD hS hA [0, 1, 2, 3, 4, 5, 6] rfl (by decide) tYb_0 (fun _ _ _ => trivial) rfl hl.1 rfl (Nat.le_of_ble_eq_true rfl) dX3_brings_4 ⟨(show 0 ≤ 0 from by omega), (show 0 ≤ 0 from by omega)⟩ ?_
      refine W.eq (g2 := F0 m0 7 ls [.int (iI ((w * g : Nat) : Int)), .int (iI (i : Int))]) rfl ?_
      refine ti_icmp_ge (tgt := 28) kx kb (by omega) dX3_brings_7 (by decide) (fun h7 => ?_) (fun h7 => ?_)
      · have hP := tx_arrZ (g := flw kp ik (w * g)) 1 rfl (fun j hj => by rw [hk1, show i = w * g from by omega]) hP
        have hP : va_P D.1 clAll [(o, .inr (0, [.int (iI thr), .ref b1, .ref b2, .ref b3, .ref b4, .ref b5, .ref b6, .int (iI (w : Int)), .int (iI (g : Int))])), (b1, .inl (D.2 0, 1024, .inl (fun x_ => zI ((flw kp ik (w * g)) x_)))), (b2, .inl (D.2 0, 1024, .inl (fun x_ => zI (st x_)))), (b3, .inl (D.2 0, 1024, .inl (fun x_ => zI (kp x_)))), (b4, .inl (D.2 0, 1024, .inl (fun x_ => zI (go x_)))), (b5, .inl (D.2 1, 1024, .inl (fun x_ => iI (dp x_)))), (b6, .inl (D.2 1, 1024, .inl (fun x_ => iI (pt x_))))] H := hP
        have hD : va_D A [(o, .inr (0, [.int (iI thr), .ref b1, .ref b2, .ref b3, .ref b4, .ref b5, .ref b6, .int (iI (w : Int)), .int (iI (g : Int))])), (b1, .inl (D.2 0, 1024, .inl (fun x_ => zI ((flw kp ik (w * g)) x_)))), (b2, .inl (D.2 0, 1024, .inl (fun x_ => zI (st x_)))), (b3, .inl (D.2 0, 1024, .inl (fun x_ => zI (kp x_)))), (b4, .inl (D.2 0, 1024, .inl (fun x_ => zI (go x_)))), (b5, .inl (D.2 1, 1024, .inl (fun x_ => iI (dp x_)))), (b6, .inl (D.2 1, 1024, .inl (fun x_ => iI (pt x_))))] := hD.set (p := 1) rfl
        subst hQ
        exact tm_vret C () trivial hP hD hS (show 0 ≤ 0 from by omega) (show 0 ≤ 0 from by omega) rfl rfl dX3_brings_28
      · refine lv_aload_n kx kb dX3_brings_10 rfl (lv_at hl 1 rfl) ?_
        refine va_get (D := D.1) (ci := 0) (v := .ref b1) (C := RX3) (T := TX3) (N := 9) kx kb hts in_X3 hown hK hP 0 rfl rfl 1 (by decide) (hts _ q1371) (fun _ h9 => h9) rfl dX3_brings_11 ?_
        refine lv_iload_n kx kb dX3_brings_14 rfl (lv_at hl 0 rfl) ?_
        refine lv_aload_n kx kb dX3_brings_15 rfl (lv_at hl 1 rfl) ?_
        refine va_get (D := D.1) (ci := 0) (v := .ref b3) (C := RX3) (T := TX3) (N := 9) kx kb hts in_X3 hown hK hP 0 rfl rfl 3 (by decide) (hts _ q1373) (fun _ h9 => h9) rfl dX3_brings_16 ?_
        refine lv_iload_n kx kb dX3_brings_19 rfl (lv_at hl 0 rfl) ?_
        refine ta_zald C hK hP 3 rfl i (by omega) dX3_brings_20 ?_
        refine ta_zast C hK hP hD hS 1 rfl i (by omega) dX3_brings_21 (fun H locs hP hD hS => ?_)
        have hP : va_P D.1 clAll [(o, .inr (0, [.int (iI thr), .ref b1, .ref b2, .ref b3, .ref b4, .ref b5, .ref b6, .int (iI (w : Int)), .int (iI (g : Int))])), (b1, .inl (D.2 0, 1024, .inl (fun x_ => zI ((va_up k1 i (kp i)) x_)))), (b2, .inl (D.2 0, 1024, .inl (fun x_ => zI (st x_)))), (b3, .inl (D.2 0, 1024, .inl (fun x_ => zI (kp x_)))), (b4, .inl (D.2 0, 1024, .inl (fun x_ => zI (go x_)))), (b5, .inl (D.2 1, 1024, .inl (fun x_ => iI (dp x_)))), (b6, .inl (D.2 1, 1024, .inl (fun x_ => iI (pt x_))))] H := hP
        have hD : va_D A [(o, .inr (0, [.int (iI thr), .ref b1, .ref b2, .ref b3, .ref b4, .ref b5, .ref b6, .int (iI (w : Int)), .int (iI (g : Int))])), (b1, .inl (D.2 0, 1024, .inl (fun x_ => zI ((va_up k1 i (kp i)) x_)))), (b2, .inl (D.2 0, 1024, .inl (fun x_ => zI (st x_)))), (b3, .inl (D.2 0, 1024, .inl (fun x_ => zI (kp x_)))), (b4, .inl (D.2 0, 1024, .inl (fun x_ => zI (go x_)))), (b5, .inl (D.2 1, 1024, .inl (fun x_ => iI (dp x_)))), (b6, .inl (D.2 1, 1024, .inl (fun x_ => iI (pt x_))))] := hD
        refine ti_iinc (a := (i : Int)) (lv' := [(1, .int (iI ((i : Int) + 1))), (0, .ref o)]) kx kb dX3_brings_22 hl (k := 0) rfl (by decide) rfl (fun ls hl => ?_)
        refine lv_goto (tgt := 2) kx kb dX3_brings_25 (by decide) ?_
        exact ih2 (i + 1) (va_up k1 i (kp i)) (by omega) (by rw [hk1, flw_s]) (by omega) H locs hP hD hS ls hl
  exact cut2 ((w * g - 0) + 1) 0 ik (by omega) (by rw [flw_0]) (Nat.lt_succ_self _) s0.heap [] hP hD hS ls hl
set_option maxHeartbeats 4000000 in
set_option maxRecDepth 100000 in
theorem met_X3_thins (l : Launch) (D : TG) (E : TE) (o : Nat) (b1 : Nat) (b2 : Nat) (b3 : Nat) (b4 : Nat) (b5 : Nat) (b6 : Nat) (thr : Int) (w : Nat) (g : Nat) (ik : Nat → Bool) (st : Nat → Bool) (kp : Nat → Bool) (go : Nat → Bool) (dp : Nat → Int) (pt : Nat → Int) (hw : 1 ≤ w ∧ w ≤ 32) (hg : 1 ≤ g ∧ g ≤ 32) : tMet l yX3_thins cX3_thins 2 (some .int) 7 160 (0) (0) [.ref o] D E [(o, .inr (0, [.int (iI thr), .ref b1, .ref b2, .ref b3, .ref b4, .ref b5, .ref b6, .int (iI (w : Int)), .int (iI (g : Int))])), (b1, .inl (D.2 0, 1024, .inl (fun x_ => zI (ik x_)))), (b2, .inl (D.2 0, 1024, .inl (fun x_ => zI (st x_)))), (b3, .inl (D.2 0, 1024, .inl (fun x_ => zI (kp x_)))), (b4, .inl (D.2 0, 1024, .inl (fun x_ => zI (go x_)))), (b5, .inl (D.2 1, 1024, .inl (fun x_ => iI (dp x_)))), (b6, .inl (D.2 1, 1024, .inl (fun x_ => iI (pt x_))))] tY0 (S := (Nat → Bool) × (Nat → Bool)) (fun u_ => u_.1 = (thR w g ik).2) (fun u_ => some (.int (iI (((thR w g ik).1 : Nat) : Int)))) (fun u_ => [(o, .inr (0, [.int (iI thr), .ref b1, .ref b2, .ref b3, .ref b4, .ref b5, .ref b6, .int (iI (w : Int)), .int (iI (g : Int))])), (b1, .inl (D.2 0, 1024, .inl (fun x_ => zI (u_.1 x_)))), (b2, .inl (D.2 0, 1024, .inl (fun x_ => zI (st x_)))), (b3, .inl (D.2 0, 1024, .inl (fun x_ => zI (kp x_)))), (b4, .inl (D.2 0, 1024, .inl (fun x_ => zI (u_.2 x_)))), (b5, .inl (D.2 1, 1024, .inl (fun x_ => iI (dp x_)))), (b6, .inl (D.2 1, 1024, .inl (fun x_ => iI (pt x_))))]) := by
  refine tu_met (by decide +kernel) (Nat.le_of_ble_eq_true rfl) ?_
  intro p0 e0 s0 m0 below meth c0 A ls args Q hag hQ C hK hX hY hP hD hA hAe hl
  obtain ⟨kx, kb, hml, hown, hts, -⟩ := id C
  have hS : va_S A s0.heap s0.heap [] := va_S.rf
  have hl : lv_has ls 2 [(0, .ref o)] := hl
  have hwg := wg_le hw hg
  refine lv_iconst (v := iI 0) kx kb dX3_thins_0 rfl ?_
  refine lv_istore_n (lv' := [(1, .int (iI 0)), (0, .ref o)]) kx kb dX3_thins_1 rfl hl (by decide) rfl (fun ls hl => ?_)
  have cut2 : ∀ (fuel : Nat) (n : Int) (k1 : Nat → Bool) (gg : Nat → Bool), (0 ≤ n ∧ n + (((thR w g k1).1 : Nat) : Int) = (((thR w g ik).1 : Nat) : Int)) → ((thR w g k1).2 = (thR w g ik).2) → (fb_ct k1 (w * g)) < fuel → ∀ (H : Heap) (locs : List Loc), va_P D.1 clAll [(o, .inr (0, [.int (iI thr), .ref b1, .ref b2, .ref b3, .ref b4, .ref b5, .ref b6, .int (iI (w : Int)), .int (iI (g : Int))])), (b1, .inl (D.2 0, 1024, .inl (fun x_ => zI (k1 x_)))), (b2, .inl (D.2 0, 1024, .inl (fun x_ => zI (st x_)))), (b3, .inl (D.2 0, 1024, .inl (fun x_ => zI (kp x_)))), (b4, .inl (D.2 0, 1024, .inl (fun x_ => zI (gg x_)))), (b5, .inl (D.2 1, 1024, .inl (fun x_ => iI (dp x_)))), (b6, .inl (D.2 1, 1024, .inl (fun x_ => iI (pt x_))))] H → va_D A [(o, .inr (0, [.int (iI thr), .ref b1, .ref b2, .ref b3, .ref b4, .ref b5, .ref b6, .int (iI (w : Int)), .int (iI (g : Int))])), (b1, .inl (D.2 0, 1024, .inl (fun x_ => zI (k1 x_)))), (b2, .inl (D.2 0, 1024, .inl (fun x_ => zI (st x_)))), (b3, .inl (D.2 0, 1024, .inl (fun x_ => zI (kp x_)))), (b4, .inl (D.2 0, 1024, .inl (fun x_ => zI (gg x_)))), (b5, .inl (D.2 1, 1024, .inl (fun x_ => iI (dp x_)))), (b6, .inl (D.2 1, 1024, .inl (fun x_ => iI (pt x_))))] → va_S A s0.heap H locs → ∀ ls : Array Slot, lv_has ls 2 [(1, .int (iI n)), (0, .ref o)] → W p0 l e0 ({ frames := 7, cells := 0, slots := 0, locals := 160 } : Room) s0 m0 args below meth c0 H locs (0) (0) Q (F0 m0 2 ls []) := by
    intro fuel
    induction fuel with
    | zero =>
      intro n k1 gg hn hk1 hfuel2
      exact absurd hfuel2 (Nat.not_lt_zero _)
    | succ fuel ih2 =>
      intro n k1 gg hn hk1 hfuel2 H locs hP hD hS ls hl
      have hp := thP_ct w g k1
      simp only [thP] at hp
      have ht := thR_le w g ik
      have hf := fb_ct_le ik (w * g)
      have hf1 := fb_ct_le k1 (w * g)
      have hzz : thN w g k1 = fb_ct (thn w g true k1) (w * g) + fb_ct (thn w g false (hlf w g true k1)) (w * g) := rfl
      refine lv_aload_n kx kb dX3_thins_2 rfl (lv_at hl 1 rfl) ?_
      refine lv_iconst (v := iI 1) kx kb dX3_thins_3 rfl ?_
      refine t_callV (wr := []) C (met_X3_half l D E o b1 b2 b3 b4 b5 b6 thr w g k1 st kp gg dp pt true (by first | assumption | omega) (by first | assumption | omega)) (cwV 1 hts (lw_V q1505 q1507 qs37 q62 q1508) rfl rfl rfl (by decide +kernel) ⟨Nat.le_of_ble_eq_true rfl, Nat.le_of_ble_eq_true rfl⟩) (va_recv hK hP (ci := 0) (q0 := 0) rfl rfl) hK hX hP hD hS hA [0, 1, 2, 3, 4, 5, 6] [] rfl rfl (by decide) (by decide) (by decide) tYb_0 (fun _ _ _ => trivial) rfl hl.1 rfl (Nat.le_of_ble_eq_true rfl) dX3_thins_4 ⟨(show 0 ≤ 0 from by omega), (show 0 ≤ 0 from by omega)⟩ (fun u_ H locs hp hP hD hS => ?_)
      obtain ⟨ik2_1, go2_2⟩ := u_
      have hc4_1 : ik2_1 = hlf w g true k1 := hp
      subst hc4_1
      have hP : va_P D.1 clAll [(o, .inr (0, [.int (iI thr), .ref b1, .ref b2, .ref b3, .ref b4, .ref b5, .ref b6, .int (iI (w : Int)), .int (iI (g : Int))])), (b1, .inl (D.2 0, 1024, .inl (fun x_ => zI ((hlf w g true k1) x_)))), (b2, .inl (D.2 0, 1024, .inl (fun x_ => zI (st x_)))), (b3, .inl (D.2 0, 1024, .inl (fun x_ => zI (kp x_)))), (b4, .inl (D.2 0, 1024, .inl (fun x_ => zI (go2_2 x_)))), (b5, .inl (D.2 1, 1024, .inl (fun x_ => iI (dp x_)))), (b6, .inl (D.2 1, 1024, .inl (fun x_ => iI (pt x_))))] H := hP
      have hD : va_D A [(o, .inr (0, [.int (iI thr), .ref b1, .ref b2, .ref b3, .ref b4, .ref b5, .ref b6, .int (iI (w : Int)), .int (iI (g : Int))])), (b1, .inl (D.2 0, 1024, .inl (fun x_ => zI ((hlf w g true k1) x_)))), (b2, .inl (D.2 0, 1024, .inl (fun x_ => zI (st x_)))), (b3, .inl (D.2 0, 1024, .inl (fun x_ => zI (kp x_)))), (b4, .inl (D.2 0, 1024, .inl (fun x_ => zI (go2_2 x_)))), (b5, .inl (D.2 1, 1024, .inl (fun x_ => iI (dp x_)))), (b6, .inl (D.2 1, 1024, .inl (fun x_ => iI (pt x_))))] := hD
      refine W.eq (g2 := F0 m0 7 ls [.int (iI ((fb_ct (thn w g true k1) (w * g) : Nat) : Int))]) rfl ?_
      refine lv_aload_n kx kb dX3_thins_7 rfl (lv_at hl 1 rfl) ?_
      refine lv_iconst (v := iI 0) kx kb dX3_thins_8 rfl ?_
      refine t_callV (wr := []) C (met_X3_half l D E o b1 b2 b3 b4 b5 b6 thr w g (hlf w g true k1) st kp go2_2 dp pt false (by first | assumption | omega) (by first | assumption | omega)) (cwV 1 hts (lw_V q1505 q1507 qs37 q62 q1508) rfl rfl rfl (by decide +kernel) ⟨Nat.le_of_ble_eq_true rfl, Nat.le_of_ble_eq_true rfl⟩) (va_recv hK hP (ci := 0) (q0 := 0) rfl rfl) hK hX hP hD hS hA [0, 1, 2, 3, 4, 5, 6] [] rfl rfl (by decide) (by decide) (by decide) tYb_0 (fun _ _ _ => trivial) rfl hl.1 rfl (Nat.le_of_ble_eq_true rfl) dX3_thins_9 ⟨(show 0 ≤ 0 from by omega), (show 0 ≤ 0 from by omega)⟩ (fun u_ H locs hp hP hD hS => ?_)
      obtain ⟨ik2_3, go2_4⟩ := u_
      have hc9_1 : ik2_3 = hlf w g false (hlf w g true k1) := hp
      subst hc9_1
      have hP : va_P D.1 clAll [(o, .inr (0, [.int (iI thr), .ref b1, .ref b2, .ref b3, .ref b4, .ref b5, .ref b6, .int (iI (w : Int)), .int (iI (g : Int))])), (b1, .inl (D.2 0, 1024, .inl (fun x_ => zI ((hlf w g false (hlf w g true k1)) x_)))), (b2, .inl (D.2 0, 1024, .inl (fun x_ => zI (st x_)))), (b3, .inl (D.2 0, 1024, .inl (fun x_ => zI (kp x_)))), (b4, .inl (D.2 0, 1024, .inl (fun x_ => zI (go2_4 x_)))), (b5, .inl (D.2 1, 1024, .inl (fun x_ => iI (dp x_)))), (b6, .inl (D.2 1, 1024, .inl (fun x_ => iI (pt x_))))] H := hP
      have hD : va_D A [(o, .inr (0, [.int (iI thr), .ref b1, .ref b2, .ref b3, .ref b4, .ref b5, .ref b6, .int (iI (w : Int)), .int (iI (g : Int))])), (b1, .inl (D.2 0, 1024, .inl (fun x_ => zI ((hlf w g false (hlf w g true k1)) x_)))), (b2, .inl (D.2 0, 1024, .inl (fun x_ => zI (st x_)))), (b3, .inl (D.2 0, 1024, .inl (fun x_ => zI (kp x_)))), (b4, .inl (D.2 0, 1024, .inl (fun x_ => zI (go2_4 x_)))), (b5, .inl (D.2 1, 1024, .inl (fun x_ => iI (dp x_)))), (b6, .inl (D.2 1, 1024, .inl (fun x_ => iI (pt x_))))] := hD
      refine W.eq (g2 := F0 m0 12 ls [.int (iI ((fb_ct (thn w g false (hlf w g true k1)) (w * g) : Nat) : Int)), .int (iI ((fb_ct (thn w g true k1) (w * g) : Nat) : Int))]) rfl ?_
      refine ti_iadd kx kb dX3_thins_12 ?_
      refine ti_if_le (tgt := 22) kx kb (by omega) dX3_thins_13 (by decide) (fun h13 => ?_) (fun h13 => ?_)
      · have hz : thN w g k1 = 0 := by omega
        rw [thR_stop hz] at hn hk1
        refine lv_iload_n kx kb dX3_thins_22 rfl (lv_at hl 0 rfl) ?_
        subst hQ
        exact tm_iret C ((hlf w g false (hlf w g true k1)), go2_4) (by exact hk1) hP hD hS (show 0 ≤ 0 from by omega) (show 0 ≤ 0 from by omega) (by rw [show n = (((thR w g ik).1 : Nat) : Int) from by omega]) rfl dX3_thins_23
      · have hz : thN w g k1 ≠ 0 := by omega
        have hgo := thR_go hz
        simp only [thP] at hgo
        refine ti_iinc (a := n) (lv' := [(1, .int (iI (n + 1))), (0, .ref o)]) kx kb dX3_thins_16 hl (k := 0) rfl (by decide) rfl (fun ls hl => ?_)
        refine lv_goto (tgt := 2) kx kb dX3_thins_19 (by decide) ?_
        exact ih2 (n + 1) (hlf w g false (hlf w g true k1)) go2_4 (by rw [hgo] at hn; simp only [Int.natCast_add] at hn; omega) (by rw [hgo] at hk1; exact hk1) (by omega) H locs hP hD hS ls hl
  exact cut2 ((fb_ct ik (w * g)) + 1) 0 ik go (by omega) (by rfl) (Nat.lt_succ_self _) s0.heap [] hP hD hS ls hl
set_option maxHeartbeats 4000000 in
set_option maxRecDepth 100000 in
theorem met_X3_thin (l : Launch) (D : TG) (E : TE) (o : Nat) (b1 : Nat) (b2 : Nat) (b3 : Nat) (b4 : Nat) (b5 : Nat) (b6 : Nat) (thr : Int) (w : Nat) (g : Nat) (ik : Nat → Bool) (st : Nat → Bool) (kp : Nat → Bool) (go : Nat → Bool) (dp : Nat → Int) (pt : Nat → Int) (hw : 1 ≤ w ∧ w ≤ 32) (hg : 1 ≤ g ∧ g ≤ 32) : tMet l yX3_thin cX3_thin 1 (some .int) 8 181 (0) (0) [.ref o] D E [(o, .inr (0, [.int (iI thr), .ref b1, .ref b2, .ref b3, .ref b4, .ref b5, .ref b6, .int (iI (w : Int)), .int (iI (g : Int))])), (b1, .inl (D.2 0, 1024, .inl (fun x_ => zI (ik x_)))), (b2, .inl (D.2 0, 1024, .inl (fun x_ => zI (st x_)))), (b3, .inl (D.2 0, 1024, .inl (fun x_ => zI (kp x_)))), (b4, .inl (D.2 0, 1024, .inl (fun x_ => zI (go x_)))), (b5, .inl (D.2 1, 1024, .inl (fun x_ => iI (dp x_)))), (b6, .inl (D.2 1, 1024, .inl (fun x_ => iI (pt x_))))] tY0 (S := (Nat → Bool) × (Nat → Bool)) (fun u_ => u_.1 = (thR w g ik).2) (fun u_ => some (.int (iI (((thR w g ik).1 : Nat) : Int)))) (fun u_ => [(o, .inr (0, [.int (iI 0), .ref b1, .ref b2, .ref b3, .ref b4, .ref b5, .ref b6, .int (iI (w : Int)), .int (iI (g : Int))])), (b1, .inl (D.2 0, 1024, .inl (fun x_ => zI (u_.1 x_)))), (b2, .inl (D.2 0, 1024, .inl (fun x_ => zI (st x_)))), (b3, .inl (D.2 0, 1024, .inl (fun x_ => zI (kp x_)))), (b4, .inl (D.2 0, 1024, .inl (fun x_ => zI (u_.2 x_)))), (b5, .inl (D.2 1, 1024, .inl (fun x_ => iI (dp x_)))), (b6, .inl (D.2 1, 1024, .inl (fun x_ => iI (pt x_))))]) := by
  refine tu_met (by decide +kernel) (Nat.le_of_ble_eq_true rfl) ?_
  intro p0 e0 s0 m0 below meth c0 A ls args Q hag hQ C hK hX hY hP hD hA hAe hl
  obtain ⟨kx, kb, hml, hown, hts, -⟩ := id C
  have hS : va_S A s0.heap s0.heap [] := va_S.rf
  have hl : lv_has ls 1 [(0, .ref o)] := hl
  have hwg := wg_le hw hg
  refine lv_aload_n kx kb dX3_thin_0 rfl (lv_at hl 0 rfl) ?_
  refine lv_aload_n kx kb dX3_thin_1 rfl (lv_at hl 0 rfl) ?_
  refine t_callV (wr := []) C (met_X3_thins l D E o b1 b2 b3 b4 b5 b6 thr w g ik st kp go dp pt (by first | assumption | omega) (by first | assumption | omega)) (cwV 0 hts (lw_V q1501 q1503 qs36 q62 q1504) rfl rfl rfl (by decide +kernel) ⟨Nat.le_of_ble_eq_true rfl, Nat.le_of_ble_eq_true rfl⟩) (va_recv hK hP (ci := 0) (q0 := 0) rfl rfl) hK hX hP hD hS hA [0, 1, 2, 3, 4, 5, 6] [] rfl rfl (by decide) (by decide) (by decide) tYb_0 (fun _ _ _ => trivial) rfl hl.1 rfl (Nat.le_of_ble_eq_true rfl) dX3_thin_2 ⟨(show 0 ≤ 0 from by omega), (show 0 ≤ 0 from by omega)⟩ (fun u_ H locs hp hP hD hS => ?_)
  obtain ⟨ik2_1, go2_2⟩ := u_
  have hc2_1 : ik2_1 = (thR w g ik).2 := hp
  subst hc2_1
  have hP : va_P D.1 clAll [(o, .inr (0, [.int (iI thr), .ref b1, .ref b2, .ref b3, .ref b4, .ref b5, .ref b6, .int (iI (w : Int)), .int (iI (g : Int))])), (b1, .inl (D.2 0, 1024, .inl (fun x_ => zI (((thR w g ik).2) x_)))), (b2, .inl (D.2 0, 1024, .inl (fun x_ => zI (st x_)))), (b3, .inl (D.2 0, 1024, .inl (fun x_ => zI (kp x_)))), (b4, .inl (D.2 0, 1024, .inl (fun x_ => zI (go2_2 x_)))), (b5, .inl (D.2 1, 1024, .inl (fun x_ => iI (dp x_)))), (b6, .inl (D.2 1, 1024, .inl (fun x_ => iI (pt x_))))] H := hP
  have hD : va_D A [(o, .inr (0, [.int (iI thr), .ref b1, .ref b2, .ref b3, .ref b4, .ref b5, .ref b6, .int (iI (w : Int)), .int (iI (g : Int))])), (b1, .inl (D.2 0, 1024, .inl (fun x_ => zI (((thR w g ik).2) x_)))), (b2, .inl (D.2 0, 1024, .inl (fun x_ => zI (st x_)))), (b3, .inl (D.2 0, 1024, .inl (fun x_ => zI (kp x_)))), (b4, .inl (D.2 0, 1024, .inl (fun x_ => zI (go2_2 x_)))), (b5, .inl (D.2 1, 1024, .inl (fun x_ => iI (dp x_)))), (b6, .inl (D.2 1, 1024, .inl (fun x_ => iI (pt x_))))] := hD
  refine W.eq (g2 := F0 m0 5 ls [.int (iI (((thR w g ik).1 : Nat) : Int)), .ref o]) rfl ?_
  refine t_callV (wr := []) C (met_X3_toldOf l D E o b1 b2 b3 b4 b5 b6 thr w g ((thR w g ik).2) st kp go2_2 dp pt (((thR w g ik).1 : Nat) : Int) (by first | assumption | omega) (by first | assumption | omega)) (cwV 1 hts (lw_V q1525 q1527 qs42 q62 q1528) rfl rfl rfl (by decide +kernel) ⟨Nat.le_of_ble_eq_true rfl, Nat.le_of_ble_eq_true rfl⟩) (va_recv hK hP (ci := 0) (q0 := 0) rfl rfl) hK hX hP hD hS hA [0, 1, 2, 3, 4, 5, 6] [] rfl rfl (by decide) (by decide) (by decide) tYb_0 (fun _ _ _ => trivial) rfl hl.1 rfl (Nat.le_of_ble_eq_true rfl) dX3_thin_5 ⟨(show 0 ≤ 0 from by omega), (show 0 ≤ 0 from by omega)⟩ (fun u_ H locs hp hP hD hS => ?_)
  have hP : va_P D.1 clAll [(o, .inr (0, [.int (iI 0), .ref b1, .ref b2, .ref b3, .ref b4, .ref b5, .ref b6, .int (iI (w : Int)), .int (iI (g : Int))])), (b1, .inl (D.2 0, 1024, .inl (fun x_ => zI (((thR w g ik).2) x_)))), (b2, .inl (D.2 0, 1024, .inl (fun x_ => zI (st x_)))), (b3, .inl (D.2 0, 1024, .inl (fun x_ => zI (kp x_)))), (b4, .inl (D.2 0, 1024, .inl (fun x_ => zI (go2_2 x_)))), (b5, .inl (D.2 1, 1024, .inl (fun x_ => iI (dp x_)))), (b6, .inl (D.2 1, 1024, .inl (fun x_ => iI (pt x_))))] H := hP
  have hD : va_D A [(o, .inr (0, [.int (iI 0), .ref b1, .ref b2, .ref b3, .ref b4, .ref b5, .ref b6, .int (iI (w : Int)), .int (iI (g : Int))])), (b1, .inl (D.2 0, 1024, .inl (fun x_ => zI (((thR w g ik).2) x_)))), (b2, .inl (D.2 0, 1024, .inl (fun x_ => zI (st x_)))), (b3, .inl (D.2 0, 1024, .inl (fun x_ => zI (kp x_)))), (b4, .inl (D.2 0, 1024, .inl (fun x_ => zI (go2_2 x_)))), (b5, .inl (D.2 1, 1024, .inl (fun x_ => iI (dp x_)))), (b6, .inl (D.2 1, 1024, .inl (fun x_ => iI (pt x_))))] := hD
  refine W.eq (g2 := F0 m0 8 ls [.int (iI (((thR w g ik).1 : Nat) : Int))]) rfl ?_
  subst hQ
  exact tm_iret C (((thR w g ik).2), go2_2) (by first | rfl | assumption) hP hD hS (show 0 ≤ 0 from by omega) (show 0 ≤ 0 from by omega) rfl rfl dX3_thin_8
set_option maxHeartbeats 4000000 in
set_option maxRecDepth 100000 in
theorem met_X3_stepsToThin (l : Launch) (D : TG) (E : TE) (o : Nat) (b1 : Nat) (b2 : Nat) (b3 : Nat) (b4 : Nat) (b5 : Nat) (b6 : Nat) (thr : Int) (w : Nat) (g : Nat) (ik : Nat → Bool) (st : Nat → Bool) (kp : Nat → Bool) (go : Nat → Bool) (dp : Nat → Int) (pt : Nat → Int) (hw : 1 ≤ w ∧ w ≤ 32) (hg : 1 ≤ g ∧ g ≤ 32) : tMet l yX3_stepsToThin cX3_stepsToThin 2 (some .int) 8 181 (0) (0) [.ref o] D E [(o, .inr (0, [.int (iI thr), .ref b1, .ref b2, .ref b3, .ref b4, .ref b5, .ref b6, .int (iI (w : Int)), .int (iI (g : Int))])), (b1, .inl (D.2 0, 1024, .inl (fun x_ => zI (ik x_)))), (b2, .inl (D.2 0, 1024, .inl (fun x_ => zI (st x_)))), (b3, .inl (D.2 0, 1024, .inl (fun x_ => zI (kp x_)))), (b4, .inl (D.2 0, 1024, .inl (fun x_ => zI (go x_)))), (b5, .inl (D.2 1, 1024, .inl (fun x_ => iI (dp x_)))), (b6, .inl (D.2 1, 1024, .inl (fun x_ => iI (pt x_))))] tY0 (S := (Nat → Bool) × (Nat → Bool)) (fun u_ => True) (fun u_ => some (.int (iI (((thR w g ik).1 : Nat) : Int)))) (fun u_ => [(o, .inr (0, [.int (iI 0), .ref b1, .ref b2, .ref b3, .ref b4, .ref b5, .ref b6, .int (iI (w : Int)), .int (iI (g : Int))])), (b1, .inl (D.2 0, 1024, .inl (fun x_ => zI (ik x_)))), (b2, .inl (D.2 0, 1024, .inl (fun x_ => zI (st x_)))), (b3, .inl (D.2 0, 1024, .inl (fun x_ => zI (u_.1 x_)))), (b4, .inl (D.2 0, 1024, .inl (fun x_ => zI (u_.2 x_)))), (b5, .inl (D.2 1, 1024, .inl (fun x_ => iI (dp x_)))), (b6, .inl (D.2 1, 1024, .inl (fun x_ => iI (pt x_))))]) := by
  refine tu_met (by decide +kernel) (Nat.le_of_ble_eq_true rfl) ?_
  intro p0 e0 s0 m0 below meth c0 A ls args Q hag hQ C hK hX hY hP hD hA hAe hl
  obtain ⟨kx, kb, hml, hown, hts, -⟩ := id C
  have hS : va_S A s0.heap s0.heap [] := va_S.rf
  have hl : lv_has ls 2 [(0, .ref o)] := hl
  have hwg := wg_le hw hg
  refine lv_aload_n kx kb dX3_stepsToThin_0 rfl (lv_at hl 0 rfl) ?_
  refine lv_iconst (v := iI 0) kx kb dX3_stepsToThin_1 rfl ?_
  refine va_put (D := D.1) (ci := 0) (v := .int (iI 0)) (ty := .int) (C := RX3) (T := TX3) (N := 9) kx kb hts in_X3 tyX3 tyX3_ok nmX3 hown hK hP hD hS 0 rfl rfl 0 (by decide) (hts _ q1370) (fun _ h9 => h9) rfl (by decide +kernel) rfl rfl (Nat.le_of_ble_eq_true rfl) dX3_stepsToThin_2 (fun H locs hP hD hS => ?_)
  have hP : va_P D.1 clAll [(o, .inr (0, [.int (iI 0), .ref b1, .ref b2, .ref b3, .ref b4, .ref b5, .ref b6, .int (iI (w : Int)), .int (iI (g : Int))])), (b1, .inl (D.2 0, 1024, .inl (fun x_ => zI (ik x_)))), (b2, .inl (D.2 0, 1024, .inl (fun x_ => zI (st x_)))), (b3, .inl (D.2 0, 1024, .inl (fun x_ => zI (kp x_)))), (b4, .inl (D.2 0, 1024, .inl (fun x_ => zI (go x_)))), (b5, .inl (D.2 1, 1024, .inl (fun x_ => iI (dp x_)))), (b6, .inl (D.2 1, 1024, .inl (fun x_ => iI (pt x_))))] H := hP
  have hD : va_D A [(o, .inr (0, [.int (iI 0), .ref b1, .ref b2, .ref b3, .ref b4, .ref b5, .ref b6, .int (iI (w : Int)), .int (iI (g : Int))])), (b1, .inl (D.2 0, 1024, .inl (fun x_ => zI (ik x_)))), (b2, .inl (D.2 0, 1024, .inl (fun x_ => zI (st x_)))), (b3, .inl (D.2 0, 1024, .inl (fun x_ => zI (kp x_)))), (b4, .inl (D.2 0, 1024, .inl (fun x_ => zI (go x_)))), (b5, .inl (D.2 1, 1024, .inl (fun x_ => iI (dp x_)))), (b6, .inl (D.2 1, 1024, .inl (fun x_ => iI (pt x_))))] := hD
  refine lv_aload_n kx kb dX3_stepsToThin_5 rfl (lv_at hl 0 rfl) ?_
  refine t_callV (wr := []) C (met_X3_keeps l D E o b1 b2 b3 b4 b5 b6 0 w g ik st kp go dp pt (by first | assumption | omega) (by first | assumption | omega)) (cwV 0 hts (lw_V q1642 q1644 qs55 q62 q1645) rfl rfl rfl (by decide +kernel) ⟨Nat.le_of_ble_eq_true rfl, Nat.le_of_ble_eq_true rfl⟩) (va_recv hK hP (ci := 0) (q0 := 0) rfl rfl) hK hX hP hD hS hA [0, 1, 2, 3, 4, 5, 6] [] rfl rfl (by decide) (by decide) (by decide) tYb_0 (fun _ _ _ => trivial) rfl hl.1 rfl (Nat.le_of_ble_eq_true rfl) dX3_stepsToThin_6 ⟨(show 0 ≤ 0 from by omega), (show 0 ≤ 0 from by omega)⟩ (fun u_ H locs hp hP hD hS => ?_)
  have hP : va_P D.1 clAll [(o, .inr (0, [.int (iI 0), .ref b1, .ref b2, .ref b3, .ref b4, .ref b5, .ref b6, .int (iI (w : Int)), .int (iI (g : Int))])), (b1, .inl (D.2 0, 1024, .inl (fun x_ => zI (ik x_)))), (b2, .inl (D.2 0, 1024, .inl (fun x_ => zI (st x_)))), (b3, .inl (D.2 0, 1024, .inl (fun x_ => zI ((flw ik kp (w * g)) x_)))), (b4, .inl (D.2 0, 1024, .inl (fun x_ => zI (go x_)))), (b5, .inl (D.2 1, 1024, .inl (fun x_ => iI (dp x_)))), (b6, .inl (D.2 1, 1024, .inl (fun x_ => iI (pt x_))))] H := hP
  have hD : va_D A [(o, .inr (0, [.int (iI 0), .ref b1, .ref b2, .ref b3, .ref b4, .ref b5, .ref b6, .int (iI (w : Int)), .int (iI (g : Int))])), (b1, .inl (D.2 0, 1024, .inl (fun x_ => zI (ik x_)))), (b2, .inl (D.2 0, 1024, .inl (fun x_ => zI (st x_)))), (b3, .inl (D.2 0, 1024, .inl (fun x_ => zI ((flw ik kp (w * g)) x_)))), (b4, .inl (D.2 0, 1024, .inl (fun x_ => zI (go x_)))), (b5, .inl (D.2 1, 1024, .inl (fun x_ => iI (dp x_)))), (b6, .inl (D.2 1, 1024, .inl (fun x_ => iI (pt x_))))] := hD
  refine W.eq (g2 := F0 m0 9 ls []) rfl ?_
  refine lv_aload_n kx kb dX3_stepsToThin_9 rfl (lv_at hl 0 rfl) ?_
  refine t_callV (wr := []) C (met_X3_thins l D E o b1 b2 b3 b4 b5 b6 0 w g ik st (flw ik kp (w * g)) go dp pt (by first | assumption | omega) (by first | assumption | omega)) (cwV 0 hts (lw_V q1501 q1503 qs36 q62 q1504) rfl rfl rfl (by decide +kernel) ⟨Nat.le_of_ble_eq_true rfl, Nat.le_of_ble_eq_true rfl⟩) (va_recv hK hP (ci := 0) (q0 := 0) rfl rfl) hK hX hP hD hS hA [0, 1, 2, 3, 4, 5, 6] [] rfl rfl (by decide) (by decide) (by decide) tYb_0 (fun _ _ _ => trivial) rfl hl.1 rfl (Nat.le_of_ble_eq_true rfl) dX3_stepsToThin_10 ⟨(show 0 ≤ 0 from by omega), (show 0 ≤ 0 from by omega)⟩ (fun u_ H locs hp hP hD hS => ?_)
  obtain ⟨ik2_1, go2_2⟩ := u_
  have hc10_1 : ik2_1 = (thR w g ik).2 := hp
  subst hc10_1
  have hP : va_P D.1 clAll [(o, .inr (0, [.int (iI 0), .ref b1, .ref b2, .ref b3, .ref b4, .ref b5, .ref b6, .int (iI (w : Int)), .int (iI (g : Int))])), (b1, .inl (D.2 0, 1024, .inl (fun x_ => zI (((thR w g ik).2) x_)))), (b2, .inl (D.2 0, 1024, .inl (fun x_ => zI (st x_)))), (b3, .inl (D.2 0, 1024, .inl (fun x_ => zI ((flw ik kp (w * g)) x_)))), (b4, .inl (D.2 0, 1024, .inl (fun x_ => zI (go2_2 x_)))), (b5, .inl (D.2 1, 1024, .inl (fun x_ => iI (dp x_)))), (b6, .inl (D.2 1, 1024, .inl (fun x_ => iI (pt x_))))] H := hP
  have hD : va_D A [(o, .inr (0, [.int (iI 0), .ref b1, .ref b2, .ref b3, .ref b4, .ref b5, .ref b6, .int (iI (w : Int)), .int (iI (g : Int))])), (b1, .inl (D.2 0, 1024, .inl (fun x_ => zI (((thR w g ik).2) x_)))), (b2, .inl (D.2 0, 1024, .inl (fun x_ => zI (st x_)))), (b3, .inl (D.2 0, 1024, .inl (fun x_ => zI ((flw ik kp (w * g)) x_)))), (b4, .inl (D.2 0, 1024, .inl (fun x_ => zI (go2_2 x_)))), (b5, .inl (D.2 1, 1024, .inl (fun x_ => iI (dp x_)))), (b6, .inl (D.2 1, 1024, .inl (fun x_ => iI (pt x_))))] := hD
  refine W.eq (g2 := F0 m0 13 ls [.int (iI (((thR w g ik).1 : Nat) : Int))]) rfl ?_
  refine lv_istore_n (lv' := [(1, .int (iI (((thR w g ik).1 : Nat) : Int))), (0, .ref o)]) kx kb dX3_stepsToThin_13 rfl hl (by decide) rfl (fun ls hl => ?_)
  refine lv_aload_n kx kb dX3_stepsToThin_14 rfl (lv_at hl 1 rfl) ?_
  refine t_callV (wr := []) C (met_X3_brings l D E o b1 b2 b3 b4 b5 b6 0 w g ((thR w g ik).2) st (flw ik kp (w * g)) go2_2 dp pt (by first | assumption | omega) (by first | assumption | omega)) (cwV 0 hts (lw_V q1646 q1648 qs56 q62 q1649) rfl rfl rfl (by decide +kernel) ⟨Nat.le_of_ble_eq_true rfl, Nat.le_of_ble_eq_true rfl⟩) (va_recv hK hP (ci := 0) (q0 := 0) rfl rfl) hK hX hP hD hS hA [0, 1, 2, 3, 4, 5, 6] [] rfl rfl (by decide) (by decide) (by decide) tYb_0 (fun _ _ _ => trivial) rfl hl.1 rfl (Nat.le_of_ble_eq_true rfl) dX3_stepsToThin_15 ⟨(show 0 ≤ 0 from by omega), (show 0 ≤ 0 from by omega)⟩ (fun u_ H locs hp hP hD hS => ?_)
  have hP : va_P D.1 clAll [(o, .inr (0, [.int (iI 0), .ref b1, .ref b2, .ref b3, .ref b4, .ref b5, .ref b6, .int (iI (w : Int)), .int (iI (g : Int))])), (b1, .inl (D.2 0, 1024, .inl (fun x_ => zI ((flw (flw ik kp (w * g)) ((thR w g ik).2) (w * g)) x_)))), (b2, .inl (D.2 0, 1024, .inl (fun x_ => zI (st x_)))), (b3, .inl (D.2 0, 1024, .inl (fun x_ => zI ((flw ik kp (w * g)) x_)))), (b4, .inl (D.2 0, 1024, .inl (fun x_ => zI (go2_2 x_)))), (b5, .inl (D.2 1, 1024, .inl (fun x_ => iI (dp x_)))), (b6, .inl (D.2 1, 1024, .inl (fun x_ => iI (pt x_))))] H := hP
  have hD : va_D A [(o, .inr (0, [.int (iI 0), .ref b1, .ref b2, .ref b3, .ref b4, .ref b5, .ref b6, .int (iI (w : Int)), .int (iI (g : Int))])), (b1, .inl (D.2 0, 1024, .inl (fun x_ => zI ((flw (flw ik kp (w * g)) ((thR w g ik).2) (w * g)) x_)))), (b2, .inl (D.2 0, 1024, .inl (fun x_ => zI (st x_)))), (b3, .inl (D.2 0, 1024, .inl (fun x_ => zI ((flw ik kp (w * g)) x_)))), (b4, .inl (D.2 0, 1024, .inl (fun x_ => zI (go2_2 x_)))), (b5, .inl (D.2 1, 1024, .inl (fun x_ => iI (dp x_)))), (b6, .inl (D.2 1, 1024, .inl (fun x_ => iI (pt x_))))] := hD
  refine W.eq (g2 := F0 m0 18 ls []) rfl ?_
  have hP := tx_arrZ (g := ik) 1 rfl (fun j hj => by rw [thR_back]) hP
  have hP : va_P D.1 clAll [(o, .inr (0, [.int (iI 0), .ref b1, .ref b2, .ref b3, .ref b4, .ref b5, .ref b6, .int (iI (w : Int)), .int (iI (g : Int))])), (b1, .inl (D.2 0, 1024, .inl (fun x_ => zI (ik x_)))), (b2, .inl (D.2 0, 1024, .inl (fun x_ => zI (st x_)))), (b3, .inl (D.2 0, 1024, .inl (fun x_ => zI ((flw ik kp (w * g)) x_)))), (b4, .inl (D.2 0, 1024, .inl (fun x_ => zI (go2_2 x_)))), (b5, .inl (D.2 1, 1024, .inl (fun x_ => iI (dp x_)))), (b6, .inl (D.2 1, 1024, .inl (fun x_ => iI (pt x_))))] H := hP
  have hD : va_D A [(o, .inr (0, [.int (iI 0), .ref b1, .ref b2, .ref b3, .ref b4, .ref b5, .ref b6, .int (iI (w : Int)), .int (iI (g : Int))])), (b1, .inl (D.2 0, 1024, .inl (fun x_ => zI (ik x_)))), (b2, .inl (D.2 0, 1024, .inl (fun x_ => zI (st x_)))), (b3, .inl (D.2 0, 1024, .inl (fun x_ => zI ((flw ik kp (w * g)) x_)))), (b4, .inl (D.2 0, 1024, .inl (fun x_ => zI (go2_2 x_)))), (b5, .inl (D.2 1, 1024, .inl (fun x_ => iI (dp x_)))), (b6, .inl (D.2 1, 1024, .inl (fun x_ => iI (pt x_))))] := hD.set (p := 1) rfl
  refine lv_iload_n kx kb dX3_stepsToThin_18 rfl (lv_at hl 0 rfl) ?_
  subst hQ
  exact tm_iret C ((flw ik kp (w * g)), go2_2) trivial hP hD hS (show 0 ≤ 0 from by omega) (show 0 ≤ 0 from by omega) rfl rfl dX3_stepsToThin_19
set_option maxHeartbeats 4000000 in
set_option maxRecDepth 100000 in
theorem met_X3_thinned (l : Launch) (D : TG) (E : TE) (o : Nat) (b1 : Nat) (b2 : Nat) (b3 : Nat) (b4 : Nat) (b5 : Nat) (b6 : Nat) (thr : Int) (w : Nat) (g : Nat) (ik : Nat → Bool) (st : Nat → Bool) (kp : Nat → Bool) (go : Nat → Bool) (dp : Nat → Int) (pt : Nat → Int) (hw : 1 ≤ w ∧ w ≤ 32) (hg : 1 ≤ g ∧ g ≤ 32) : tMet l yX3_thinned cX3_thinned 2 (some .int) 8 181 (0) (0) [.ref o] D E [(o, .inr (0, [.int (iI thr), .ref b1, .ref b2, .ref b3, .ref b4, .ref b5, .ref b6, .int (iI (w : Int)), .int (iI (g : Int))])), (b1, .inl (D.2 0, 1024, .inl (fun x_ => zI (ik x_)))), (b2, .inl (D.2 0, 1024, .inl (fun x_ => zI (st x_)))), (b3, .inl (D.2 0, 1024, .inl (fun x_ => zI (kp x_)))), (b4, .inl (D.2 0, 1024, .inl (fun x_ => zI (go x_)))), (b5, .inl (D.2 1, 1024, .inl (fun x_ => iI (dp x_)))), (b6, .inl (D.2 1, 1024, .inl (fun x_ => iI (pt x_))))] tY0 (S := (Nat → Bool) × (Nat → Bool)) (fun u_ => True) (fun u_ => some (.int (iI ((fb_ct (thR w g ik).2 (w * g) : Nat) : Int)))) (fun u_ => [(o, .inr (0, [.int (iI 0), .ref b1, .ref b2, .ref b3, .ref b4, .ref b5, .ref b6, .int (iI (w : Int)), .int (iI (g : Int))])), (b1, .inl (D.2 0, 1024, .inl (fun x_ => zI (ik x_)))), (b2, .inl (D.2 0, 1024, .inl (fun x_ => zI (st x_)))), (b3, .inl (D.2 0, 1024, .inl (fun x_ => zI (u_.1 x_)))), (b4, .inl (D.2 0, 1024, .inl (fun x_ => zI (u_.2 x_)))), (b5, .inl (D.2 1, 1024, .inl (fun x_ => iI (dp x_)))), (b6, .inl (D.2 1, 1024, .inl (fun x_ => iI (pt x_))))]) := by
  refine tu_met (by decide +kernel) (Nat.le_of_ble_eq_true rfl) ?_
  intro p0 e0 s0 m0 below meth c0 A ls args Q hag hQ C hK hX hY hP hD hA hAe hl
  obtain ⟨kx, kb, hml, hown, hts, -⟩ := id C
  have hS : va_S A s0.heap s0.heap [] := va_S.rf
  have hl : lv_has ls 2 [(0, .ref o)] := hl
  have hwg := wg_le hw hg
  refine lv_aload_n kx kb dX3_thinned_0 rfl (lv_at hl 0 rfl) ?_
  refine lv_iconst (v := iI 0) kx kb dX3_thinned_1 rfl ?_
  refine va_put (D := D.1) (ci := 0) (v := .int (iI 0)) (ty := .int) (C := RX3) (T := TX3) (N := 9) kx kb hts in_X3 tyX3 tyX3_ok nmX3 hown hK hP hD hS 0 rfl rfl 0 (by decide) (hts _ q1370) (fun _ h9 => h9) rfl (by decide +kernel) rfl rfl (Nat.le_of_ble_eq_true rfl) dX3_thinned_2 (fun H locs hP hD hS => ?_)
  have hP : va_P D.1 clAll [(o, .inr (0, [.int (iI 0), .ref b1, .ref b2, .ref b3, .ref b4, .ref b5, .ref b6, .int (iI (w : Int)), .int (iI (g : Int))])), (b1, .inl (D.2 0, 1024, .inl (fun x_ => zI (ik x_)))), (b2, .inl (D.2 0, 1024, .inl (fun x_ => zI (st x_)))), (b3, .inl (D.2 0, 1024, .inl (fun x_ => zI (kp x_)))), (b4, .inl (D.2 0, 1024, .inl (fun x_ => zI (go x_)))), (b5, .inl (D.2 1, 1024, .inl (fun x_ => iI (dp x_)))), (b6, .inl (D.2 1, 1024, .inl (fun x_ => iI (pt x_))))] H := hP
  have hD : va_D A [(o, .inr (0, [.int (iI 0), .ref b1, .ref b2, .ref b3, .ref b4, .ref b5, .ref b6, .int (iI (w : Int)), .int (iI (g : Int))])), (b1, .inl (D.2 0, 1024, .inl (fun x_ => zI (ik x_)))), (b2, .inl (D.2 0, 1024, .inl (fun x_ => zI (st x_)))), (b3, .inl (D.2 0, 1024, .inl (fun x_ => zI (kp x_)))), (b4, .inl (D.2 0, 1024, .inl (fun x_ => zI (go x_)))), (b5, .inl (D.2 1, 1024, .inl (fun x_ => iI (dp x_)))), (b6, .inl (D.2 1, 1024, .inl (fun x_ => iI (pt x_))))] := hD
  refine lv_aload_n kx kb dX3_thinned_5 rfl (lv_at hl 0 rfl) ?_
  refine t_callV (wr := []) C (met_X3_keeps l D E o b1 b2 b3 b4 b5 b6 0 w g ik st kp go dp pt (by first | assumption | omega) (by first | assumption | omega)) (cwV 0 hts (lw_V q1642 q1644 qs55 q62 q1645) rfl rfl rfl (by decide +kernel) ⟨Nat.le_of_ble_eq_true rfl, Nat.le_of_ble_eq_true rfl⟩) (va_recv hK hP (ci := 0) (q0 := 0) rfl rfl) hK hX hP hD hS hA [0, 1, 2, 3, 4, 5, 6] [] rfl rfl (by decide) (by decide) (by decide) tYb_0 (fun _ _ _ => trivial) rfl hl.1 rfl (Nat.le_of_ble_eq_true rfl) dX3_thinned_6 ⟨(show 0 ≤ 0 from by omega), (show 0 ≤ 0 from by omega)⟩ (fun u_ H locs hp hP hD hS => ?_)
  have hP : va_P D.1 clAll [(o, .inr (0, [.int (iI 0), .ref b1, .ref b2, .ref b3, .ref b4, .ref b5, .ref b6, .int (iI (w : Int)), .int (iI (g : Int))])), (b1, .inl (D.2 0, 1024, .inl (fun x_ => zI (ik x_)))), (b2, .inl (D.2 0, 1024, .inl (fun x_ => zI (st x_)))), (b3, .inl (D.2 0, 1024, .inl (fun x_ => zI ((flw ik kp (w * g)) x_)))), (b4, .inl (D.2 0, 1024, .inl (fun x_ => zI (go x_)))), (b5, .inl (D.2 1, 1024, .inl (fun x_ => iI (dp x_)))), (b6, .inl (D.2 1, 1024, .inl (fun x_ => iI (pt x_))))] H := hP
  have hD : va_D A [(o, .inr (0, [.int (iI 0), .ref b1, .ref b2, .ref b3, .ref b4, .ref b5, .ref b6, .int (iI (w : Int)), .int (iI (g : Int))])), (b1, .inl (D.2 0, 1024, .inl (fun x_ => zI (ik x_)))), (b2, .inl (D.2 0, 1024, .inl (fun x_ => zI (st x_)))), (b3, .inl (D.2 0, 1024, .inl (fun x_ => zI ((flw ik kp (w * g)) x_)))), (b4, .inl (D.2 0, 1024, .inl (fun x_ => zI (go x_)))), (b5, .inl (D.2 1, 1024, .inl (fun x_ => iI (dp x_)))), (b6, .inl (D.2 1, 1024, .inl (fun x_ => iI (pt x_))))] := hD
  refine W.eq (g2 := F0 m0 9 ls []) rfl ?_
  refine lv_aload_n kx kb dX3_thinned_9 rfl (lv_at hl 0 rfl) ?_
  refine t_callV (wr := []) C (met_X3_thins l D E o b1 b2 b3 b4 b5 b6 0 w g ik st (flw ik kp (w * g)) go dp pt (by first | assumption | omega) (by first | assumption | omega)) (cwV 0 hts (lw_V q1501 q1503 qs36 q62 q1504) rfl rfl rfl (by decide +kernel) ⟨Nat.le_of_ble_eq_true rfl, Nat.le_of_ble_eq_true rfl⟩) (va_recv hK hP (ci := 0) (q0 := 0) rfl rfl) hK hX hP hD hS hA [0, 1, 2, 3, 4, 5, 6] [] rfl rfl (by decide) (by decide) (by decide) tYb_0 (fun _ _ _ => trivial) rfl hl.1 rfl (Nat.le_of_ble_eq_true rfl) dX3_thinned_10 ⟨(show 0 ≤ 0 from by omega), (show 0 ≤ 0 from by omega)⟩ (fun u_ H locs hp hP hD hS => ?_)
  obtain ⟨ik2_1, go2_2⟩ := u_
  have hc10_1 : ik2_1 = (thR w g ik).2 := hp
  subst hc10_1
  have hP : va_P D.1 clAll [(o, .inr (0, [.int (iI 0), .ref b1, .ref b2, .ref b3, .ref b4, .ref b5, .ref b6, .int (iI (w : Int)), .int (iI (g : Int))])), (b1, .inl (D.2 0, 1024, .inl (fun x_ => zI (((thR w g ik).2) x_)))), (b2, .inl (D.2 0, 1024, .inl (fun x_ => zI (st x_)))), (b3, .inl (D.2 0, 1024, .inl (fun x_ => zI ((flw ik kp (w * g)) x_)))), (b4, .inl (D.2 0, 1024, .inl (fun x_ => zI (go2_2 x_)))), (b5, .inl (D.2 1, 1024, .inl (fun x_ => iI (dp x_)))), (b6, .inl (D.2 1, 1024, .inl (fun x_ => iI (pt x_))))] H := hP
  have hD : va_D A [(o, .inr (0, [.int (iI 0), .ref b1, .ref b2, .ref b3, .ref b4, .ref b5, .ref b6, .int (iI (w : Int)), .int (iI (g : Int))])), (b1, .inl (D.2 0, 1024, .inl (fun x_ => zI (((thR w g ik).2) x_)))), (b2, .inl (D.2 0, 1024, .inl (fun x_ => zI (st x_)))), (b3, .inl (D.2 0, 1024, .inl (fun x_ => zI ((flw ik kp (w * g)) x_)))), (b4, .inl (D.2 0, 1024, .inl (fun x_ => zI (go2_2 x_)))), (b5, .inl (D.2 1, 1024, .inl (fun x_ => iI (dp x_)))), (b6, .inl (D.2 1, 1024, .inl (fun x_ => iI (pt x_))))] := hD
  refine W.eq (g2 := F0 m0 13 ls [.int (iI (((thR w g ik).1 : Nat) : Int))]) rfl ?_
  have ht := thR_le w g ik
  have hf := fb_ct_le ik (w * g)
  refine ti_if_ge (tgt := 20) kx kb (by omega) dX3_thinned_13 (by decide) (fun h13 => ?_) (fun h13 => ?_)
  · refine lv_aload_n kx kb dX3_thinned_20 rfl (lv_at hl 0 rfl) ?_
    refine t_callRV C (met_X3_count l D E o b1 b2 b3 b4 b5 b6 0 w g ((thR w g ik).2) st (flw ik kp (w * g)) go2_2 dp pt (by first | assumption | omega) (by first | assumption | omega)) (cwV 0 hts (lw_V q1485 q1487 qs35 q62 q1488) rfl rfl rfl (by decide +kernel) ⟨Nat.le_of_ble_eq_true rfl, Nat.le_of_ble_eq_true rfl⟩) (va_recv hK hP (ci := 0) (q0 := 0) rfl rfl) hK hX hP hD hS hA [0, 1, 2, 3, 4, 5, 6] rfl (by decide) tYb_0 (fun _ _ _ => trivial) rfl hl.1 rfl (Nat.le_of_ble_eq_true rfl) dX3_thinned_21 ⟨(show 0 ≤ 0 from by omega), (show 0 ≤ 0 from by omega)⟩ ?_
    refine W.eq (g2 := F0 m0 24 ls [.int (iI ((fb_ct ((thR w g ik).2) (w * g) : Nat) : Int))]) rfl ?_
    refine lv_istore_n (lv' := [(1, .int (iI ((fb_ct ((thR w g ik).2) (w * g) : Nat) : Int))), (0, .ref o)]) kx kb dX3_thinned_24 rfl hl (by decide) rfl (fun ls hl => ?_)
    refine lv_aload_n kx kb dX3_thinned_25 rfl (lv_at hl 1 rfl) ?_
    refine t_callV (wr := []) C (met_X3_brings l D E o b1 b2 b3 b4 b5 b6 0 w g ((thR w g ik).2) st (flw ik kp (w * g)) go2_2 dp pt (by first | assumption | omega) (by first | assumption | omega)) (cwV 0 hts (lw_V q1646 q1648 qs56 q62 q1649) rfl rfl rfl (by decide +kernel) ⟨Nat.le_of_ble_eq_true rfl, Nat.le_of_ble_eq_true rfl⟩) (va_recv hK hP (ci := 0) (q0 := 0) rfl rfl) hK hX hP hD hS hA [0, 1, 2, 3, 4, 5, 6] [] rfl rfl (by decide) (by decide) (by decide) tYb_0 (fun _ _ _ => trivial) rfl hl.1 rfl (Nat.le_of_ble_eq_true rfl) dX3_thinned_26 ⟨(show 0 ≤ 0 from by omega), (show 0 ≤ 0 from by omega)⟩ (fun u_ H locs hp hP hD hS => ?_)
    have hP : va_P D.1 clAll [(o, .inr (0, [.int (iI 0), .ref b1, .ref b2, .ref b3, .ref b4, .ref b5, .ref b6, .int (iI (w : Int)), .int (iI (g : Int))])), (b1, .inl (D.2 0, 1024, .inl (fun x_ => zI ((flw (flw ik kp (w * g)) ((thR w g ik).2) (w * g)) x_)))), (b2, .inl (D.2 0, 1024, .inl (fun x_ => zI (st x_)))), (b3, .inl (D.2 0, 1024, .inl (fun x_ => zI ((flw ik kp (w * g)) x_)))), (b4, .inl (D.2 0, 1024, .inl (fun x_ => zI (go2_2 x_)))), (b5, .inl (D.2 1, 1024, .inl (fun x_ => iI (dp x_)))), (b6, .inl (D.2 1, 1024, .inl (fun x_ => iI (pt x_))))] H := hP
    have hD : va_D A [(o, .inr (0, [.int (iI 0), .ref b1, .ref b2, .ref b3, .ref b4, .ref b5, .ref b6, .int (iI (w : Int)), .int (iI (g : Int))])), (b1, .inl (D.2 0, 1024, .inl (fun x_ => zI ((flw (flw ik kp (w * g)) ((thR w g ik).2) (w * g)) x_)))), (b2, .inl (D.2 0, 1024, .inl (fun x_ => zI (st x_)))), (b3, .inl (D.2 0, 1024, .inl (fun x_ => zI ((flw ik kp (w * g)) x_)))), (b4, .inl (D.2 0, 1024, .inl (fun x_ => zI (go2_2 x_)))), (b5, .inl (D.2 1, 1024, .inl (fun x_ => iI (dp x_)))), (b6, .inl (D.2 1, 1024, .inl (fun x_ => iI (pt x_))))] := hD
    refine W.eq (g2 := F0 m0 29 ls []) rfl ?_
    have hP := tx_arrZ (g := ik) 1 rfl (fun j hj => by rw [thR_back]) hP
    have hP : va_P D.1 clAll [(o, .inr (0, [.int (iI 0), .ref b1, .ref b2, .ref b3, .ref b4, .ref b5, .ref b6, .int (iI (w : Int)), .int (iI (g : Int))])), (b1, .inl (D.2 0, 1024, .inl (fun x_ => zI (ik x_)))), (b2, .inl (D.2 0, 1024, .inl (fun x_ => zI (st x_)))), (b3, .inl (D.2 0, 1024, .inl (fun x_ => zI ((flw ik kp (w * g)) x_)))), (b4, .inl (D.2 0, 1024, .inl (fun x_ => zI (go2_2 x_)))), (b5, .inl (D.2 1, 1024, .inl (fun x_ => iI (dp x_)))), (b6, .inl (D.2 1, 1024, .inl (fun x_ => iI (pt x_))))] H := hP
    have hD : va_D A [(o, .inr (0, [.int (iI 0), .ref b1, .ref b2, .ref b3, .ref b4, .ref b5, .ref b6, .int (iI (w : Int)), .int (iI (g : Int))])), (b1, .inl (D.2 0, 1024, .inl (fun x_ => zI (ik x_)))), (b2, .inl (D.2 0, 1024, .inl (fun x_ => zI (st x_)))), (b3, .inl (D.2 0, 1024, .inl (fun x_ => zI ((flw ik kp (w * g)) x_)))), (b4, .inl (D.2 0, 1024, .inl (fun x_ => zI (go2_2 x_)))), (b5, .inl (D.2 1, 1024, .inl (fun x_ => iI (dp x_)))), (b6, .inl (D.2 1, 1024, .inl (fun x_ => iI (pt x_))))] := hD.set (p := 1) rfl
    refine lv_iload_n kx kb dX3_thinned_29 rfl (lv_at hl 0 rfl) ?_
    subst hQ
    exact tm_iret C ((flw ik kp (w * g)), go2_2) trivial hP hD hS (show 0 ≤ 0 from by omega) (show 0 ≤ 0 from by omega) rfl rfl dX3_thinned_30
  · exact absurd h13 (by omega)
set_option maxHeartbeats 4000000 in
set_option maxRecDepth 100000 in
theorem met_X3_width (l : Launch) (D : TG) (E : TE) (o : Nat) (b1 : Nat) (b2 : Nat) (b3 : Nat) (b4 : Nat) (b5 : Nat) (b6 : Nat) (thr : Int) (w : Nat) (g : Nat) (ik : Nat → Bool) (st : Nat → Bool) (kp : Nat → Bool) (go : Nat → Bool) (dp : Nat → Int) (pt : Nat → Int) (hw : 1 ≤ w ∧ w ≤ 32) (hg : 1 ≤ g ∧ g ≤ 32) : tMet l yX3_width cX3_width 1 (some .int) 1 21 (0) (0) [.ref o] D E [(o, .inr (0, [.int (iI thr), .ref b1, .ref b2, .ref b3, .ref b4, .ref b5, .ref b6, .int (iI (w : Int)), .int (iI (g : Int))])), (b1, .inl (D.2 0, 1024, .inl (fun x_ => zI (ik x_)))), (b2, .inl (D.2 0, 1024, .inl (fun x_ => zI (st x_)))), (b3, .inl (D.2 0, 1024, .inl (fun x_ => zI (kp x_)))), (b4, .inl (D.2 0, 1024, .inl (fun x_ => zI (go x_)))), (b5, .inl (D.2 1, 1024, .inl (fun x_ => iI (dp x_)))), (b6, .inl (D.2 1, 1024, .inl (fun x_ => iI (pt x_))))] tY0 (S := Unit) (fun u_ => True) (fun u_ => some (.int (iI (w : Int)))) (fun u_ => [(o, .inr (0, [.int (iI 0), .ref b1, .ref b2, .ref b3, .ref b4, .ref b5, .ref b6, .int (iI (w : Int)), .int (iI (g : Int))])), (b1, .inl (D.2 0, 1024, .inl (fun x_ => zI (ik x_)))), (b2, .inl (D.2 0, 1024, .inl (fun x_ => zI (st x_)))), (b3, .inl (D.2 0, 1024, .inl (fun x_ => zI (kp x_)))), (b4, .inl (D.2 0, 1024, .inl (fun x_ => zI (go x_)))), (b5, .inl (D.2 1, 1024, .inl (fun x_ => iI (dp x_)))), (b6, .inl (D.2 1, 1024, .inl (fun x_ => iI (pt x_))))]) := by
  refine tu_met (by decide +kernel) (Nat.le_of_ble_eq_true rfl) ?_
  intro p0 e0 s0 m0 below meth c0 A ls args Q hag hQ C hK hX hY hP hD hA hAe hl
  obtain ⟨kx, kb, hml, hown, hts, -⟩ := id C
  have hS : va_S A s0.heap s0.heap [] := va_S.rf
  have hl : lv_has ls 1 [(0, .ref o)] := hl
  have hwg := wg_le hw hg
  refine lv_aload_n kx kb dX3_width_0 rfl (lv_at hl 0 rfl) ?_
  refine lv_aload_n kx kb dX3_width_1 rfl (lv_at hl 0 rfl) ?_
  refine va_get (D := D.1) (ci := 0) (v := .int (iI (w : Int))) (C := RX3) (T := TX3) (N := 9) kx kb hts in_X3 hown hK hP 0 rfl rfl 7 (by decide) (hts _ q1377) (fun _ h9 => h9) rfl dX3_width_2 ?_
  refine t_callV (wr := []) C (met_X3_toldOf l D E o b1 b2 b3 b4 b5 b6 thr w g ik st kp go dp pt (w : Int) (by first | assumption | omega) (by first | assumption | omega)) (cwV 1 hts (lw_V q1525 q1527 qs42 q62 q1528) rfl rfl rfl (by decide +kernel) ⟨Nat.le_of_ble_eq_true rfl, Nat.le_of_ble_eq_true rfl⟩) (va_recv hK hP (ci := 0) (q0 := 0) rfl rfl) hK hX hP hD hS hA [0, 1, 2, 3, 4, 5, 6] [] rfl rfl (by decide) (by decide) (by decide) tYb_0 (fun _ _ _ => trivial) rfl hl.1 rfl (Nat.le_of_ble_eq_true rfl) dX3_width_5 ⟨(show 0 ≤ 0 from by omega), (show 0 ≤ 0 from by omega)⟩ (fun u_ H locs hp hP hD hS => ?_)
  have hP : va_P D.1 clAll [(o, .inr (0, [.int (iI 0), .ref b1, .ref b2, .ref b3, .ref b4, .ref b5, .ref b6, .int (iI (w : Int)), .int (iI (g : Int))])), (b1, .inl (D.2 0, 1024, .inl (fun x_ => zI (ik x_)))), (b2, .inl (D.2 0, 1024, .inl (fun x_ => zI (st x_)))), (b3, .inl (D.2 0, 1024, .inl (fun x_ => zI (kp x_)))), (b4, .inl (D.2 0, 1024, .inl (fun x_ => zI (go x_)))), (b5, .inl (D.2 1, 1024, .inl (fun x_ => iI (dp x_)))), (b6, .inl (D.2 1, 1024, .inl (fun x_ => iI (pt x_))))] H := hP
  have hD : va_D A [(o, .inr (0, [.int (iI 0), .ref b1, .ref b2, .ref b3, .ref b4, .ref b5, .ref b6, .int (iI (w : Int)), .int (iI (g : Int))])), (b1, .inl (D.2 0, 1024, .inl (fun x_ => zI (ik x_)))), (b2, .inl (D.2 0, 1024, .inl (fun x_ => zI (st x_)))), (b3, .inl (D.2 0, 1024, .inl (fun x_ => zI (kp x_)))), (b4, .inl (D.2 0, 1024, .inl (fun x_ => zI (go x_)))), (b5, .inl (D.2 1, 1024, .inl (fun x_ => iI (dp x_)))), (b6, .inl (D.2 1, 1024, .inl (fun x_ => iI (pt x_))))] := hD
  refine W.eq (g2 := F0 m0 8 ls [.int (iI (w : Int))]) rfl ?_
  subst hQ
  exact tm_iret C () trivial hP hD hS (show 0 ≤ 0 from by omega) (show 0 ≤ 0 from by omega) rfl rfl dX3_width_8
set_option maxHeartbeats 4000000 in
set_option maxRecDepth 100000 in
theorem met_X3_height (l : Launch) (D : TG) (E : TE) (o : Nat) (b1 : Nat) (b2 : Nat) (b3 : Nat) (b4 : Nat) (b5 : Nat) (b6 : Nat) (thr : Int) (w : Nat) (g : Nat) (ik : Nat → Bool) (st : Nat → Bool) (kp : Nat → Bool) (go : Nat → Bool) (dp : Nat → Int) (pt : Nat → Int) (hw : 1 ≤ w ∧ w ≤ 32) (hg : 1 ≤ g ∧ g ≤ 32) : tMet l yX3_height cX3_height 1 (some .int) 1 21 (0) (0) [.ref o] D E [(o, .inr (0, [.int (iI thr), .ref b1, .ref b2, .ref b3, .ref b4, .ref b5, .ref b6, .int (iI (w : Int)), .int (iI (g : Int))])), (b1, .inl (D.2 0, 1024, .inl (fun x_ => zI (ik x_)))), (b2, .inl (D.2 0, 1024, .inl (fun x_ => zI (st x_)))), (b3, .inl (D.2 0, 1024, .inl (fun x_ => zI (kp x_)))), (b4, .inl (D.2 0, 1024, .inl (fun x_ => zI (go x_)))), (b5, .inl (D.2 1, 1024, .inl (fun x_ => iI (dp x_)))), (b6, .inl (D.2 1, 1024, .inl (fun x_ => iI (pt x_))))] tY0 (S := Unit) (fun u_ => True) (fun u_ => some (.int (iI (g : Int)))) (fun u_ => [(o, .inr (0, [.int (iI 0), .ref b1, .ref b2, .ref b3, .ref b4, .ref b5, .ref b6, .int (iI (w : Int)), .int (iI (g : Int))])), (b1, .inl (D.2 0, 1024, .inl (fun x_ => zI (ik x_)))), (b2, .inl (D.2 0, 1024, .inl (fun x_ => zI (st x_)))), (b3, .inl (D.2 0, 1024, .inl (fun x_ => zI (kp x_)))), (b4, .inl (D.2 0, 1024, .inl (fun x_ => zI (go x_)))), (b5, .inl (D.2 1, 1024, .inl (fun x_ => iI (dp x_)))), (b6, .inl (D.2 1, 1024, .inl (fun x_ => iI (pt x_))))]) := by
  refine tu_met (by decide +kernel) (Nat.le_of_ble_eq_true rfl) ?_
  intro p0 e0 s0 m0 below meth c0 A ls args Q hag hQ C hK hX hY hP hD hA hAe hl
  obtain ⟨kx, kb, hml, hown, hts, -⟩ := id C
  have hS : va_S A s0.heap s0.heap [] := va_S.rf
  have hl : lv_has ls 1 [(0, .ref o)] := hl
  have hwg := wg_le hw hg
  refine lv_aload_n kx kb dX3_height_0 rfl (lv_at hl 0 rfl) ?_
  refine lv_aload_n kx kb dX3_height_1 rfl (lv_at hl 0 rfl) ?_
  refine va_get (D := D.1) (ci := 0) (v := .int (iI (g : Int))) (C := RX3) (T := TX3) (N := 9) kx kb hts in_X3 hown hK hP 0 rfl rfl 8 (by decide) (hts _ q1378) (fun _ h9 => h9) rfl dX3_height_2 ?_
  refine t_callV (wr := []) C (met_X3_toldOf l D E o b1 b2 b3 b4 b5 b6 thr w g ik st kp go dp pt (g : Int) (by first | assumption | omega) (by first | assumption | omega)) (cwV 1 hts (lw_V q1525 q1527 qs42 q62 q1528) rfl rfl rfl (by decide +kernel) ⟨Nat.le_of_ble_eq_true rfl, Nat.le_of_ble_eq_true rfl⟩) (va_recv hK hP (ci := 0) (q0 := 0) rfl rfl) hK hX hP hD hS hA [0, 1, 2, 3, 4, 5, 6] [] rfl rfl (by decide) (by decide) (by decide) tYb_0 (fun _ _ _ => trivial) rfl hl.1 rfl (Nat.le_of_ble_eq_true rfl) dX3_height_5 ⟨(show 0 ≤ 0 from by omega), (show 0 ≤ 0 from by omega)⟩ (fun u_ H locs hp hP hD hS => ?_)
  have hP : va_P D.1 clAll [(o, .inr (0, [.int (iI 0), .ref b1, .ref b2, .ref b3, .ref b4, .ref b5, .ref b6, .int (iI (w : Int)), .int (iI (g : Int))])), (b1, .inl (D.2 0, 1024, .inl (fun x_ => zI (ik x_)))), (b2, .inl (D.2 0, 1024, .inl (fun x_ => zI (st x_)))), (b3, .inl (D.2 0, 1024, .inl (fun x_ => zI (kp x_)))), (b4, .inl (D.2 0, 1024, .inl (fun x_ => zI (go x_)))), (b5, .inl (D.2 1, 1024, .inl (fun x_ => iI (dp x_)))), (b6, .inl (D.2 1, 1024, .inl (fun x_ => iI (pt x_))))] H := hP
  have hD : va_D A [(o, .inr (0, [.int (iI 0), .ref b1, .ref b2, .ref b3, .ref b4, .ref b5, .ref b6, .int (iI (w : Int)), .int (iI (g : Int))])), (b1, .inl (D.2 0, 1024, .inl (fun x_ => zI (ik x_)))), (b2, .inl (D.2 0, 1024, .inl (fun x_ => zI (st x_)))), (b3, .inl (D.2 0, 1024, .inl (fun x_ => zI (kp x_)))), (b4, .inl (D.2 0, 1024, .inl (fun x_ => zI (go x_)))), (b5, .inl (D.2 1, 1024, .inl (fun x_ => iI (dp x_)))), (b6, .inl (D.2 1, 1024, .inl (fun x_ => iI (pt x_))))] := hD
  refine W.eq (g2 := F0 m0 8 ls [.int (iI (g : Int))]) rfl ?_
  subst hQ
  exact tm_iret C () trivial hP hD hS (show 0 ≤ 0 from by omega) (show 0 ≤ 0 from by omega) rfl rfl dX3_height_8
set_option maxHeartbeats 4000000 in
set_option maxRecDepth 100000 in
theorem met_X3_ink (l : Launch) (D : TG) (E : TE) (o : Nat) (b1 : Nat) (b2 : Nat) (b3 : Nat) (b4 : Nat) (b5 : Nat) (b6 : Nat) (thr : Int) (w : Nat) (g : Nat) (ik : Nat → Bool) (st : Nat → Bool) (kp : Nat → Bool) (go : Nat → Bool) (dp : Nat → Int) (pt : Nat → Int) (hw : 1 ≤ w ∧ w ≤ 32) (hg : 1 ≤ g ∧ g ≤ 32) : tMet l yX3_ink cX3_ink 1 (some .int) 2 42 (0) (0) [.ref o] D E [(o, .inr (0, [.int (iI thr), .ref b1, .ref b2, .ref b3, .ref b4, .ref b5, .ref b6, .int (iI (w : Int)), .int (iI (g : Int))])), (b1, .inl (D.2 0, 1024, .inl (fun x_ => zI (ik x_)))), (b2, .inl (D.2 0, 1024, .inl (fun x_ => zI (st x_)))), (b3, .inl (D.2 0, 1024, .inl (fun x_ => zI (kp x_)))), (b4, .inl (D.2 0, 1024, .inl (fun x_ => zI (go x_)))), (b5, .inl (D.2 1, 1024, .inl (fun x_ => iI (dp x_)))), (b6, .inl (D.2 1, 1024, .inl (fun x_ => iI (pt x_))))] tY0 (S := Unit) (fun u_ => True) (fun u_ => some (.int (iI ((fb_ct ik (w * g) : Nat) : Int)))) (fun u_ => [(o, .inr (0, [.int (iI 0), .ref b1, .ref b2, .ref b3, .ref b4, .ref b5, .ref b6, .int (iI (w : Int)), .int (iI (g : Int))])), (b1, .inl (D.2 0, 1024, .inl (fun x_ => zI (ik x_)))), (b2, .inl (D.2 0, 1024, .inl (fun x_ => zI (st x_)))), (b3, .inl (D.2 0, 1024, .inl (fun x_ => zI (kp x_)))), (b4, .inl (D.2 0, 1024, .inl (fun x_ => zI (go x_)))), (b5, .inl (D.2 1, 1024, .inl (fun x_ => iI (dp x_)))), (b6, .inl (D.2 1, 1024, .inl (fun x_ => iI (pt x_))))]) := by
  refine tu_met (by decide +kernel) (Nat.le_of_ble_eq_true rfl) ?_
  intro p0 e0 s0 m0 below meth c0 A ls args Q hag hQ C hK hX hY hP hD hA hAe hl
  obtain ⟨kx, kb, hml, hown, hts, -⟩ := id C
  have hS : va_S A s0.heap s0.heap [] := va_S.rf
  have hl : lv_has ls 1 [(0, .ref o)] := hl
  have hwg := wg_le hw hg
  refine lv_aload_n kx kb dX3_ink_0 rfl (lv_at hl 0 rfl) ?_
  refine lv_aload_n kx kb dX3_ink_1 rfl (lv_at hl 0 rfl) ?_
  refine t_callRV C (met_X3_count l D E o b1 b2 b3 b4 b5 b6 thr w g ik st kp go dp pt (by first | assumption | omega) (by first | assumption | omega)) (cwV 0 hts (lw_V q1485 q1487 qs35 q62 q1488) rfl rfl rfl (by decide +kernel) ⟨Nat.le_of_ble_eq_true rfl, Nat.le_of_ble_eq_true rfl⟩) (va_recv hK hP (ci := 0) (q0 := 0) rfl rfl) hK hX hP hD hS hA [0, 1, 2, 3, 4, 5, 6] rfl (by decide) tYb_0 (fun _ _ _ => trivial) rfl hl.1 rfl (Nat.le_of_ble_eq_true rfl) dX3_ink_2 ⟨(show 0 ≤ 0 from by omega), (show 0 ≤ 0 from by omega)⟩ ?_
  refine W.eq (g2 := F0 m0 5 ls [.int (iI ((fb_ct ik (w * g) : Nat) : Int)), .ref o]) rfl ?_
  refine t_callV (wr := []) C (met_X3_toldOf l D E o b1 b2 b3 b4 b5 b6 thr w g ik st kp go dp pt ((fb_ct ik (w * g) : Nat) : Int) (by first | assumption | omega) (by first | assumption | omega)) (cwV 1 hts (lw_V q1525 q1527 qs42 q62 q1528) rfl rfl rfl (by decide +kernel) ⟨Nat.le_of_ble_eq_true rfl, Nat.le_of_ble_eq_true rfl⟩) (va_recv hK hP (ci := 0) (q0 := 0) rfl rfl) hK hX hP hD hS hA [0, 1, 2, 3, 4, 5, 6] [] rfl rfl (by decide) (by decide) (by decide) tYb_0 (fun _ _ _ => trivial) rfl hl.1 rfl (Nat.le_of_ble_eq_true rfl) dX3_ink_5 ⟨(show 0 ≤ 0 from by omega), (show 0 ≤ 0 from by omega)⟩ (fun u_ H locs hp hP hD hS => ?_)
  have hP : va_P D.1 clAll [(o, .inr (0, [.int (iI 0), .ref b1, .ref b2, .ref b3, .ref b4, .ref b5, .ref b6, .int (iI (w : Int)), .int (iI (g : Int))])), (b1, .inl (D.2 0, 1024, .inl (fun x_ => zI (ik x_)))), (b2, .inl (D.2 0, 1024, .inl (fun x_ => zI (st x_)))), (b3, .inl (D.2 0, 1024, .inl (fun x_ => zI (kp x_)))), (b4, .inl (D.2 0, 1024, .inl (fun x_ => zI (go x_)))), (b5, .inl (D.2 1, 1024, .inl (fun x_ => iI (dp x_)))), (b6, .inl (D.2 1, 1024, .inl (fun x_ => iI (pt x_))))] H := hP
  have hD : va_D A [(o, .inr (0, [.int (iI 0), .ref b1, .ref b2, .ref b3, .ref b4, .ref b5, .ref b6, .int (iI (w : Int)), .int (iI (g : Int))])), (b1, .inl (D.2 0, 1024, .inl (fun x_ => zI (ik x_)))), (b2, .inl (D.2 0, 1024, .inl (fun x_ => zI (st x_)))), (b3, .inl (D.2 0, 1024, .inl (fun x_ => zI (kp x_)))), (b4, .inl (D.2 0, 1024, .inl (fun x_ => zI (go x_)))), (b5, .inl (D.2 1, 1024, .inl (fun x_ => iI (dp x_)))), (b6, .inl (D.2 1, 1024, .inl (fun x_ => iI (pt x_))))] := hD
  refine W.eq (g2 := F0 m0 8 ls [.int (iI ((fb_ct ik (w * g) : Nat) : Int))]) rfl ?_
  subst hQ
  exact tm_iret C () trivial hP hD hS (show 0 ≤ 0 from by omega) (show 0 ≤ 0 from by omega) rfl rfl dX3_ink_8
set_option maxHeartbeats 4000000 in
set_option maxRecDepth 100000 in
theorem met_X3_at (l : Launch) (D : TG) (E : TE) (o : Nat) (b1 : Nat) (b2 : Nat) (b3 : Nat) (b4 : Nat) (b5 : Nat) (b6 : Nat) (thr : Int) (w : Nat) (g : Nat) (ik : Nat → Bool) (st : Nat → Bool) (kp : Nat → Bool) (go : Nat → Bool) (dp : Nat → Int) (pt : Nat → Int) (x : Int) (y : Int) (hw : 1 ≤ w ∧ w ≤ 32) (hg : 1 ≤ g ∧ g ≤ 32) (rx : -2147483648 ≤ x ∧ x < 2147483648) (ry : -2147483648 ≤ y ∧ y < 2147483648) : tMet l yX3_at cX3_at 3 (some .boolean) 3 66 (0) (0) [.ref o, .int (iI x), .int (iI y)] D E [(o, .inr (0, [.int (iI thr), .ref b1, .ref b2, .ref b3, .ref b4, .ref b5, .ref b6, .int (iI (w : Int)), .int (iI (g : Int))])), (b1, .inl (D.2 0, 1024, .inl (fun x_ => zI (ik x_)))), (b2, .inl (D.2 0, 1024, .inl (fun x_ => zI (st x_)))), (b3, .inl (D.2 0, 1024, .inl (fun x_ => zI (kp x_)))), (b4, .inl (D.2 0, 1024, .inl (fun x_ => zI (go x_)))), (b5, .inl (D.2 1, 1024, .inl (fun x_ => iI (dp x_)))), (b6, .inl (D.2 1, 1024, .inl (fun x_ => iI (pt x_))))] tY0 (S := Int) (fun u_ => u_ = if isBd w g x y then 0 else 1) (fun u_ => some (.int (zI (isK w g ik x y)))) (fun u_ => [(o, .inr (0, [.int (iI u_), .ref b1, .ref b2, .ref b3, .ref b4, .ref b5, .ref b6, .int (iI (w : Int)), .int (iI (g : Int))])), (b1, .inl (D.2 0, 1024, .inl (fun x_ => zI (ik x_)))), (b2, .inl (D.2 0, 1024, .inl (fun x_ => zI (st x_)))), (b3, .inl (D.2 0, 1024, .inl (fun x_ => zI (kp x_)))), (b4, .inl (D.2 0, 1024, .inl (fun x_ => zI (go x_)))), (b5, .inl (D.2 1, 1024, .inl (fun x_ => iI (dp x_)))), (b6, .inl (D.2 1, 1024, .inl (fun x_ => iI (pt x_))))]) := by
  refine tu_met (by decide +kernel) (Nat.le_of_ble_eq_true rfl) ?_
  intro p0 e0 s0 m0 below meth c0 A ls args Q hag hQ C hK hX hY hP hD hA hAe hl
  obtain ⟨kx, kb, hml, hown, hts, -⟩ := id C
  have hS : va_S A s0.heap s0.heap [] := va_S.rf
  have hl : lv_has ls 3 [(0, .ref o), (1, .int (iI x)), (2, .int (iI y))] := hl
  have hwg := wg_le hw hg
  refine lv_aload_n kx kb dX3_at_0 rfl (lv_at hl 0 rfl) ?_
  refine lv_iload_n kx kb dX3_at_1 rfl (lv_at hl 1 rfl) ?_
  refine lv_iload_n kx kb dX3_at_2 rfl (lv_at hl 2 rfl) ?_
  refine t_callV (wr := []) C (met_X3_cell l D E o b1 b2 b3 b4 b5 b6 thr w g ik st kp go dp pt x y (by first | assumption | omega) (by first | assumption | omega) (by first | assumption | omega) (by first | assumption | omega)) (cwV 2 hts (lw_V q1418 q1420 qs25 q62 q1421) rfl rfl rfl (by decide +kernel) ⟨Nat.le_of_ble_eq_true rfl, Nat.le_of_ble_eq_true rfl⟩) (va_recv hK hP (ci := 0) (q0 := 0) rfl rfl) hK hX hP hD hS hA [0, 1, 2, 3, 4, 5, 6] [] rfl rfl (by decide) (by decide) (by decide) tYb_0 (fun _ _ _ => trivial) rfl hl.1 rfl (Nat.le_of_ble_eq_true rfl) dX3_at_3 ⟨(show 0 ≤ 0 from by omega), (show 0 ≤ 0 from by omega)⟩ (fun u_ H locs hp hP hD hS => ?_)
  obtain ⟨t2_1, rfl⟩ : ∃ z, z = u_ := ⟨_, rfl⟩
  have hc3_1 : t2_1 = if isBd w g x y then 0 else 1 := hp
  subst hc3_1
  have hP : va_P D.1 clAll [(o, .inr (0, [.int (iI (if isBd w g x y then 0 else 1)), .ref b1, .ref b2, .ref b3, .ref b4, .ref b5, .ref b6, .int (iI (w : Int)), .int (iI (g : Int))])), (b1, .inl (D.2 0, 1024, .inl (fun x_ => zI (ik x_)))), (b2, .inl (D.2 0, 1024, .inl (fun x_ => zI (st x_)))), (b3, .inl (D.2 0, 1024, .inl (fun x_ => zI (kp x_)))), (b4, .inl (D.2 0, 1024, .inl (fun x_ => zI (go x_)))), (b5, .inl (D.2 1, 1024, .inl (fun x_ => iI (dp x_)))), (b6, .inl (D.2 1, 1024, .inl (fun x_ => iI (pt x_))))] H := hP
  have hD : va_D A [(o, .inr (0, [.int (iI (if isBd w g x y then 0 else 1)), .ref b1, .ref b2, .ref b3, .ref b4, .ref b5, .ref b6, .int (iI (w : Int)), .int (iI (g : Int))])), (b1, .inl (D.2 0, 1024, .inl (fun x_ => zI (ik x_)))), (b2, .inl (D.2 0, 1024, .inl (fun x_ => zI (st x_)))), (b3, .inl (D.2 0, 1024, .inl (fun x_ => zI (kp x_)))), (b4, .inl (D.2 0, 1024, .inl (fun x_ => zI (go x_)))), (b5, .inl (D.2 1, 1024, .inl (fun x_ => iI (dp x_)))), (b6, .inl (D.2 1, 1024, .inl (fun x_ => iI (pt x_))))] := hD
  refine W.eq (g2 := F0 m0 6 ls [.int (zI (isBd w g x y))]) rfl ?_
  refine tz_if_eq (tgt := 22) kx kb dX3_at_6 (by decide) (fun h6 => ?_) (fun h6 => ?_)
  · simp only [isBd_t, isBd_f] at h6
    refine lv_iconst (v := iI 0) kx kb dX3_at_22 rfl ?_
    refine W.eq (g2 := F0 m0 23 ls [.int (zI false)]) rfl ?_
    subst hQ
    exact tm_zret C (if isBd w g x y then 0 else 1) (by rfl) hP hD hS (show 0 ≤ 0 from by omega) (show 0 ≤ 0 from by omega) (by simp [isK, (isBd_f w g x y).mpr h6]) rfl dX3_at_23
  · simp only [isBd_t, isBd_f] at h6
    refine lv_aload_n kx kb dX3_at_9 rfl (lv_at hl 0 rfl) ?_
    refine lv_iload_n kx kb dX3_at_10 rfl (lv_at hl 1 rfl) ?_
    refine lv_iload_n kx kb dX3_at_11 rfl (lv_at hl 2 rfl) ?_
    refine t_callRV C (met_X3_isInk l D E o b1 b2 b3 b4 b5 b6 (if isBd w g x y then 0 else 1) w g ik st kp go dp pt x y (by first | assumption | omega) (by first | assumption | omega) (by first | assumption | omega) (by first | assumption | omega)) (cwV 2 hts (lw_V q1459 q1461 qs31 q62 q1462) rfl rfl rfl (by decide +kernel) ⟨Nat.le_of_ble_eq_true rfl, Nat.le_of_ble_eq_true rfl⟩) (va_recv hK hP (ci := 0) (q0 := 0) rfl rfl) hK hX hP hD hS hA [0, 1, 2, 3, 4, 5, 6] rfl (by decide) tYb_0 (fun _ _ _ => trivial) rfl hl.1 rfl (Nat.le_of_ble_eq_true rfl) dX3_at_12 ⟨(show 0 ≤ 0 from by omega), (show 0 ≤ 0 from by omega)⟩ ?_
    refine W.eq (g2 := F0 m0 15 ls [.int (zI (isK w g ik x y))]) rfl ?_
    refine tz_if_eq (tgt := 22) kx kb dX3_at_15 (by decide) (fun h15 => ?_) (fun h15 => ?_)
    · refine lv_iconst (v := iI 0) kx kb dX3_at_22 rfl ?_
      refine W.eq (g2 := F0 m0 23 ls [.int (zI false)]) rfl ?_
      subst hQ
      exact tm_zret C (if isBd w g x y then 0 else 1) (by rfl) hP hD hS (show 0 ≤ 0 from by omega) (show 0 ≤ 0 from by omega) (by rw [h15]) rfl dX3_at_23
    · refine lv_iconst (v := iI 1) kx kb dX3_at_18 rfl ?_
      refine lv_goto (tgt := 23) kx kb dX3_at_19 (by decide) ?_
      refine W.eq (g2 := F0 m0 23 ls [.int (zI true)]) rfl ?_
      subst hQ
      exact tm_zret C (if isBd w g x y then 0 else 1) (by rfl) hP hD hS (show 0 ≤ 0 from by omega) (show 0 ≤ 0 from by omega) (by rw [h15]) rfl dX3_at_23
set_option maxHeartbeats 4000000 in
set_option maxRecDepth 100000 in
theorem met_X3_set (l : Launch) (D : TG) (E : TE) (o : Nat) (b1 : Nat) (b2 : Nat) (b3 : Nat) (b4 : Nat) (b5 : Nat) (b6 : Nat) (thr : Int) (w : Nat) (g : Nat) (ik : Nat → Bool) (st : Nat → Bool) (kp : Nat → Bool) (go : Nat → Bool) (dp : Nat → Int) (pt : Nat → Int) (x : Int) (y : Int) (b : Bool) (hw : 1 ≤ w ∧ w ≤ 32) (hg : 1 ≤ g ∧ g ≤ 32) (rx : -2147483648 ≤ x ∧ x < 2147483648) (ry : -2147483648 ≤ y ∧ y < 2147483648) : tMet l yX3_set cX3_set 4 (some .boolean) 3 67 (0) (0) [.ref o, .int (iI x), .int (iI y), .int (zI b)] D E [(o, .inr (0, [.int (iI thr), .ref b1, .ref b2, .ref b3, .ref b4, .ref b5, .ref b6, .int (iI (w : Int)), .int (iI (g : Int))])), (b1, .inl (D.2 0, 1024, .inl (fun x_ => zI (ik x_)))), (b2, .inl (D.2 0, 1024, .inl (fun x_ => zI (st x_)))), (b3, .inl (D.2 0, 1024, .inl (fun x_ => zI (kp x_)))), (b4, .inl (D.2 0, 1024, .inl (fun x_ => zI (go x_)))), (b5, .inl (D.2 1, 1024, .inl (fun x_ => iI (dp x_)))), (b6, .inl (D.2 1, 1024, .inl (fun x_ => iI (pt x_))))] tY0 (S := Int × (Nat → Bool)) (fun u_ => (u_.1 = if isBd w g x y then 0 else 1) ∧ (u_.2 = drw w g x y b ik)) (fun u_ => some (.int (zI (isK w g ik x y)))) (fun u_ => [(o, .inr (0, [.int (iI u_.1), .ref b1, .ref b2, .ref b3, .ref b4, .ref b5, .ref b6, .int (iI (w : Int)), .int (iI (g : Int))])), (b1, .inl (D.2 0, 1024, .inl (fun x_ => zI (u_.2 x_)))), (b2, .inl (D.2 0, 1024, .inl (fun x_ => zI (st x_)))), (b3, .inl (D.2 0, 1024, .inl (fun x_ => zI (kp x_)))), (b4, .inl (D.2 0, 1024, .inl (fun x_ => zI (go x_)))), (b5, .inl (D.2 1, 1024, .inl (fun x_ => iI (dp x_)))), (b6, .inl (D.2 1, 1024, .inl (fun x_ => iI (pt x_))))]) := by
  refine tu_met (by decide +kernel) (Nat.le_of_ble_eq_true rfl) ?_
  intro p0 e0 s0 m0 below meth c0 A ls args Q hag hQ C hK hX hY hP hD hA hAe hl
  obtain ⟨kx, kb, hml, hown, hts, -⟩ := id C
  have hS : va_S A s0.heap s0.heap [] := va_S.rf
  have hl : lv_has ls 4 [(0, .ref o), (1, .int (iI x)), (2, .int (iI y)), (3, .int (zI b))] := hl
  have hwg := wg_le hw hg
  refine lv_aload_n kx kb dX3_set_0 rfl (lv_at hl 0 rfl) ?_
  refine lv_iload_n kx kb dX3_set_1 rfl (lv_at hl 1 rfl) ?_
  refine lv_iload_n kx kb dX3_set_2 rfl (lv_at hl 2 rfl) ?_
  refine t_callV (wr := []) C (met_X3_cell l D E o b1 b2 b3 b4 b5 b6 thr w g ik st kp go dp pt x y (by first | assumption | omega) (by first | assumption | omega) (by first | assumption | omega) (by first | assumption | omega)) (cwV 2 hts (lw_V q1418 q1420 qs25 q62 q1421) rfl rfl rfl (by decide +kernel) ⟨Nat.le_of_ble_eq_true rfl, Nat.le_of_ble_eq_true rfl⟩) (va_recv hK hP (ci := 0) (q0 := 0) rfl rfl) hK hX hP hD hS hA [0, 1, 2, 3, 4, 5, 6] [] rfl rfl (by decide) (by decide) (by decide) tYb_0 (fun _ _ _ => trivial) rfl hl.1 rfl (Nat.le_of_ble_eq_true rfl) dX3_set_3 ⟨(show 0 ≤ 0 from by omega), (show 0 ≤ 0 from by omega)⟩ (fun u_ H locs hp hP hD hS => ?_)
  obtain ⟨t2_1, rfl⟩ : ∃ z, z = u_ := ⟨_, rfl⟩
  have hc3_1 : t2_1 = if isBd w g x y then 0 else 1 := hp
  subst hc3_1
  have hP : va_P D.1 clAll [(o, .inr (0, [.int (iI (if isBd w g x y then 0 else 1)), .ref b1, .ref b2, .ref b3, .ref b4, .ref b5, .ref b6, .int (iI (w : Int)), .int (iI (g : Int))])), (b1, .inl (D.2 0, 1024, .inl (fun x_ => zI (ik x_)))), (b2, .inl (D.2 0, 1024, .inl (fun x_ => zI (st x_)))), (b3, .inl (D.2 0, 1024, .inl (fun x_ => zI (kp x_)))), (b4, .inl (D.2 0, 1024, .inl (fun x_ => zI (go x_)))), (b5, .inl (D.2 1, 1024, .inl (fun x_ => iI (dp x_)))), (b6, .inl (D.2 1, 1024, .inl (fun x_ => iI (pt x_))))] H := hP
  have hD : va_D A [(o, .inr (0, [.int (iI (if isBd w g x y then 0 else 1)), .ref b1, .ref b2, .ref b3, .ref b4, .ref b5, .ref b6, .int (iI (w : Int)), .int (iI (g : Int))])), (b1, .inl (D.2 0, 1024, .inl (fun x_ => zI (ik x_)))), (b2, .inl (D.2 0, 1024, .inl (fun x_ => zI (st x_)))), (b3, .inl (D.2 0, 1024, .inl (fun x_ => zI (kp x_)))), (b4, .inl (D.2 0, 1024, .inl (fun x_ => zI (go x_)))), (b5, .inl (D.2 1, 1024, .inl (fun x_ => iI (dp x_)))), (b6, .inl (D.2 1, 1024, .inl (fun x_ => iI (pt x_))))] := hD
  refine W.eq (g2 := F0 m0 6 ls [.int (zI (isBd w g x y))]) rfl ?_
  refine tz_if_eq (tgt := 33) kx kb dX3_set_6 (by decide) (fun h6 => ?_) (fun h6 => ?_)
  · simp only [isBd_t, isBd_f] at h6
    refine lv_iconst (v := iI 0) kx kb dX3_set_33 rfl ?_
    refine W.eq (g2 := F0 m0 34 ls [.int (zI false)]) rfl ?_
    subst hQ
    exact tm_zret C ((if isBd w g x y then 0 else 1), ik) (⟨rfl, by first | rfl | simp [drw, (isBd_f w g x y).mpr h6]⟩) hP hD hS (show 0 ≤ 0 from by omega) (show 0 ≤ 0 from by omega) (by simp [isK, (isBd_f w g x y).mpr h6]) rfl dX3_set_34
  · simp only [isBd_t, isBd_f] at h6
    have hd : drwN w g x y b ik = 0 ∨ drwN w g x y b ik = 1 := by unfold drwN; split <;> simp
    refine lv_aload_n kx kb dX3_set_9 rfl (lv_at hl 0 rfl) ?_
    refine lv_iload_n kx kb dX3_set_10 rfl (lv_at hl 1 rfl) ?_
    refine lv_iload_n kx kb dX3_set_11 rfl (lv_at hl 2 rfl) ?_
    refine lv_iload_n kx kb dX3_set_12 rfl (lv_at hl 3 rfl) ?_
    refine t_callV (wr := []) C (met_X3_draws l D E o b1 b2 b3 b4 b5 b6 (if isBd w g x y then 0 else 1) w g ik st kp go dp pt x y b (by first | assumption | omega) (by first | assumption | omega) (by first | assumption | omega) (by first | assumption | omega)) (cwV 3 hts (lw_V q1426 q1428 qs27 q62 q1429) rfl rfl rfl (by decide +kernel) ⟨Nat.le_of_ble_eq_true rfl, Nat.le_of_ble_eq_true rfl⟩) (va_recv hK hP (ci := 0) (q0 := 0) rfl rfl) hK hX hP hD hS hA [0, 1, 2, 3, 4, 5, 6] [] rfl rfl (by decide) (by decide) (by decide) tYb_0 (fun _ _ _ => trivial) rfl hl.1 rfl (Nat.le_of_ble_eq_true rfl) dX3_set_13 ⟨(show 0 ≤ 0 from by omega), (show 0 ≤ 0 from by omega)⟩ (fun u_ H locs hp hP hD hS => ?_)
    obtain ⟨ik2_2, rfl⟩ : ∃ z, z = u_ := ⟨_, rfl⟩
    have hc13_1 : ik2_2 = drw w g x y b ik := hp
    subst hc13_1
    have hP : va_P D.1 clAll [(o, .inr (0, [.int (iI (if isBd w g x y then 0 else 1)), .ref b1, .ref b2, .ref b3, .ref b4, .ref b5, .ref b6, .int (iI (w : Int)), .int (iI (g : Int))])), (b1, .inl (D.2 0, 1024, .inl (fun x_ => zI ((drw w g x y b ik) x_)))), (b2, .inl (D.2 0, 1024, .inl (fun x_ => zI (st x_)))), (b3, .inl (D.2 0, 1024, .inl (fun x_ => zI (kp x_)))), (b4, .inl (D.2 0, 1024, .inl (fun x_ => zI (go x_)))), (b5, .inl (D.2 1, 1024, .inl (fun x_ => iI (dp x_)))), (b6, .inl (D.2 1, 1024, .inl (fun x_ => iI (pt x_))))] H := hP
    have hD : va_D A [(o, .inr (0, [.int (iI (if isBd w g x y then 0 else 1)), .ref b1, .ref b2, .ref b3, .ref b4, .ref b5, .ref b6, .int (iI (w : Int)), .int (iI (g : Int))])), (b1, .inl (D.2 0, 1024, .inl (fun x_ => zI ((drw w g x y b ik) x_)))), (b2, .inl (D.2 0, 1024, .inl (fun x_ => zI (st x_)))), (b3, .inl (D.2 0, 1024, .inl (fun x_ => zI (kp x_)))), (b4, .inl (D.2 0, 1024, .inl (fun x_ => zI (go x_)))), (b5, .inl (D.2 1, 1024, .inl (fun x_ => iI (dp x_)))), (b6, .inl (D.2 1, 1024, .inl (fun x_ => iI (pt x_))))] := hD
    refine W.eq (g2 := F0 m0 16 ls [.int (iI (drwN w g x y b ik))]) rfl ?_
    refine lv_iconst (v := iI 1) kx kb dX3_set_16 rfl ?_
    refine ti_icmp_ne (tgt := 24) kx kb (by omega) dX3_set_17 (by decide) (fun h17 => ?_) (fun h17 => ?_)
    · refine lv_iconst (v := iI 0) kx kb dX3_set_24 rfl ?_
      refine lv_iload_n kx kb dX3_set_25 rfl (lv_at hl 3 rfl) ?_
      refine W.eq (g2 := F0 m0 26 ls [.int (zI b), .int (zI false)]) rfl ?_
      refine tz_icmp_eq (tgt := 33) kx kb dX3_set_26 (by decide) (fun h26 => ?_) (fun h26 => ?_)
      · refine lv_iconst (v := iI 0) kx kb dX3_set_33 rfl ?_
        refine W.eq (g2 := F0 m0 34 ls [.int (zI false)]) rfl ?_
        subst hQ
        exact tm_zret C ((if isBd w g x y then 0 else 1), (drw w g x y b ik)) (⟨rfl, by first | rfl | simp [drw, (isBd_f w g x y).mpr h6]⟩) hP hD hS (show 0 ≤ 0 from by omega) (show 0 ≤ 0 from by omega) (by simp only [drwN, (isBd_t w g x y).mpr h6, Bool.true_and] at h17; simp only [isK, (isBd_t w g x y).mpr h6, Bool.true_and]; cases hb1 : ik (cel w x y) <;> cases b <;> simp_all) rfl dX3_set_34
      · refine lv_iconst (v := iI 1) kx kb dX3_set_29 rfl ?_
        refine lv_goto (tgt := 34) kx kb dX3_set_30 (by decide) ?_
        refine W.eq (g2 := F0 m0 34 ls [.int (zI true)]) rfl ?_
        subst hQ
        exact tm_zret C ((if isBd w g x y then 0 else 1), (drw w g x y b ik)) (⟨rfl, by first | rfl | simp [drw, (isBd_f w g x y).mpr h6]⟩) hP hD hS (show 0 ≤ 0 from by omega) (show 0 ≤ 0 from by omega) (by simp only [drwN, (isBd_t w g x y).mpr h6, Bool.true_and] at h17; simp only [isK, (isBd_t w g x y).mpr h6, Bool.true_and]; cases hb1 : ik (cel w x y) <;> cases b <;> simp_all) rfl dX3_set_34
    · refine lv_iconst (v := iI 1) kx kb dX3_set_20 rfl ?_
      refine lv_goto (tgt := 25) kx kb dX3_set_21 (by decide) ?_
      refine lv_iload_n kx kb dX3_set_25 rfl (lv_at hl 3 rfl) ?_
      refine W.eq (g2 := F0 m0 26 ls [.int (zI b), .int (zI true)]) rfl ?_
      refine tz_icmp_eq (tgt := 33) kx kb dX3_set_26 (by decide) (fun h26 => ?_) (fun h26 => ?_)
      · refine lv_iconst (v := iI 0) kx kb dX3_set_33 rfl ?_
        refine W.eq (g2 := F0 m0 34 ls [.int (zI false)]) rfl ?_
        subst hQ
        exact tm_zret C ((if isBd w g x y then 0 else 1), (drw w g x y b ik)) (⟨rfl, by first | rfl | simp [drw, (isBd_f w g x y).mpr h6]⟩) hP hD hS (show 0 ≤ 0 from by omega) (show 0 ≤ 0 from by omega) (by simp only [drwN, (isBd_t w g x y).mpr h6, Bool.true_and] at h17; simp only [isK, (isBd_t w g x y).mpr h6, Bool.true_and]; cases hb1 : ik (cel w x y) <;> cases b <;> simp_all) rfl dX3_set_34
      · refine lv_iconst (v := iI 1) kx kb dX3_set_29 rfl ?_
        refine lv_goto (tgt := 34) kx kb dX3_set_30 (by decide) ?_
        refine W.eq (g2 := F0 m0 34 ls [.int (zI true)]) rfl ?_
        subst hQ
        exact tm_zret C ((if isBd w g x y then 0 else 1), (drw w g x y b ik)) (⟨rfl, by first | rfl | simp [drw, (isBd_f w g x y).mpr h6]⟩) hP hD hS (show 0 ≤ 0 from by omega) (show 0 ≤ 0 from by omega) (by simp only [drwN, (isBd_t w g x y).mpr h6, Bool.true_and] at h17; simp only [isK, (isBd_t w g x y).mpr h6, Bool.true_and]; cases hb1 : ik (cel w x y) <;> cases b <;> simp_all) rfl dX3_set_34
