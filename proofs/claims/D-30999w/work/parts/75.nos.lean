set_option maxRecDepth 100000
set_option maxHeartbeats 4000000 in
set_option maxRecDepth 100000 in
theorem met_X2_isOn_f (l : Launch) (D : TG) (E : TE) (a : Nat) (b : Nat) (w : Nat) (g : Nat) (x : Int) (y : Int) (hw : 1 ≤ w ∧ w ≤ 32) (hg : 1 ≤ g ∧ g ≤ 32) (rx : -2147483648 ≤ x ∧ x < 2147483648) (ry : -2147483648 ≤ y ∧ y < 2147483648) : tRd l yX2_isOn cX2_isOn 3 (some .boolean) 1 22 [.ref a, .int (iI x), .int (iI y)] D E [(a, .inr (2, [.int (iI ((w : Nat) : Int)), .int (iI ((g : Nat) : Int)), .ref b]))] tY0 (some (.int (zI (isBd w g x y)))) := by
  refine tu_rd (by decide +kernel) (Nat.le_of_ble_eq_true rfl) ?_
  intro p0 e0 s0 m0 below meth c0 A ls args Q hag hQ C hK hX hY hP hD hA hAe hl
  obtain ⟨kx, kb, hml, hown, hts, -⟩ := id C
  have hS : va_S A s0.heap s0.heap [] := va_S.rf
  have hl : lv_has ls 3 [(0, .ref a), (1, .int (iI x)), (2, .int (iI y))] := hl
  have hwg := wg_le hw hg
  refine lv_iconst (v := iI 0) kx kb dX2_isOn_0 rfl ?_
  refine lv_aload_n kx kb dX2_isOn_1 rfl (lv_at hl 0 rfl) ?_
  refine va_get (D := D.1) (ci := 2) (v := .int (iI ((w : Nat) : Int))) (C := RX2) (T := TX2) (N := 3) kx kb hts in_X2 hown hK hP 0 rfl rfl 0 (by decide) (hts _ q137) (fun _ h9 => h9) rfl dX2_isOn_2 ?_
  refine lv_iconst (v := iI 1) kx kb dX2_isOn_5 rfl ?_
  refine ti_isub kx kb dX2_isOn_6 ?_
  refine lv_iload_n kx kb dX2_isOn_7 rfl (lv_at hl 1 rfl) ?_
  refine t_callRSN C (met_X1_isIn l D E 0 (((w : Nat) : Int) - 1) x (by first | assumption | omega)) ⟨cnS 3 hts (lw_meth q618) (hX.1 _ q616 rfl) (hts _ q59) (by decide +kernel) ⟨Nat.le_of_ble_eq_true rfl, Nat.le_of_ble_eq_true rfl⟩, hts _ q617, trivial⟩ hK hX hP hD hS hA [] rfl (by decide) tYb_0 (fun _ _ _ => trivial) rfl hl.1 rfl (Nat.le_of_ble_eq_true rfl) dX2_isOn_8 ⟨(show 0 ≤ 0 from by omega), (show 0 ≤ 0 from by omega)⟩ ?_
  refine W.eq (g2 := F0 m0 11 ls [.int (zI (decide (0 ≤ x ∧ x ≤ (((w : Nat) : Int) - 1))))]) rfl ?_
  refine tz_if_eq (tgt := 32) kx kb dX2_isOn_11 (by decide) (fun h11 => ?_) (fun h11 => ?_)
  · simp only [decide_eq_true_eq, decide_eq_false_iff_not] at h11
    refine lv_iconst (v := iI 0) kx kb dX2_isOn_32 rfl ?_
    refine W.eq (g2 := F0 m0 33 ls [.int (zI false)]) rfl ?_
    subst hQ
    exact tr_zret C rfl (by first | rw [(isBd_t w g x y).mpr (by omega)] | rw [(isBd_f w g x y).mpr (by omega)]) dX2_isOn_33
  · simp only [decide_eq_true_eq, decide_eq_false_iff_not] at h11
    refine lv_iconst (v := iI 0) kx kb dX2_isOn_14 rfl ?_
    refine lv_aload_n kx kb dX2_isOn_15 rfl (lv_at hl 0 rfl) ?_
    refine va_get (D := D.1) (ci := 2) (v := .int (iI ((g : Nat) : Int))) (C := RX2) (T := TX2) (N := 3) kx kb hts in_X2 hown hK hP 0 rfl rfl 1 (by decide) (hts _ q139) (fun _ h9 => h9) rfl dX2_isOn_16 ?_
    refine lv_iconst (v := iI 1) kx kb dX2_isOn_19 rfl ?_
    refine ti_isub kx kb dX2_isOn_20 ?_
    refine lv_iload_n kx kb dX2_isOn_21 rfl (lv_at hl 2 rfl) ?_
    refine t_callRSN C (met_X1_isIn l D E 0 (((g : Nat) : Int) - 1) y (by first | assumption | omega)) ⟨cnS 3 hts (lw_meth q618) (hX.1 _ q616 rfl) (hts _ q59) (by decide +kernel) ⟨Nat.le_of_ble_eq_true rfl, Nat.le_of_ble_eq_true rfl⟩, hts _ q617, trivial⟩ hK hX hP hD hS hA [] rfl (by decide) tYb_0 (fun _ _ _ => trivial) rfl hl.1 rfl (Nat.le_of_ble_eq_true rfl) dX2_isOn_22 ⟨(show 0 ≤ 0 from by omega), (show 0 ≤ 0 from by omega)⟩ ?_
    refine W.eq (g2 := F0 m0 25 ls [.int (zI (decide (0 ≤ y ∧ y ≤ (((g : Nat) : Int) - 1))))]) rfl ?_
    refine tz_if_eq (tgt := 32) kx kb dX2_isOn_25 (by decide) (fun h25 => ?_) (fun h25 => ?_)
    · simp only [decide_eq_true_eq, decide_eq_false_iff_not] at h25
      refine lv_iconst (v := iI 0) kx kb dX2_isOn_32 rfl ?_
      refine W.eq (g2 := F0 m0 33 ls [.int (zI false)]) rfl ?_
      subst hQ
      exact tr_zret C rfl (by first | rw [(isBd_t w g x y).mpr (by omega)] | rw [(isBd_f w g x y).mpr (by omega)]) dX2_isOn_33
    · simp only [decide_eq_true_eq, decide_eq_false_iff_not] at h25
      refine lv_iconst (v := iI 1) kx kb dX2_isOn_28 rfl ?_
      refine lv_goto (tgt := 33) kx kb dX2_isOn_29 (by decide) ?_
      refine W.eq (g2 := F0 m0 33 ls [.int (zI true)]) rfl ?_
      subst hQ
      exact tr_zret C rfl (by first | rw [(isBd_t w g x y).mpr (by omega)] | rw [(isBd_f w g x y).mpr (by omega)]) dX2_isOn_33
set_option maxHeartbeats 4000000 in
set_option maxRecDepth 100000 in
theorem met_X1_checkIndex_no (l : Launch) (hfl : l.stackTraces = false) (D : TG) (E : TE) (z : Bool) (hz : z = false) : uThr l yX1_checkIndex cX1_checkIndex 1 none 8 120 (1) (6) [.int (zI z)] D E [] "java/lang/IndexOutOfBoundsException" := by
  refine uu_thr (by decide +kernel) (Nat.le_of_ble_eq_true rfl) ?_
  intro p0 e0 s0 m0 below meth c0 A ls args Q hag hQ C ht hK hX hP hD hA hAe hl
  obtain ⟨kx, kb, hml, hown, hts, -⟩ := id C
  have hS : va_S A s0.heap s0.heap [] := va_S.rf
  have hl : lv_has ls 1 [(0, .int (zI z))] := hl
  refine lv_iload_n kx kb dX1_checkIndex_0 rfl (lv_at hl 0 rfl) ?_
  refine tz_if_ne (tgt := 12) kx kb dX1_checkIndex_1 (by decide) (fun h1 => ?_) (fun h1 => ?_)
  · exact absurd (hz.symm.trans h1) (by decide)
  · subst hQ
    exact u_throw (names := ["java/lang/RuntimeException", "java/lang/Exception"]) C ht hfl hX hP hl.1 (by decide +kernel) (by decide +kernel) (hts _ q694) (hts _ q67) (tw_IOB hts hX.1) gw_IOB dX1_checkIndex_4 dX1_checkIndex_7 dX1_checkIndex_8 dX1_checkIndex_11 (Nat.le_of_ble_eq_true rfl) (Nat.le_of_ble_eq_true rfl) ⟨Nat.le_of_ble_eq_true rfl, Nat.le_of_ble_eq_true rfl⟩ ⟨Nat.le_of_ble_eq_true rfl, Nat.le_of_ble_eq_true rfl⟩
set_option maxHeartbeats 4000000 in
set_option maxRecDepth 100000 in
theorem met_X1_checkArgument_no (l : Launch) (hfl : l.stackTraces = false) (D : TG) (E : TE) (z : Bool) (hz : z = false) : uThr l yX1_checkArgument cX1_checkArgument 1 none 8 120 (1) (6) [.int (zI z)] D E [] "java/lang/IllegalArgumentException" := by
  refine uu_thr (by decide +kernel) (Nat.le_of_ble_eq_true rfl) ?_
  intro p0 e0 s0 m0 below meth c0 A ls args Q hag hQ C ht hK hX hP hD hA hAe hl
  obtain ⟨kx, kb, hml, hown, hts, -⟩ := id C
  have hS : va_S A s0.heap s0.heap [] := va_S.rf
  have hl : lv_has ls 1 [(0, .int (zI z))] := hl
  refine lv_iload_n kx kb dX1_checkArgument_0 rfl (lv_at hl 0 rfl) ?_
  refine tz_if_ne (tgt := 12) kx kb dX1_checkArgument_1 (by decide) (fun h1 => ?_) (fun h1 => ?_)
  · exact absurd (hz.symm.trans h1) (by decide)
  · subst hQ
    exact u_throw (names := ["java/lang/RuntimeException", "java/lang/Exception"]) C ht hfl hX hP hl.1 (by decide +kernel) (by decide +kernel) (hts _ q1190) (hts _ q66) (tw_IAE hts hX.1) gw_IAE dX1_checkArgument_4 dX1_checkArgument_7 dX1_checkArgument_8 dX1_checkArgument_11 (Nat.le_of_ble_eq_true rfl) (Nat.le_of_ble_eq_true rfl) ⟨Nat.le_of_ble_eq_true rfl, Nat.le_of_ble_eq_true rfl⟩ ⟨Nat.le_of_ble_eq_true rfl, Nat.le_of_ble_eq_true rfl⟩
set_option maxHeartbeats 4000000 in
set_option maxRecDepth 100000 in
theorem met_X1_checkElement_no (l : Launch) (hfl : l.stackTraces = false) (D : TG) (E : TE) (z : Bool) (hz : z = false) : uThr l yX1_checkElement cX1_checkElement 1 none 8 120 (1) (6) [.int (zI z)] D E [] "java/util/NoSuchElementException" := by
  refine uu_thr (by decide +kernel) (Nat.le_of_ble_eq_true rfl) ?_
  intro p0 e0 s0 m0 below meth c0 A ls args Q hag hQ C ht hK hX hP hD hA hAe hl
  obtain ⟨kx, kb, hml, hown, hts, -⟩ := id C
  have hS : va_S A s0.heap s0.heap [] := va_S.rf
  have hl : lv_has ls 1 [(0, .int (zI z))] := hl
  refine lv_iload_n kx kb dX1_checkElement_0 rfl (lv_at hl 0 rfl) ?_
  refine tz_if_ne (tgt := 12) kx kb dX1_checkElement_1 (by decide) (fun h1 => ?_) (fun h1 => ?_)
  · exact absurd (hz.symm.trans h1) (by decide)
  · subst hQ
    exact u_throw (names := ["java/lang/RuntimeException", "java/lang/Exception"]) C ht hfl hX hP hl.1 (by decide +kernel) (by decide +kernel) (hts _ q1342) (hts _ q85) (tw_NSE hts hX.1) gw_NSE dX1_checkElement_4 dX1_checkElement_7 dX1_checkElement_8 dX1_checkElement_11 (Nat.le_of_ble_eq_true rfl) (Nat.le_of_ble_eq_true rfl) ⟨Nat.le_of_ble_eq_true rfl, Nat.le_of_ble_eq_true rfl⟩ ⟨Nat.le_of_ble_eq_true rfl, Nat.le_of_ble_eq_true rfl⟩
set_option maxHeartbeats 4000000 in
set_option maxRecDepth 100000 in
theorem met_X1_cellAt_no (l : Launch) (hfl : l.stackTraces = false) (D : TG) (E : TE) (t : Nat) (a : Nat) (b : Nat) (v : Nat) (n : Nat) (w : Nat) (g : Nat) (P : Nat → Bool) (c : Nat) (v3 : Nat) (n2 : Nat) (S : Nat → Bool) (x : Int) (y : Int) (hw : 1 ≤ w ∧ w ≤ 32) (hg : 1 ≤ g ∧ g ≤ 32) (hB : BB P n) (hB2 : BB S n2) (hPz : ∀ j_, w * g ≤ j_ → P j_ = false) (hSz : ∀ j_, w * g ≤ j_ → S j_ = false) (rx : -2147483648 ≤ x ∧ x < 2147483648) (ry : -2147483648 ≤ y ∧ y < 2147483648) (hv : ¬ (0 ≤ x ∧ x < w ∧ 0 ≤ y ∧ y < g)) : uThr l yX1_cellAt cX1_cellAt 3 (some .int) 9 140 (1) (6) [.ref t, .int (iI x), .int (iI y)] D E [(t, .inr (1, [.ref a, .ref c])), (a, .inr (2, [.int (iI ((w : Nat) : Int)), .int (iI ((g : Nat) : Int)), .ref b])), (b, .inr (3, [.ref v, .int (iI ((un P : Nat) : Int)), .int (zI false)])), (v, .inl (D.2 2, n, .inr (.inl (wd P)))), (c, .inr (3, [.ref v3, .int (iI ((un S : Nat) : Int)), .int (zI false)])), (v3, .inl (D.2 2, n2, .inr (.inl (wd S))))] "java/lang/IndexOutOfBoundsException" := by
  refine uu_thr (by decide +kernel) (Nat.le_of_ble_eq_true rfl) ?_
  intro p0 e0 s0 m0 below meth c0 A ls args Q hag hQ C ht hK hX hP hD hA hAe hl
  obtain ⟨kx, kb, hml, hown, hts, -⟩ := id C
  have hS : va_S A s0.heap s0.heap [] := va_S.rf
  have hl : lv_has ls 3 [(0, .ref t), (1, .int (iI x)), (2, .int (iI y))] := hl
  have hwg := wg_le hw hg
  have hBn := hB.1
  have hBm := hB.2.1
  have hul := un_le hB
  have hul2 := un_le hB2
  refine lv_aload_n kx kb dX1_cellAt_0 rfl (lv_at hl 0 rfl) ?_
  refine va_get (D := D.1) (ci := 1) (v := .ref a) (C := RX1) (T := TX1) (N := 2) kx kb hts in_X1 hown hK hP 0 rfl rfl 0 (by decide) (hts _ q152) (fun _ h9 => h9) rfl dX1_cellAt_1 ?_
  refine lv_iload_n kx kb dX1_cellAt_4 rfl (lv_at hl 1 rfl) ?_
  refine lv_iload_n kx kb dX1_cellAt_5 rfl (lv_at hl 2 rfl) ?_
  refine t_callRV C (met_X2_isOn_f l D E a b w g x y (by first | assumption | omega) (by first | assumption | omega) (by first | assumption | omega) (by first | assumption | omega)) (cwV 2 hts (lw_V q1222 q613 q614 q60 q615) rfl rfl rfl (by decide +kernel) ⟨Nat.le_of_ble_eq_true rfl, Nat.le_of_ble_eq_true rfl⟩) (va_recv hK hP (ci := 2) (q0 := 1) rfl rfl) hK hX hP hD hS hA [1] rfl (by decide) tYb_0 (fun _ _ _ => trivial) rfl hl.1 rfl (Nat.le_of_ble_eq_true rfl) dX1_cellAt_6 ⟨(show 0 ≤ 1 from by omega), (show 0 ≤ 6 from by omega)⟩ ?_
  refine W.eq (g2 := F0 m0 9 ls [.int (zI (isBd w g x y))]) rfl ?_
  subst hQ
  exact u_callS (wr := [(t, .inr (1, [.ref a, .ref c])), (a, .inr (2, [.int (iI ((w : Nat) : Int)), .int (iI ((g : Nat) : Int)), .ref b])), (b, .inr (3, [.ref v, .int (iI ((un P : Nat) : Int)), .int (zI false)])), (v, .inl (D.2 2, n, .inr (.inl (wd P)))), (c, .inr (3, [.ref v3, .int (iI ((un S : Nat) : Int)), .int (zI false)])), (v3, .inl (D.2 2, n2, .inr (.inl (wd S))))]) C ht (met_X1_checkIndex_no l hfl D E (isBd w g x y) ((isBd_f w g x y).mpr hv)) (va_cwS 1 hts (lw_S q691 q692 q59 q693) rfl rfl rfl (by decide +kernel) ⟨Nat.le_of_ble_eq_true rfl, Nat.le_of_ble_eq_true rfl⟩) hK hX hP hD hS hA [] [0, 1, 2, 3, 4, 5] rfl rfl (by decide) (by decide) (by decide) [0, 1, 2, 3, 4, 5] rfl rfl hl.1 rfl (Nat.le_of_ble_eq_true rfl) dX1_cellAt_9 ⟨(show 1 ≤ 1 from by omega), (show 6 ≤ 6 from by omega)⟩ ⟨(show 1 ≤ 1 from by omega), (show 6 ≤ 6 from by omega)⟩
set_option maxHeartbeats 4000000 in
set_option maxRecDepth 100000 in
theorem met_X1_checkedRow_no (l : Launch) (hfl : l.stackTraces = false) (D : TG) (E : TE) (t : Nat) (a : Nat) (b : Nat) (v : Nat) (n : Nat) (w : Nat) (g : Nat) (P : Nat → Bool) (c : Nat) (v3 : Nat) (n2 : Nat) (S : Nat → Bool) (y : Int) (hw : 1 ≤ w ∧ w ≤ 32) (hg : 1 ≤ g ∧ g ≤ 32) (hB : BB P n) (hB2 : BB S n2) (hPz : ∀ j_, w * g ≤ j_ → P j_ = false) (hSz : ∀ j_, w * g ≤ j_ → S j_ = false) (ry : -2147483648 ≤ y ∧ y < 2147483648) (hv : ¬ (0 ≤ y ∧ y < g)) : uThr l yX1_checkedRow cX1_checkedRow 2 (some .int) 9 140 (1) (6) [.ref t, .int (iI y)] D E [(t, .inr (1, [.ref a, .ref c])), (a, .inr (2, [.int (iI ((w : Nat) : Int)), .int (iI ((g : Nat) : Int)), .ref b])), (b, .inr (3, [.ref v, .int (iI ((un P : Nat) : Int)), .int (zI false)])), (v, .inl (D.2 2, n, .inr (.inl (wd P)))), (c, .inr (3, [.ref v3, .int (iI ((un S : Nat) : Int)), .int (zI false)])), (v3, .inl (D.2 2, n2, .inr (.inl (wd S))))] "java/lang/IndexOutOfBoundsException" := by
  refine uu_thr (by decide +kernel) (Nat.le_of_ble_eq_true rfl) ?_
  intro p0 e0 s0 m0 below meth c0 A ls args Q hag hQ C ht hK hX hP hD hA hAe hl
  obtain ⟨kx, kb, hml, hown, hts, -⟩ := id C
  have hS : va_S A s0.heap s0.heap [] := va_S.rf
  have hl : lv_has ls 2 [(0, .ref t), (1, .int (iI y))] := hl
  have hwg := wg_le hw hg
  have hBn := hB.1
  have hBm := hB.2.1
  have hul := un_le hB
  have hul2 := un_le hB2
  refine lv_iconst (v := iI 0) kx kb dX1_checkedRow_0 rfl ?_
  refine lv_aload_n kx kb dX1_checkedRow_1 rfl (lv_at hl 0 rfl) ?_
  refine t_callRV C (met_X1_height l D E t a b v n w g P c v3 n2 S (by first | assumption | omega) (by first | assumption | omega) (by first | assumption | omega) (by first | assumption | omega) (by first | assumption | omega) (by first | assumption | omega)) (cwV 0 hts (lw_V q681 q653 q654 q59 q655) rfl rfl rfl (by decide +kernel) ⟨Nat.le_of_ble_eq_true rfl, Nat.le_of_ble_eq_true rfl⟩) (va_recv hK hP (ci := 1) (q0 := 0) rfl rfl) hK hX hP hD hS hA [0, 1, 2, 3, 4, 5] rfl (by decide) tYb_0 (fun _ _ _ => trivial) rfl hl.1 rfl (Nat.le_of_ble_eq_true rfl) dX1_checkedRow_2 ⟨(show 0 ≤ 1 from by omega), (show 0 ≤ 6 from by omega)⟩ ?_
  refine W.eq (g2 := F0 m0 5 ls [.int (iI ((g : Nat) : Int)), .int (iI 0)]) rfl ?_
  refine lv_iconst (v := iI 1) kx kb dX1_checkedRow_5 rfl ?_
  refine ti_isub kx kb dX1_checkedRow_6 ?_
  refine lv_iload_n kx kb dX1_checkedRow_7 rfl (lv_at hl 1 rfl) ?_
  refine t_callRS C (met_X1_isIn l D E 0 (((g : Nat) : Int) - 1) y (by first | assumption | omega)) (va_cwS 3 hts (lw_S q690 q617 q59 q618) rfl rfl rfl (by decide +kernel) ⟨Nat.le_of_ble_eq_true rfl, Nat.le_of_ble_eq_true rfl⟩) hK hX hP hD hS hA [] rfl (by decide) tYb_0 (fun _ _ _ => trivial) rfl hl.1 rfl (Nat.le_of_ble_eq_true rfl) dX1_checkedRow_8 ⟨(show 0 ≤ 1 from by omega), (show 0 ≤ 6 from by omega)⟩ ?_
  refine W.eq (g2 := F0 m0 11 ls [.int (zI (decide (0 ≤ y ∧ y ≤ (((g : Nat) : Int) - 1))))]) rfl ?_
  subst hQ
  exact u_callS (wr := [(t, .inr (1, [.ref a, .ref c])), (a, .inr (2, [.int (iI ((w : Nat) : Int)), .int (iI ((g : Nat) : Int)), .ref b])), (b, .inr (3, [.ref v, .int (iI ((un P : Nat) : Int)), .int (zI false)])), (v, .inl (D.2 2, n, .inr (.inl (wd P)))), (c, .inr (3, [.ref v3, .int (iI ((un S : Nat) : Int)), .int (zI false)])), (v3, .inl (D.2 2, n2, .inr (.inl (wd S))))]) C ht (met_X1_checkIndex_no l hfl D E (decide (0 ≤ y ∧ y ≤ (((g : Nat) : Int) - 1))) (decide_eq_false (by omega))) (va_cwS 1 hts (lw_S q691 q692 q59 q693) rfl rfl rfl (by decide +kernel) ⟨Nat.le_of_ble_eq_true rfl, Nat.le_of_ble_eq_true rfl⟩) hK hX hP hD hS hA [] [0, 1, 2, 3, 4, 5] rfl rfl (by decide) (by decide) (by decide) [0, 1, 2, 3, 4, 5] rfl rfl hl.1 rfl (Nat.le_of_ble_eq_true rfl) dX1_checkedRow_11 ⟨(show 1 ≤ 1 from by omega), (show 6 ≤ 6 from by omega)⟩ ⟨(show 1 ≤ 1 from by omega), (show 6 ≤ 6 from by omega)⟩
set_option maxHeartbeats 4000000 in
set_option maxRecDepth 100000 in
theorem met_X1_set_no (l : Launch) (hfl : l.stackTraces = false) (D : TG) (E : TE) (t : Nat) (a : Nat) (b : Nat) (v : Nat) (n : Nat) (w : Nat) (g : Nat) (P : Nat → Bool) (c : Nat) (v3 : Nat) (n2 : Nat) (S : Nat → Bool) (x : Int) (y : Int) (z : Bool) (hw : 1 ≤ w ∧ w ≤ 32) (hg : 1 ≤ g ∧ g ≤ 32) (hB : BB P n) (hB2 : BB S n2) (hPz : ∀ j_, w * g ≤ j_ → P j_ = false) (hSz : ∀ j_, w * g ≤ j_ → S j_ = false) (rx : -2147483648 ≤ x ∧ x < 2147483648) (ry : -2147483648 ≤ y ∧ y < 2147483648) (hv : ¬ (0 ≤ x ∧ x < w ∧ 0 ≤ y ∧ y < g)) : uThr l yX1_set cX1_set 6 (some .boolean) 10 162 (1) (6) [.ref t, .int (iI x), .int (iI y), .int (zI z)] D E [(t, .inr (1, [.ref a, .ref c])), (a, .inr (2, [.int (iI ((w : Nat) : Int)), .int (iI ((g : Nat) : Int)), .ref b])), (b, .inr (3, [.ref v, .int (iI ((un P : Nat) : Int)), .int (zI false)])), (v, .inl (D.2 2, n, .inr (.inl (wd P)))), (c, .inr (3, [.ref v3, .int (iI ((un S : Nat) : Int)), .int (zI false)])), (v3, .inl (D.2 2, n2, .inr (.inl (wd S))))] "java/lang/IndexOutOfBoundsException" := by
  refine uu_thr (by decide +kernel) (Nat.le_of_ble_eq_true rfl) ?_
  intro p0 e0 s0 m0 below meth c0 A ls args Q hag hQ C ht hK hX hP hD hA hAe hl
  obtain ⟨kx, kb, hml, hown, hts, -⟩ := id C
  have hS : va_S A s0.heap s0.heap [] := va_S.rf
  have hl : lv_has ls 6 [(0, .ref t), (1, .int (iI x)), (2, .int (iI y)), (3, .int (zI z))] := hl
  have hwg := wg_le hw hg
  have hBn := hB.1
  have hBm := hB.2.1
  have hul := un_le hB
  have hul2 := un_le hB2
  refine lv_aload_n kx kb dX1_set_0 rfl (lv_at hl 0 rfl) ?_
  refine lv_iload_n kx kb dX1_set_1 rfl (lv_at hl 1 rfl) ?_
  refine lv_iload_n kx kb dX1_set_2 rfl (lv_at hl 2 rfl) ?_
  subst hQ
  exact u_callV (wr := []) C ht (met_X1_cellAt_no l hfl D E t a b v n w g P c v3 n2 S x y (by first | assumption | omega) (by first | assumption | omega) (by first | assumption | omega) (by first | assumption | omega) (by first | assumption | omega) (by first | assumption | omega) (by first | assumption | omega) (by first | assumption | omega) (hv)) (cwV 2 hts (lw_V q1218 q1220 qs18 q59 q1221) rfl rfl rfl (by decide +kernel) ⟨Nat.le_of_ble_eq_true rfl, Nat.le_of_ble_eq_true rfl⟩) (va_recv hK hP (ci := 1) (q0 := 0) rfl rfl) hK hX hP hD hS hA [0, 1, 2, 3, 4, 5] [] rfl rfl (by decide) (by decide) (by decide) [0, 1, 2, 3, 4, 5] rfl rfl hl.1 rfl (Nat.le_of_ble_eq_true rfl) dX1_set_3 ⟨(show 1 ≤ 1 from by omega), (show 6 ≤ 6 from by omega)⟩ ⟨(show 1 ≤ 1 from by omega), (show 6 ≤ 6 from by omega)⟩
set_option maxHeartbeats 4000000 in
set_option maxRecDepth 100000 in
theorem met_X1_at_no (l : Launch) (hfl : l.stackTraces = false) (D : TG) (E : TE) (t : Nat) (a : Nat) (b : Nat) (v : Nat) (n : Nat) (w : Nat) (g : Nat) (P : Nat → Bool) (c : Nat) (v3 : Nat) (n2 : Nat) (S : Nat → Bool) (x : Int) (y : Int) (hw : 1 ≤ w ∧ w ≤ 32) (hg : 1 ≤ g ∧ g ≤ 32) (hB : BB P n) (hB2 : BB S n2) (hPz : ∀ j_, w * g ≤ j_ → P j_ = false) (hSz : ∀ j_, w * g ≤ j_ → S j_ = false) (rx : -2147483648 ≤ x ∧ x < 2147483648) (ry : -2147483648 ≤ y ∧ y < 2147483648) (hv : ¬ (0 ≤ x ∧ x < w ∧ 0 ≤ y ∧ y < g)) : uThr l yX1_at cX1_at 3 (some .boolean) 10 162 (1) (6) [.ref t, .int (iI x), .int (iI y)] D E [(t, .inr (1, [.ref a, .ref c])), (a, .inr (2, [.int (iI ((w : Nat) : Int)), .int (iI ((g : Nat) : Int)), .ref b])), (b, .inr (3, [.ref v, .int (iI ((un P : Nat) : Int)), .int (zI false)])), (v, .inl (D.2 2, n, .inr (.inl (wd P)))), (c, .inr (3, [.ref v3, .int (iI ((un S : Nat) : Int)), .int (zI false)])), (v3, .inl (D.2 2, n2, .inr (.inl (wd S))))] "java/lang/IndexOutOfBoundsException" := by
  refine uu_thr (by decide +kernel) (Nat.le_of_ble_eq_true rfl) ?_
  intro p0 e0 s0 m0 below meth c0 A ls args Q hag hQ C ht hK hX hP hD hA hAe hl
  obtain ⟨kx, kb, hml, hown, hts, -⟩ := id C
  have hS : va_S A s0.heap s0.heap [] := va_S.rf
  have hl : lv_has ls 3 [(0, .ref t), (1, .int (iI x)), (2, .int (iI y))] := hl
  have hwg := wg_le hw hg
  have hBn := hB.1
  have hBm := hB.2.1
  have hul := un_le hB
  have hul2 := un_le hB2
  refine lv_aload_n kx kb dX1_at_0 rfl (lv_at hl 0 rfl) ?_
  refine va_get (D := D.1) (ci := 1) (v := .ref a) (C := RX1) (T := TX1) (N := 2) kx kb hts in_X1 hown hK hP 0 rfl rfl 0 (by decide) (hts _ q152) (fun _ h9 => h9) rfl dX1_at_1 ?_
  refine va_getN (D := D.1) (ci := 2) (v := .ref b) (C := RX2) (T := TX2) (N := 3) kx kb hts in_X2 hown hK hP 1 rfl rfl 2 (by decide) (va_Nw.use rfl (hX.1 _ q142 rfl)) (fun _ h9 => h9) rfl dX1_at_4 ?_
  refine lv_aload_n kx kb dX1_at_7 rfl (lv_at hl 0 rfl) ?_
  refine lv_iload_n kx kb dX1_at_8 rfl (lv_at hl 1 rfl) ?_
  refine lv_iload_n kx kb dX1_at_9 rfl (lv_at hl 2 rfl) ?_
  subst hQ
  exact u_callV (wr := []) C ht (met_X1_cellAt_no l hfl D E t a b v n w g P c v3 n2 S x y (by first | assumption | omega) (by first | assumption | omega) (by first | assumption | omega) (by first | assumption | omega) (by first | assumption | omega) (by first | assumption | omega) (by first | assumption | omega) (by first | assumption | omega) (hv)) (cwV 2 hts (lw_V q1218 q1220 qs18 q59 q1221) rfl rfl rfl (by decide +kernel) ⟨Nat.le_of_ble_eq_true rfl, Nat.le_of_ble_eq_true rfl⟩) (va_recv hK hP (ci := 1) (q0 := 0) rfl rfl) hK hX hP hD hS hA [0, 1, 2, 3, 4, 5] [] rfl rfl (by decide) (by decide) (by decide) [0, 1, 2, 3, 4, 5] rfl rfl hl.1 rfl (Nat.le_of_ble_eq_true rfl) dX1_at_10 ⟨(show 1 ≤ 1 from by omega), (show 6 ≤ 6 from by omega)⟩ ⟨(show 1 ≤ 1 from by omega), (show 6 ≤ 6 from by omega)⟩
set_option maxHeartbeats 4000000 in
set_option maxRecDepth 100000 in
theorem met_X1_fill_no (l : Launch) (hfl : l.stackTraces = false) (D : TG) (E : TE) (t : Nat) (a : Nat) (b : Nat) (v : Nat) (n : Nat) (w : Nat) (g : Nat) (P : Nat → Bool) (c : Nat) (v3 : Nat) (n2 : Nat) (S : Nat → Bool) (x : Int) (y : Int) (hw : 1 ≤ w ∧ w ≤ 32) (hg : 1 ≤ g ∧ g ≤ 32) (hB : BB P n) (hB2 : BB S n2) (hPz : ∀ j_, w * g ≤ j_ → P j_ = false) (hSz : ∀ j_, w * g ≤ j_ → S j_ = false) (rx : -2147483648 ≤ x ∧ x < 2147483648) (ry : -2147483648 ≤ y ∧ y < 2147483648) (hv : ¬ (0 ≤ x ∧ x < w ∧ 0 ≤ y ∧ y < g)) : uThr l yX1_fill cX1_fill 5 (some .int) 10 182 (1) (6) [.ref t, .int (iI x), .int (iI y)] D E [(t, .inr (1, [.ref a, .ref c])), (a, .inr (2, [.int (iI ((w : Nat) : Int)), .int (iI ((g : Nat) : Int)), .ref b])), (b, .inr (3, [.ref v, .int (iI ((un P : Nat) : Int)), .int (zI false)])), (v, .inl (D.2 2, n, .inr (.inl (wd P)))), (c, .inr (3, [.ref v3, .int (iI ((un S : Nat) : Int)), .int (zI false)])), (v3, .inl (D.2 2, n2, .inr (.inl (wd S))))] "java/lang/IndexOutOfBoundsException" := by
  refine uu_thr (by decide +kernel) (Nat.le_of_ble_eq_true rfl) ?_
  intro p0 e0 s0 m0 below meth c0 A ls args Q hag hQ C ht hK hX hP hD hA hAe hl
  obtain ⟨kx, kb, hml, hown, hts, -⟩ := id C
  have hS : va_S A s0.heap s0.heap [] := va_S.rf
  have hl : lv_has ls 5 [(0, .ref t), (1, .int (iI x)), (2, .int (iI y))] := hl
  have hwg := wg_le hw hg
  have hBn := hB.1
  have hBm := hB.2.1
  have hul := un_le hB
  have hul2 := un_le hB2
  refine lv_aload_n kx kb dX1_fill_0 rfl (lv_at hl 0 rfl) ?_
  refine lv_iload_n kx kb dX1_fill_1 rfl (lv_at hl 1 rfl) ?_
  refine lv_iload_n kx kb dX1_fill_2 rfl (lv_at hl 2 rfl) ?_
  subst hQ
  exact u_callV (wr := []) C ht (met_X1_cellAt_no l hfl D E t a b v n w g P c v3 n2 S x y (by first | assumption | omega) (by first | assumption | omega) (by first | assumption | omega) (by first | assumption | omega) (by first | assumption | omega) (by first | assumption | omega) (by first | assumption | omega) (by first | assumption | omega) (hv)) (cwV 2 hts (lw_V q1218 q1220 qs18 q59 q1221) rfl rfl rfl (by decide +kernel) ⟨Nat.le_of_ble_eq_true rfl, Nat.le_of_ble_eq_true rfl⟩) (va_recv hK hP (ci := 1) (q0 := 0) rfl rfl) hK hX hP hD hS hA [0, 1, 2, 3, 4, 5] [] rfl rfl (by decide) (by decide) (by decide) [0, 1, 2, 3, 4, 5] rfl rfl hl.1 rfl (Nat.le_of_ble_eq_true rfl) dX1_fill_3 ⟨(show 1 ≤ 1 from by omega), (show 6 ≤ 6 from by omega)⟩ ⟨(show 1 ≤ 1 from by omega), (show 6 ≤ 6 from by omega)⟩
set_option maxHeartbeats 4000000 in
set_option maxRecDepth 100000 in
theorem met_X1_partOf_no (l : Launch) (hfl : l.stackTraces = false) (D : TG) (E : TE) (t : Nat) (a : Nat) (b : Nat) (v : Nat) (n : Nat) (w : Nat) (g : Nat) (P : Nat → Bool) (c : Nat) (v3 : Nat) (n2 : Nat) (S : Nat → Bool) (x : Int) (y : Int) (hw : 1 ≤ w ∧ w ≤ 32) (hg : 1 ≤ g ∧ g ≤ 32) (hB : BB P n) (hB2 : BB S n2) (hPz : ∀ j_, w * g ≤ j_ → P j_ = false) (hSz : ∀ j_, w * g ≤ j_ → S j_ = false) (rx : -2147483648 ≤ x ∧ x < 2147483648) (ry : -2147483648 ≤ y ∧ y < 2147483648) (hv : ¬ (0 ≤ x ∧ x < w ∧ 0 ≤ y ∧ y < g)) : uThr l yX1_partOf cX1_partOf 4 (some .int) 10 182 (1) (6) [.ref t, .int (iI x), .int (iI y)] D E [(t, .inr (1, [.ref a, .ref c])), (a, .inr (2, [.int (iI ((w : Nat) : Int)), .int (iI ((g : Nat) : Int)), .ref b])), (b, .inr (3, [.ref v, .int (iI ((un P : Nat) : Int)), .int (zI false)])), (v, .inl (D.2 2, n, .inr (.inl (wd P)))), (c, .inr (3, [.ref v3, .int (iI ((un S : Nat) : Int)), .int (zI false)])), (v3, .inl (D.2 2, n2, .inr (.inl (wd S))))] "java/lang/IndexOutOfBoundsException" := by
  refine uu_thr (by decide +kernel) (Nat.le_of_ble_eq_true rfl) ?_
  intro p0 e0 s0 m0 below meth c0 A ls args Q hag hQ C ht hK hX hP hD hA hAe hl
  obtain ⟨kx, kb, hml, hown, hts, -⟩ := id C
  have hS : va_S A s0.heap s0.heap [] := va_S.rf
  have hl : lv_has ls 4 [(0, .ref t), (1, .int (iI x)), (2, .int (iI y))] := hl
  have hwg := wg_le hw hg
  have hBn := hB.1
  have hBm := hB.2.1
  have hul := un_le hB
  have hul2 := un_le hB2
  refine lv_aload_n kx kb dX1_partOf_0 rfl (lv_at hl 0 rfl) ?_
  refine lv_iload_n kx kb dX1_partOf_1 rfl (lv_at hl 1 rfl) ?_
  refine lv_iload_n kx kb dX1_partOf_2 rfl (lv_at hl 2 rfl) ?_
  subst hQ
  exact u_callV (wr := []) C ht (met_X1_cellAt_no l hfl D E t a b v n w g P c v3 n2 S x y (by first | assumption | omega) (by first | assumption | omega) (by first | assumption | omega) (by first | assumption | omega) (by first | assumption | omega) (by first | assumption | omega) (by first | assumption | omega) (by first | assumption | omega) (hv)) (cwV 2 hts (lw_V q1218 q1220 qs18 q59 q1221) rfl rfl rfl (by decide +kernel) ⟨Nat.le_of_ble_eq_true rfl, Nat.le_of_ble_eq_true rfl⟩) (va_recv hK hP (ci := 1) (q0 := 0) rfl rfl) hK hX hP hD hS hA [0, 1, 2, 3, 4, 5] [] rfl rfl (by decide) (by decide) (by decide) [0, 1, 2, 3, 4, 5] rfl rfl hl.1 rfl (Nat.le_of_ble_eq_true rfl) dX1_partOf_3 ⟨(show 1 ≤ 1 from by omega), (show 6 ≤ 6 from by omega)⟩ ⟨(show 1 ≤ 1 from by omega), (show 6 ≤ 6 from by omega)⟩
set_option maxHeartbeats 4000000 in
set_option maxRecDepth 100000 in
theorem met_X1_partSize_no (l : Launch) (hfl : l.stackTraces = false) (D : TG) (E : TE) (t : Nat) (a : Nat) (b : Nat) (v : Nat) (n : Nat) (w : Nat) (g : Nat) (P : Nat → Bool) (c : Nat) (v3 : Nat) (n2 : Nat) (S : Nat → Bool) (x : Int) (y : Int) (hw : 1 ≤ w ∧ w ≤ 32) (hg : 1 ≤ g ∧ g ≤ 32) (hB : BB P n) (hB2 : BB S n2) (hPz : ∀ j_, w * g ≤ j_ → P j_ = false) (hSz : ∀ j_, w * g ≤ j_ → S j_ = false) (rx : -2147483648 ≤ x ∧ x < 2147483648) (ry : -2147483648 ≤ y ∧ y < 2147483648) (hv : ¬ (0 ≤ x ∧ x < w ∧ 0 ≤ y ∧ y < g)) : uThr l yX1_partSize cX1_partSize 4 (some .int) 10 182 (1) (6) [.ref t, .int (iI x), .int (iI y)] D E [(t, .inr (1, [.ref a, .ref c])), (a, .inr (2, [.int (iI ((w : Nat) : Int)), .int (iI ((g : Nat) : Int)), .ref b])), (b, .inr (3, [.ref v, .int (iI ((un P : Nat) : Int)), .int (zI false)])), (v, .inl (D.2 2, n, .inr (.inl (wd P)))), (c, .inr (3, [.ref v3, .int (iI ((un S : Nat) : Int)), .int (zI false)])), (v3, .inl (D.2 2, n2, .inr (.inl (wd S))))] "java/lang/IndexOutOfBoundsException" := by
  refine uu_thr (by decide +kernel) (Nat.le_of_ble_eq_true rfl) ?_
  intro p0 e0 s0 m0 below meth c0 A ls args Q hag hQ C ht hK hX hP hD hA hAe hl
  obtain ⟨kx, kb, hml, hown, hts, -⟩ := id C
  have hS : va_S A s0.heap s0.heap [] := va_S.rf
  have hl : lv_has ls 4 [(0, .ref t), (1, .int (iI x)), (2, .int (iI y))] := hl
  have hwg := wg_le hw hg
  have hBn := hB.1
  have hBm := hB.2.1
  have hul := un_le hB
  have hul2 := un_le hB2
  refine lv_aload_n kx kb dX1_partSize_0 rfl (lv_at hl 0 rfl) ?_
  refine lv_iload_n kx kb dX1_partSize_1 rfl (lv_at hl 1 rfl) ?_
  refine lv_iload_n kx kb dX1_partSize_2 rfl (lv_at hl 2 rfl) ?_
  subst hQ
  exact u_callV (wr := []) C ht (met_X1_cellAt_no l hfl D E t a b v n w g P c v3 n2 S x y (by first | assumption | omega) (by first | assumption | omega) (by first | assumption | omega) (by first | assumption | omega) (by first | assumption | omega) (by first | assumption | omega) (by first | assumption | omega) (by first | assumption | omega) (hv)) (cwV 2 hts (lw_V q1218 q1220 qs18 q59 q1221) rfl rfl rfl (by decide +kernel) ⟨Nat.le_of_ble_eq_true rfl, Nat.le_of_ble_eq_true rfl⟩) (va_recv hK hP (ci := 1) (q0 := 0) rfl rfl) hK hX hP hD hS hA [0, 1, 2, 3, 4, 5] [] rfl rfl (by decide) (by decide) (by decide) [0, 1, 2, 3, 4, 5] rfl rfl hl.1 rfl (Nat.le_of_ble_eq_true rfl) dX1_partSize_3 ⟨(show 1 ≤ 1 from by omega), (show 6 ≤ 6 from by omega)⟩ ⟨(show 1 ≤ 1 from by omega), (show 6 ≤ 6 from by omega)⟩
set_option maxHeartbeats 4000000 in
set_option maxRecDepth 100000 in
theorem met_X1_depthAt_no (l : Launch) (hfl : l.stackTraces = false) (D : TG) (E : TE) (t : Nat) (a : Nat) (b : Nat) (v : Nat) (n : Nat) (w : Nat) (g : Nat) (P : Nat → Bool) (c : Nat) (v3 : Nat) (n2 : Nat) (S : Nat → Bool) (x : Int) (y : Int) (z : Bool) (hw : 1 ≤ w ∧ w ≤ 32) (hg : 1 ≤ g ∧ g ≤ 32) (hB : BB P n) (hB2 : BB S n2) (hPz : ∀ j_, w * g ≤ j_ → P j_ = false) (hSz : ∀ j_, w * g ≤ j_ → S j_ = false) (rx : -2147483648 ≤ x ∧ x < 2147483648) (ry : -2147483648 ≤ y ∧ y < 2147483648) (hv : ¬ (0 ≤ x ∧ x < w ∧ 0 ≤ y ∧ y < g)) : uThr l yX1_depthAt cX1_depthAt 5 (some .int) 10 162 (1) (6) [.ref t, .int (iI x), .int (iI y), .int (zI z)] D E [(t, .inr (1, [.ref a, .ref c])), (a, .inr (2, [.int (iI ((w : Nat) : Int)), .int (iI ((g : Nat) : Int)), .ref b])), (b, .inr (3, [.ref v, .int (iI ((un P : Nat) : Int)), .int (zI false)])), (v, .inl (D.2 2, n, .inr (.inl (wd P)))), (c, .inr (3, [.ref v3, .int (iI ((un S : Nat) : Int)), .int (zI false)])), (v3, .inl (D.2 2, n2, .inr (.inl (wd S))))] "java/lang/IndexOutOfBoundsException" := by
  refine uu_thr (by decide +kernel) (Nat.le_of_ble_eq_true rfl) ?_
  intro p0 e0 s0 m0 below meth c0 A ls args Q hag hQ C ht hK hX hP hD hA hAe hl
  obtain ⟨kx, kb, hml, hown, hts, -⟩ := id C
  have hS : va_S A s0.heap s0.heap [] := va_S.rf
  have hl : lv_has ls 5 [(0, .ref t), (1, .int (iI x)), (2, .int (iI y)), (3, .int (zI z))] := hl
  have hwg := wg_le hw hg
  have hBn := hB.1
  have hBm := hB.2.1
  have hul := un_le hB
  have hul2 := un_le hB2
  refine lv_aload_n kx kb dX1_depthAt_0 rfl (lv_at hl 0 rfl) ?_
  refine lv_iload_n kx kb dX1_depthAt_1 rfl (lv_at hl 1 rfl) ?_
  refine lv_iload_n kx kb dX1_depthAt_2 rfl (lv_at hl 2 rfl) ?_
  subst hQ
  exact u_callV (wr := []) C ht (met_X1_cellAt_no l hfl D E t a b v n w g P c v3 n2 S x y (by first | assumption | omega) (by first | assumption | omega) (by first | assumption | omega) (by first | assumption | omega) (by first | assumption | omega) (by first | assumption | omega) (by first | assumption | omega) (by first | assumption | omega) (hv)) (cwV 2 hts (lw_V q1218 q1220 qs18 q59 q1221) rfl rfl rfl (by decide +kernel) ⟨Nat.le_of_ble_eq_true rfl, Nat.le_of_ble_eq_true rfl⟩) (va_recv hK hP (ci := 1) (q0 := 0) rfl rfl) hK hX hP hD hS hA [0, 1, 2, 3, 4, 5] [] rfl rfl (by decide) (by decide) (by decide) [0, 1, 2, 3, 4, 5] rfl rfl hl.1 rfl (Nat.le_of_ble_eq_true rfl) dX1_depthAt_3 ⟨(show 1 ≤ 1 from by omega), (show 6 ≤ 6 from by omega)⟩ ⟨(show 1 ≤ 1 from by omega), (show 6 ≤ 6 from by omega)⟩
set_option maxHeartbeats 4000000 in
set_option maxRecDepth 100000 in
theorem met_X1_runs_no (l : Launch) (hfl : l.stackTraces = false) (D : TG) (E : TE) (t : Nat) (a : Nat) (b : Nat) (v : Nat) (n : Nat) (w : Nat) (g : Nat) (P : Nat → Bool) (c : Nat) (v3 : Nat) (n2 : Nat) (S : Nat → Bool) (y : Int) (hw : 1 ≤ w ∧ w ≤ 32) (hg : 1 ≤ g ∧ g ≤ 32) (hB : BB P n) (hB2 : BB S n2) (hPz : ∀ j_, w * g ≤ j_ → P j_ = false) (hSz : ∀ j_, w * g ≤ j_ → S j_ = false) (ry : -2147483648 ≤ y ∧ y < 2147483648) (hv : ¬ (0 ≤ y ∧ y < g)) : uThr l yX1_runs cX1_runs 2 (some .int) 10 161 (1) (6) [.ref t, .int (iI y)] D E [(t, .inr (1, [.ref a, .ref c])), (a, .inr (2, [.int (iI ((w : Nat) : Int)), .int (iI ((g : Nat) : Int)), .ref b])), (b, .inr (3, [.ref v, .int (iI ((un P : Nat) : Int)), .int (zI false)])), (v, .inl (D.2 2, n, .inr (.inl (wd P)))), (c, .inr (3, [.ref v3, .int (iI ((un S : Nat) : Int)), .int (zI false)])), (v3, .inl (D.2 2, n2, .inr (.inl (wd S))))] "java/lang/IndexOutOfBoundsException" := by
  refine uu_thr (by decide +kernel) (Nat.le_of_ble_eq_true rfl) ?_
  intro p0 e0 s0 m0 below meth c0 A ls args Q hag hQ C ht hK hX hP hD hA hAe hl
  obtain ⟨kx, kb, hml, hown, hts, -⟩ := id C
  have hS : va_S A s0.heap s0.heap [] := va_S.rf
  have hl : lv_has ls 2 [(0, .ref t), (1, .int (iI y))] := hl
  have hwg := wg_le hw hg
  have hBn := hB.1
  have hBm := hB.2.1
  have hul := un_le hB
  have hul2 := un_le hB2
  refine lv_aload_n kx kb dX1_runs_0 rfl (lv_at hl 0 rfl) ?_
  refine va_get (D := D.1) (ci := 1) (v := .ref a) (C := RX1) (T := TX1) (N := 2) kx kb hts in_X1 hown hK hP 0 rfl rfl 0 (by decide) (hts _ q152) (fun _ h9 => h9) rfl dX1_runs_1 ?_
  refine lv_aload_n kx kb dX1_runs_4 rfl (lv_at hl 0 rfl) ?_
  refine lv_iload_n kx kb dX1_runs_5 rfl (lv_at hl 1 rfl) ?_
  subst hQ
  exact u_callV (wr := []) C ht (met_X1_checkedRow_no l hfl D E t a b v n w g P c v3 n2 S y (by first | assumption | omega) (by first | assumption | omega) (by first | assumption | omega) (by first | assumption | omega) (by first | assumption | omega) (by first | assumption | omega) (by first | assumption | omega) (hv)) (cwV 1 hts (lw_V q686 q688 qs9 q59 q689) rfl rfl rfl (by decide +kernel) ⟨Nat.le_of_ble_eq_true rfl, Nat.le_of_ble_eq_true rfl⟩) (va_recv hK hP (ci := 1) (q0 := 0) rfl rfl) hK hX hP hD hS hA [0, 1, 2, 3, 4, 5] [] rfl rfl (by decide) (by decide) (by decide) [0, 1, 2, 3, 4, 5] rfl rfl hl.1 rfl (Nat.le_of_ble_eq_true rfl) dX1_runs_6 ⟨(show 1 ≤ 1 from by omega), (show 6 ≤ 6 from by omega)⟩ ⟨(show 1 ≤ 1 from by omega), (show 6 ≤ 6 from by omega)⟩
set_option maxHeartbeats 4000000 in
set_option maxRecDepth 100000 in
theorem met_X1_open_no (l : Launch) (hfl : l.stackTraces = false) (D : TG) (E : TE) (t : Nat) (a : Nat) (b : Nat) (v : Nat) (n : Nat) (w : Nat) (g : Nat) (P : Nat → Bool) (c : Nat) (v3 : Nat) (n2 : Nat) (S : Nat → Bool) (x : Int) (y : Int) (hw : 1 ≤ w ∧ w ≤ 32) (hg : 1 ≤ g ∧ g ≤ 32) (hB : BB P n) (hB2 : BB S n2) (hPz : ∀ j_, w * g ≤ j_ → P j_ = false) (hSz : ∀ j_, w * g ≤ j_ → S j_ = false) (rx : -2147483648 ≤ x ∧ x < 2147483648) (ry : -2147483648 ≤ y ∧ y < 2147483648) (hv : ¬ (1 ≤ x ∧ x ≤ 32 ∧ 1 ≤ y ∧ y ≤ 32)) : uThr l yX1_open cX1_open 4 (some .int) 9 140 (1) (6) [.ref t, .int (iI x), .int (iI y)] D E [(t, .inr (1, [.ref a, .ref c])), (a, .inr (2, [.int (iI ((w : Nat) : Int)), .int (iI ((g : Nat) : Int)), .ref b])), (b, .inr (3, [.ref v, .int (iI ((un P : Nat) : Int)), .int (zI false)])), (v, .inl (D.2 2, n, .inr (.inl (wd P)))), (c, .inr (3, [.ref v3, .int (iI ((un S : Nat) : Int)), .int (zI false)])), (v3, .inl (D.2 2, n2, .inr (.inl (wd S))))] "java/lang/IllegalArgumentException" := by
  refine uu_thr (by decide +kernel) (Nat.le_of_ble_eq_true rfl) ?_
  intro p0 e0 s0 m0 below meth c0 A ls args Q hag hQ C ht hK hX hP hD hA hAe hl
  obtain ⟨kx, kb, hml, hown, hts, -⟩ := id C
  have hS : va_S A s0.heap s0.heap [] := va_S.rf
  have hl : lv_has ls 4 [(0, .ref t), (1, .int (iI x)), (2, .int (iI y))] := hl
  have hwg := wg_le hw hg
  have hBn := hB.1
  have hBm := hB.2.1
  have hul := un_le hB
  have hul2 := un_le hB2
  refine lv_iconst (v := iI 1) kx kb dX1_open_0 rfl ?_
  refine lv_bipush (v := iI 32) kx kb dX1_open_1 rfl ?_
  refine lv_iload_n kx kb dX1_open_3 rfl (lv_at hl 1 rfl) ?_
  refine t_callRS C (met_X1_isIn l D E 1 32 x (by first | assumption | omega)) (va_cwS 3 hts (lw_S q690 q617 q59 q618) rfl rfl rfl (by decide +kernel) ⟨Nat.le_of_ble_eq_true rfl, Nat.le_of_ble_eq_true rfl⟩) hK hX hP hD hS hA [] rfl (by decide) tYb_0 (fun _ _ _ => trivial) rfl hl.1 rfl (Nat.le_of_ble_eq_true rfl) dX1_open_4 ⟨(show 0 ≤ 1 from by omega), (show 0 ≤ 6 from by omega)⟩ ?_
  refine W.eq (g2 := F0 m0 7 ls [.int (zI (decide (1 ≤ x ∧ x ≤ 32)))]) rfl ?_
  refine tz_if_eq (tgt := 24) kx kb dX1_open_7 (by decide) (fun h7 => ?_) (fun h7 => ?_)
  · simp only [decide_eq_true_eq, decide_eq_false_iff_not] at h7
    refine lv_iconst (v := iI 0) kx kb dX1_open_24 rfl ?_
    subst hQ
    exact u_callS (wr := [(t, .inr (1, [.ref a, .ref c])), (a, .inr (2, [.int (iI ((w : Nat) : Int)), .int (iI ((g : Nat) : Int)), .ref b])), (b, .inr (3, [.ref v, .int (iI ((un P : Nat) : Int)), .int (zI false)])), (v, .inl (D.2 2, n, .inr (.inl (wd P)))), (c, .inr (3, [.ref v3, .int (iI ((un S : Nat) : Int)), .int (zI false)])), (v3, .inl (D.2 2, n2, .inr (.inl (wd S))))]) C ht (met_X1_checkArgument_no l hfl D E false (rfl)) (va_cwS 1 hts (lw_S q1187 q1188 q59 q1189) rfl rfl rfl (by decide +kernel) ⟨Nat.le_of_ble_eq_true rfl, Nat.le_of_ble_eq_true rfl⟩) hK hX hP hD hS hA [] [0, 1, 2, 3, 4, 5] rfl rfl (by decide) (by decide) (by decide) [0, 1, 2, 3, 4, 5] rfl rfl hl.1 rfl (Nat.le_of_ble_eq_true rfl) dX1_open_25 ⟨(show 1 ≤ 1 from by omega), (show 6 ≤ 6 from by omega)⟩ ⟨(show 1 ≤ 1 from by omega), (show 6 ≤ 6 from by omega)⟩
  · simp only [decide_eq_true_eq, decide_eq_false_iff_not] at h7
    refine lv_iconst (v := iI 1) kx kb dX1_open_10 rfl ?_
    refine lv_bipush (v := iI 32) kx kb dX1_open_11 rfl ?_
    refine lv_iload_n kx kb dX1_open_13 rfl (lv_at hl 2 rfl) ?_
    refine t_callRS C (met_X1_isIn l D E 1 32 y (by first | assumption | omega)) (va_cwS 3 hts (lw_S q690 q617 q59 q618) rfl rfl rfl (by decide +kernel) ⟨Nat.le_of_ble_eq_true rfl, Nat.le_of_ble_eq_true rfl⟩) hK hX hP hD hS hA [] rfl (by decide) tYb_0 (fun _ _ _ => trivial) rfl hl.1 rfl (Nat.le_of_ble_eq_true rfl) dX1_open_14 ⟨(show 0 ≤ 1 from by omega), (show 0 ≤ 6 from by omega)⟩ ?_
    refine W.eq (g2 := F0 m0 17 ls [.int (zI (decide (1 ≤ y ∧ y ≤ 32)))]) rfl ?_
    refine tz_if_eq (tgt := 24) kx kb dX1_open_17 (by decide) (fun h17 => ?_) (fun h17 => ?_)
    · simp only [decide_eq_true_eq, decide_eq_false_iff_not] at h17
      refine lv_iconst (v := iI 0) kx kb dX1_open_24 rfl ?_
      subst hQ
      exact u_callS (wr := [(t, .inr (1, [.ref a, .ref c])), (a, .inr (2, [.int (iI ((w : Nat) : Int)), .int (iI ((g : Nat) : Int)), .ref b])), (b, .inr (3, [.ref v, .int (iI ((un P : Nat) : Int)), .int (zI false)])), (v, .inl (D.2 2, n, .inr (.inl (wd P)))), (c, .inr (3, [.ref v3, .int (iI ((un S : Nat) : Int)), .int (zI false)])), (v3, .inl (D.2 2, n2, .inr (.inl (wd S))))]) C ht (met_X1_checkArgument_no l hfl D E false (rfl)) (va_cwS 1 hts (lw_S q1187 q1188 q59 q1189) rfl rfl rfl (by decide +kernel) ⟨Nat.le_of_ble_eq_true rfl, Nat.le_of_ble_eq_true rfl⟩) hK hX hP hD hS hA [] [0, 1, 2, 3, 4, 5] rfl rfl (by decide) (by decide) (by decide) [0, 1, 2, 3, 4, 5] rfl rfl hl.1 rfl (Nat.le_of_ble_eq_true rfl) dX1_open_25 ⟨(show 1 ≤ 1 from by omega), (show 6 ≤ 6 from by omega)⟩ ⟨(show 1 ≤ 1 from by omega), (show 6 ≤ 6 from by omega)⟩
    · simp only [decide_eq_true_eq] at h7 h17; omega
set_option maxHeartbeats 4000000 in
set_option maxRecDepth 100000 in
theorem met_X1_line_no (l : Launch) (hfl : l.stackTraces = false) (D : TG) (E : TE) (t : Nat) (a : Nat) (b : Nat) (v : Nat) (n : Nat) (w : Nat) (g : Nat) (P : Nat → Bool) (c : Nat) (v3 : Nat) (n2 : Nat) (S : Nat → Bool) (x1 : Int) (y1 : Int) (x2 : Int) (y2 : Int) (z : Bool) (hw : 1 ≤ w ∧ w ≤ 32) (hg : 1 ≤ g ∧ g ≤ 32) (hB : BB P n) (hB2 : BB S n2) (hPz : ∀ j_, w * g ≤ j_ → P j_ = false) (hSz : ∀ j_, w * g ≤ j_ → S j_ = false) (rx1 : -2147483648 ≤ x1 ∧ x1 < 2147483648) (ry1 : -2147483648 ≤ y1 ∧ y1 < 2147483648) (rx2 : -2147483648 ≤ x2 ∧ x2 < 2147483648) (ry2 : -2147483648 ≤ y2 ∧ y2 < 2147483648) (hv : ¬ ((-40 ≤ x1 ∧ x1 ≤ 72) ∧ (-40 ≤ y1 ∧ y1 ≤ 72) ∧ (-40 ≤ x2 ∧ x2 ≤ 72) ∧ (-40 ≤ y2 ∧ y2 ≤ 72))) : uThr l yX1_line cX1_line 7 (some .int) 13 431 (2) (10) [.ref t, .int (iI x1), .int (iI y1), .int (iI x2), .int (iI y2), .int (zI z)] D E [(t, .inr (1, [.ref a, .ref c])), (a, .inr (2, [.int (iI ((w : Nat) : Int)), .int (iI ((g : Nat) : Int)), .ref b])), (b, .inr (3, [.ref v, .int (iI ((un P : Nat) : Int)), .int (zI false)])), (v, .inl (D.2 2, n, .inr (.inl (wd P)))), (c, .inr (3, [.ref v3, .int (iI ((un S : Nat) : Int)), .int (zI false)])), (v3, .inl (D.2 2, n2, .inr (.inl (wd S))))] "java/lang/IllegalArgumentException" := by
  refine uu_thr (by decide +kernel) (Nat.le_of_ble_eq_true rfl) ?_
  intro p0 e0 s0 m0 below meth c0 A ls args Q hag hQ C ht hK hX hP hD hA hAe hl
  obtain ⟨kx, kb, hml, hown, hts, -⟩ := id C
  have hS : va_S A s0.heap s0.heap [] := va_S.rf
  have hl : lv_has ls 7 [(0, .ref t), (1, .int (iI x1)), (2, .int (iI y1)), (3, .int (iI x2)), (4, .int (iI y2)), (5, .int (zI z))] := hl
  have hwg := wg_le hw hg
  have hBn := hB.1
  have hBm := hB.2.1
  have hul := un_le hB
  have hul2 := un_le hB2
  refine lv_iconst (v := iI 4) kx kb dX1_line_0 rfl ?_
  refine ta_newI C (hts _ q1252) hK hP hD hS hA 4 (by omega) ⟨(show 1 ≤ 2 from by omega), (show 4 ≤ 10 from by omega)⟩ dX1_line_1 (fun q_1 H hP hD hS => ?_)
  have hP : va_P D.1 clAll [(t, .inr (1, [.ref a, .ref c])), (a, .inr (2, [.int (iI ((w : Nat) : Int)), .int (iI ((g : Nat) : Int)), .ref b])), (b, .inr (3, [.ref v, .int (iI ((un P : Nat) : Int)), .int (zI false)])), (v, .inl (D.2 2, n, .inr (.inl (wd P)))), (c, .inr (3, [.ref v3, .int (iI ((un S : Nat) : Int)), .int (zI false)])), (v3, .inl (D.2 2, n2, .inr (.inl (wd S)))), (q_1, .inl (D.2 1, 4, .inl (fun x_ => iI ((fun _ => 0) x_))))] H := hP
  have hD : va_D A [(t, .inr (1, [.ref a, .ref c])), (a, .inr (2, [.int (iI ((w : Nat) : Int)), .int (iI ((g : Nat) : Int)), .ref b])), (b, .inr (3, [.ref v, .int (iI ((un P : Nat) : Int)), .int (zI false)])), (v, .inl (D.2 2, n, .inr (.inl (wd P)))), (c, .inr (3, [.ref v3, .int (iI ((un S : Nat) : Int)), .int (zI false)])), (v3, .inl (D.2 2, n2, .inr (.inl (wd S)))), (q_1, .inl (D.2 1, 4, .inl (fun x_ => iI ((fun _ => 0) x_))))] := hD
  refine lv_dup kx kb dX1_line_3 rfl ?_
  refine lv_iconst (v := iI 0) kx kb dX1_line_4 rfl ?_
  refine lv_iload_n kx kb dX1_line_5 rfl (lv_at hl 1 rfl) ?_
  refine ta_iast C hK hP hD hS 6 rfl 0 (by omega) dX1_line_6 (fun H locs hP hD hS => ?_)
  have hP : va_P D.1 clAll [(t, .inr (1, [.ref a, .ref c])), (a, .inr (2, [.int (iI ((w : Nat) : Int)), .int (iI ((g : Nat) : Int)), .ref b])), (b, .inr (3, [.ref v, .int (iI ((un P : Nat) : Int)), .int (zI false)])), (v, .inl (D.2 2, n, .inr (.inl (wd P)))), (c, .inr (3, [.ref v3, .int (iI ((un S : Nat) : Int)), .int (zI false)])), (v3, .inl (D.2 2, n2, .inr (.inl (wd S)))), (q_1, .inl (D.2 1, 4, .inl (fun x_ => iI ((va_up (fun _ => 0) 0 x1) x_))))] H := hP
  have hD : va_D A [(t, .inr (1, [.ref a, .ref c])), (a, .inr (2, [.int (iI ((w : Nat) : Int)), .int (iI ((g : Nat) : Int)), .ref b])), (b, .inr (3, [.ref v, .int (iI ((un P : Nat) : Int)), .int (zI false)])), (v, .inl (D.2 2, n, .inr (.inl (wd P)))), (c, .inr (3, [.ref v3, .int (iI ((un S : Nat) : Int)), .int (zI false)])), (v3, .inl (D.2 2, n2, .inr (.inl (wd S)))), (q_1, .inl (D.2 1, 4, .inl (fun x_ => iI ((va_up (fun _ => 0) 0 x1) x_))))] := hD
  refine lv_dup kx kb dX1_line_7 rfl ?_
  refine lv_iconst (v := iI 1) kx kb dX1_line_8 rfl ?_
  refine lv_iload_n kx kb dX1_line_9 rfl (lv_at hl 2 rfl) ?_
  refine ta_iast C hK hP hD hS 6 rfl 1 (by omega) dX1_line_10 (fun H locs hP hD hS => ?_)
  have hP : va_P D.1 clAll [(t, .inr (1, [.ref a, .ref c])), (a, .inr (2, [.int (iI ((w : Nat) : Int)), .int (iI ((g : Nat) : Int)), .ref b])), (b, .inr (3, [.ref v, .int (iI ((un P : Nat) : Int)), .int (zI false)])), (v, .inl (D.2 2, n, .inr (.inl (wd P)))), (c, .inr (3, [.ref v3, .int (iI ((un S : Nat) : Int)), .int (zI false)])), (v3, .inl (D.2 2, n2, .inr (.inl (wd S)))), (q_1, .inl (D.2 1, 4, .inl (fun x_ => iI ((va_up (va_up (fun _ => 0) 0 x1) 1 y1) x_))))] H := hP
  have hD : va_D A [(t, .inr (1, [.ref a, .ref c])), (a, .inr (2, [.int (iI ((w : Nat) : Int)), .int (iI ((g : Nat) : Int)), .ref b])), (b, .inr (3, [.ref v, .int (iI ((un P : Nat) : Int)), .int (zI false)])), (v, .inl (D.2 2, n, .inr (.inl (wd P)))), (c, .inr (3, [.ref v3, .int (iI ((un S : Nat) : Int)), .int (zI false)])), (v3, .inl (D.2 2, n2, .inr (.inl (wd S)))), (q_1, .inl (D.2 1, 4, .inl (fun x_ => iI ((va_up (va_up (fun _ => 0) 0 x1) 1 y1) x_))))] := hD
  refine lv_dup kx kb dX1_line_11 rfl ?_
  refine lv_iconst (v := iI 2) kx kb dX1_line_12 rfl ?_
  refine lv_iload_n kx kb dX1_line_13 rfl (lv_at hl 3 rfl) ?_
  refine ta_iast C hK hP hD hS 6 rfl 2 (by omega) dX1_line_14 (fun H locs hP hD hS => ?_)
  have hP : va_P D.1 clAll [(t, .inr (1, [.ref a, .ref c])), (a, .inr (2, [.int (iI ((w : Nat) : Int)), .int (iI ((g : Nat) : Int)), .ref b])), (b, .inr (3, [.ref v, .int (iI ((un P : Nat) : Int)), .int (zI false)])), (v, .inl (D.2 2, n, .inr (.inl (wd P)))), (c, .inr (3, [.ref v3, .int (iI ((un S : Nat) : Int)), .int (zI false)])), (v3, .inl (D.2 2, n2, .inr (.inl (wd S)))), (q_1, .inl (D.2 1, 4, .inl (fun x_ => iI ((va_up (va_up (va_up (fun _ => 0) 0 x1) 1 y1) 2 x2) x_))))] H := hP
  have hD : va_D A [(t, .inr (1, [.ref a, .ref c])), (a, .inr (2, [.int (iI ((w : Nat) : Int)), .int (iI ((g : Nat) : Int)), .ref b])), (b, .inr (3, [.ref v, .int (iI ((un P : Nat) : Int)), .int (zI false)])), (v, .inl (D.2 2, n, .inr (.inl (wd P)))), (c, .inr (3, [.ref v3, .int (iI ((un S : Nat) : Int)), .int (zI false)])), (v3, .inl (D.2 2, n2, .inr (.inl (wd S)))), (q_1, .inl (D.2 1, 4, .inl (fun x_ => iI ((va_up (va_up (va_up (fun _ => 0) 0 x1) 1 y1) 2 x2) x_))))] := hD
  refine lv_dup kx kb dX1_line_15 rfl ?_
  refine lv_iconst (v := iI 3) kx kb dX1_line_16 rfl ?_
  refine lv_iload kx kb dX1_line_17 (lv_at hl 4 rfl) ?_
  refine ta_iast C hK hP hD hS 6 rfl 3 (by omega) dX1_line_19 (fun H locs hP hD hS => ?_)
  have hP : va_P D.1 clAll [(t, .inr (1, [.ref a, .ref c])), (a, .inr (2, [.int (iI ((w : Nat) : Int)), .int (iI ((g : Nat) : Int)), .ref b])), (b, .inr (3, [.ref v, .int (iI ((un P : Nat) : Int)), .int (zI false)])), (v, .inl (D.2 2, n, .inr (.inl (wd P)))), (c, .inr (3, [.ref v3, .int (iI ((un S : Nat) : Int)), .int (zI false)])), (v3, .inl (D.2 2, n2, .inr (.inl (wd S)))), (q_1, .inl (D.2 1, 4, .inl (fun x_ => iI ((va_up (va_up (va_up (va_up (fun _ => 0) 0 x1) 1 y1) 2 x2) 3 y2) x_))))] H := hP
  have hD : va_D A [(t, .inr (1, [.ref a, .ref c])), (a, .inr (2, [.int (iI ((w : Nat) : Int)), .int (iI ((g : Nat) : Int)), .ref b])), (b, .inr (3, [.ref v, .int (iI ((un P : Nat) : Int)), .int (zI false)])), (v, .inl (D.2 2, n, .inr (.inl (wd P)))), (c, .inr (3, [.ref v3, .int (iI ((un S : Nat) : Int)), .int (zI false)])), (v3, .inl (D.2 2, n2, .inr (.inl (wd S)))), (q_1, .inl (D.2 1, 4, .inl (fun x_ => iI ((va_up (va_up (va_up (va_up (fun _ => 0) 0 x1) 1 y1) 2 x2) 3 y2) x_))))] := hD
  refine t_callRS C (met_X1_arePlaces l D E q_1 4 (va_up (va_up (va_up (va_up (fun _ => 0) 0 x1) 1 y1) 2 x2) 3 y2) (by decide) (fun k_ h_ => by rcases (show k_ = 0 ∨ k_ = 1 ∨ k_ = 2 ∨ k_ = 3 by omega) with rfl | rfl | rfl | rfl <;> simp [va_up] <;> omega)) (va_cwS 1 hts (lw_S q1231 q1232 q59 q1233) rfl rfl rfl (by decide +kernel) ⟨Nat.le_of_ble_eq_true rfl, Nat.le_of_ble_eq_true rfl⟩) hK hX hP hD hS hA [6] rfl (by decide) tYb_0 (fun _ _ _ => trivial) rfl hl.1 rfl (Nat.le_of_ble_eq_true rfl) dX1_line_20 ⟨(show 1 ≤ 2 from by omega), (show 4 ≤ 10 from by omega)⟩ ?_
  refine W.eq (g2 := F0 m0 23 ls [.int (zI (plA (va_up (va_up (va_up (va_up (fun _ => 0) 0 x1) 1 y1) 2 x2) 3 y2) 4))]) rfl ?_
  subst hQ
  exact u_callS (wr := [(t, .inr (1, [.ref a, .ref c])), (a, .inr (2, [.int (iI ((w : Nat) : Int)), .int (iI ((g : Nat) : Int)), .ref b])), (b, .inr (3, [.ref v, .int (iI ((un P : Nat) : Int)), .int (zI false)])), (v, .inl (D.2 2, n, .inr (.inl (wd P)))), (c, .inr (3, [.ref v3, .int (iI ((un S : Nat) : Int)), .int (zI false)])), (v3, .inl (D.2 2, n2, .inr (.inl (wd S)))), (q_1, .inl (D.2 1, 4, .inl (fun x_ => iI ((va_up (va_up (va_up (va_up (fun _ => 0) 0 x1) 1 y1) 2 x2) 3 y2) x_))))]) C ht (met_X1_checkArgument_no l hfl D E (plA (va_up (va_up (va_up (va_up (fun _ => 0) 0 x1) 1 y1) 2 x2) 3 y2) 4) (Bool.eq_false_iff.mpr (fun hq_ => hv ⟨by have h9_ := plA_t.mp hq_ 0 (by decide); simpa [va_up] using h9_, by have h9_ := plA_t.mp hq_ 1 (by decide); simpa [va_up] using h9_, by have h9_ := plA_t.mp hq_ 2 (by decide); simpa [va_up] using h9_, by have h9_ := plA_t.mp hq_ 3 (by decide); simpa [va_up] using h9_⟩))) (va_cwS 1 hts (lw_S q1187 q1188 q59 q1189) rfl rfl rfl (by decide +kernel) ⟨Nat.le_of_ble_eq_true rfl, Nat.le_of_ble_eq_true rfl⟩) hK hX hP hD hS hA [] [0, 1, 2, 3, 4, 5, 6] rfl rfl (by decide) (by decide) (by decide) [0, 1, 2, 3, 4, 5] rfl rfl hl.1 rfl (Nat.le_of_ble_eq_true rfl) dX1_line_23 ⟨(show 2 ≤ 2 from by omega), (show 10 ≤ 10 from by omega)⟩ ⟨(show 2 ≤ 2 from by omega), (show 10 ≤ 10 from by omega)⟩
set_option maxHeartbeats 4000000 in
set_option maxRecDepth 100000 in
theorem met_X1_circle_no (l : Launch) (hfl : l.stackTraces = false) (D : TG) (E : TE) (t : Nat) (a : Nat) (b : Nat) (v : Nat) (n : Nat) (w : Nat) (g : Nat) (P : Nat → Bool) (c : Nat) (v3 : Nat) (n2 : Nat) (S : Nat → Bool) (cx : Int) (cy : Int) (r : Int) (z : Bool) (hw : 1 ≤ w ∧ w ≤ 32) (hg : 1 ≤ g ∧ g ≤ 32) (hB : BB P n) (hB2 : BB S n2) (hPz : ∀ j_, w * g ≤ j_ → P j_ = false) (hSz : ∀ j_, w * g ≤ j_ → S j_ = false) (rcx : -2147483648 ≤ cx ∧ cx < 2147483648) (rcy : -2147483648 ≤ cy ∧ cy < 2147483648) (rr : -2147483648 ≤ r ∧ r < 2147483648) (hv : ¬ ((-40 ≤ cx ∧ cx ≤ 72) ∧ (-40 ≤ cy ∧ cy ≤ 72) ∧ (0 ≤ r ∧ r ≤ 40))) : uThr l yX1_circle cX1_circle 6 (some .int) 13 430 (2) (8) [.ref t, .int (iI cx), .int (iI cy), .int (iI r), .int (zI z)] D E [(t, .inr (1, [.ref a, .ref c])), (a, .inr (2, [.int (iI ((w : Nat) : Int)), .int (iI ((g : Nat) : Int)), .ref b])), (b, .inr (3, [.ref v, .int (iI ((un P : Nat) : Int)), .int (zI false)])), (v, .inl (D.2 2, n, .inr (.inl (wd P)))), (c, .inr (3, [.ref v3, .int (iI ((un S : Nat) : Int)), .int (zI false)])), (v3, .inl (D.2 2, n2, .inr (.inl (wd S))))] "java/lang/IllegalArgumentException" := by
  refine uu_thr (by decide +kernel) (Nat.le_of_ble_eq_true rfl) ?_
  intro p0 e0 s0 m0 below meth c0 A ls args Q hag hQ C ht hK hX hP hD hA hAe hl
  obtain ⟨kx, kb, hml, hown, hts, -⟩ := id C
  have hS : va_S A s0.heap s0.heap [] := va_S.rf
  have hl : lv_has ls 6 [(0, .ref t), (1, .int (iI cx)), (2, .int (iI cy)), (3, .int (iI r)), (4, .int (zI z))] := hl
  have hwg := wg_le hw hg
  have hBn := hB.1
  have hBm := hB.2.1
  have hul := un_le hB
  have hul2 := un_le hB2
  refine lv_iconst (v := iI 2) kx kb dX1_circle_0 rfl ?_
  refine ta_newI C (hts _ q1252) hK hP hD hS hA 2 (by omega) ⟨(show 1 ≤ 2 from by omega), (show 2 ≤ 8 from by omega)⟩ dX1_circle_1 (fun q_1 H hP hD hS => ?_)
  have hP : va_P D.1 clAll [(t, .inr (1, [.ref a, .ref c])), (a, .inr (2, [.int (iI ((w : Nat) : Int)), .int (iI ((g : Nat) : Int)), .ref b])), (b, .inr (3, [.ref v, .int (iI ((un P : Nat) : Int)), .int (zI false)])), (v, .inl (D.2 2, n, .inr (.inl (wd P)))), (c, .inr (3, [.ref v3, .int (iI ((un S : Nat) : Int)), .int (zI false)])), (v3, .inl (D.2 2, n2, .inr (.inl (wd S)))), (q_1, .inl (D.2 1, 2, .inl (fun x_ => iI ((fun _ => 0) x_))))] H := hP
  have hD : va_D A [(t, .inr (1, [.ref a, .ref c])), (a, .inr (2, [.int (iI ((w : Nat) : Int)), .int (iI ((g : Nat) : Int)), .ref b])), (b, .inr (3, [.ref v, .int (iI ((un P : Nat) : Int)), .int (zI false)])), (v, .inl (D.2 2, n, .inr (.inl (wd P)))), (c, .inr (3, [.ref v3, .int (iI ((un S : Nat) : Int)), .int (zI false)])), (v3, .inl (D.2 2, n2, .inr (.inl (wd S)))), (q_1, .inl (D.2 1, 2, .inl (fun x_ => iI ((fun _ => 0) x_))))] := hD
  refine lv_dup kx kb dX1_circle_3 rfl ?_
  refine lv_iconst (v := iI 0) kx kb dX1_circle_4 rfl ?_
  refine lv_iload_n kx kb dX1_circle_5 rfl (lv_at hl 1 rfl) ?_
  refine ta_iast C hK hP hD hS 6 rfl 0 (by omega) dX1_circle_6 (fun H locs hP hD hS => ?_)
  have hP : va_P D.1 clAll [(t, .inr (1, [.ref a, .ref c])), (a, .inr (2, [.int (iI ((w : Nat) : Int)), .int (iI ((g : Nat) : Int)), .ref b])), (b, .inr (3, [.ref v, .int (iI ((un P : Nat) : Int)), .int (zI false)])), (v, .inl (D.2 2, n, .inr (.inl (wd P)))), (c, .inr (3, [.ref v3, .int (iI ((un S : Nat) : Int)), .int (zI false)])), (v3, .inl (D.2 2, n2, .inr (.inl (wd S)))), (q_1, .inl (D.2 1, 2, .inl (fun x_ => iI ((va_up (fun _ => 0) 0 cx) x_))))] H := hP
  have hD : va_D A [(t, .inr (1, [.ref a, .ref c])), (a, .inr (2, [.int (iI ((w : Nat) : Int)), .int (iI ((g : Nat) : Int)), .ref b])), (b, .inr (3, [.ref v, .int (iI ((un P : Nat) : Int)), .int (zI false)])), (v, .inl (D.2 2, n, .inr (.inl (wd P)))), (c, .inr (3, [.ref v3, .int (iI ((un S : Nat) : Int)), .int (zI false)])), (v3, .inl (D.2 2, n2, .inr (.inl (wd S)))), (q_1, .inl (D.2 1, 2, .inl (fun x_ => iI ((va_up (fun _ => 0) 0 cx) x_))))] := hD
  refine lv_dup kx kb dX1_circle_7 rfl ?_
  refine lv_iconst (v := iI 1) kx kb dX1_circle_8 rfl ?_
  refine lv_iload_n kx kb dX1_circle_9 rfl (lv_at hl 2 rfl) ?_
  refine ta_iast C hK hP hD hS 6 rfl 1 (by omega) dX1_circle_10 (fun H locs hP hD hS => ?_)
  have hP : va_P D.1 clAll [(t, .inr (1, [.ref a, .ref c])), (a, .inr (2, [.int (iI ((w : Nat) : Int)), .int (iI ((g : Nat) : Int)), .ref b])), (b, .inr (3, [.ref v, .int (iI ((un P : Nat) : Int)), .int (zI false)])), (v, .inl (D.2 2, n, .inr (.inl (wd P)))), (c, .inr (3, [.ref v3, .int (iI ((un S : Nat) : Int)), .int (zI false)])), (v3, .inl (D.2 2, n2, .inr (.inl (wd S)))), (q_1, .inl (D.2 1, 2, .inl (fun x_ => iI ((va_up (va_up (fun _ => 0) 0 cx) 1 cy) x_))))] H := hP
  have hD : va_D A [(t, .inr (1, [.ref a, .ref c])), (a, .inr (2, [.int (iI ((w : Nat) : Int)), .int (iI ((g : Nat) : Int)), .ref b])), (b, .inr (3, [.ref v, .int (iI ((un P : Nat) : Int)), .int (zI false)])), (v, .inl (D.2 2, n, .inr (.inl (wd P)))), (c, .inr (3, [.ref v3, .int (iI ((un S : Nat) : Int)), .int (zI false)])), (v3, .inl (D.2 2, n2, .inr (.inl (wd S)))), (q_1, .inl (D.2 1, 2, .inl (fun x_ => iI ((va_up (va_up (fun _ => 0) 0 cx) 1 cy) x_))))] := hD
  refine t_callRS C (met_X1_arePlaces l D E q_1 2 (va_up (va_up (fun _ => 0) 0 cx) 1 cy) (by decide) (fun k_ h_ => by rcases (show k_ = 0 ∨ k_ = 1 by omega) with rfl | rfl <;> simp [va_up] <;> omega)) (va_cwS 1 hts (lw_S q1231 q1232 q59 q1233) rfl rfl rfl (by decide +kernel) ⟨Nat.le_of_ble_eq_true rfl, Nat.le_of_ble_eq_true rfl⟩) hK hX hP hD hS hA [6] rfl (by decide) tYb_0 (fun _ _ _ => trivial) rfl hl.1 rfl (Nat.le_of_ble_eq_true rfl) dX1_circle_11 ⟨(show 1 ≤ 2 from by omega), (show 2 ≤ 8 from by omega)⟩ ?_
  refine W.eq (g2 := F0 m0 14 ls [.int (zI (plA (va_up (va_up (fun _ => 0) 0 cx) 1 cy) 2))]) rfl ?_
  refine tz_if_eq (tgt := 31) kx kb dX1_circle_14 (by decide) (fun h14 => ?_) (fun h14 => ?_)
  · refine lv_iconst (v := iI 0) kx kb dX1_circle_31 rfl ?_
    subst hQ
    exact u_callS (wr := [(t, .inr (1, [.ref a, .ref c])), (a, .inr (2, [.int (iI ((w : Nat) : Int)), .int (iI ((g : Nat) : Int)), .ref b])), (b, .inr (3, [.ref v, .int (iI ((un P : Nat) : Int)), .int (zI false)])), (v, .inl (D.2 2, n, .inr (.inl (wd P)))), (c, .inr (3, [.ref v3, .int (iI ((un S : Nat) : Int)), .int (zI false)])), (v3, .inl (D.2 2, n2, .inr (.inl (wd S)))), (q_1, .inl (D.2 1, 2, .inl (fun x_ => iI ((va_up (va_up (fun _ => 0) 0 cx) 1 cy) x_))))]) C ht (met_X1_checkArgument_no l hfl D E false (rfl)) (va_cwS 1 hts (lw_S q1187 q1188 q59 q1189) rfl rfl rfl (by decide +kernel) ⟨Nat.le_of_ble_eq_true rfl, Nat.le_of_ble_eq_true rfl⟩) hK hX hP hD hS hA [] [0, 1, 2, 3, 4, 5, 6] rfl rfl (by decide) (by decide) (by decide) [0, 1, 2, 3, 4, 5] rfl rfl hl.1 rfl (Nat.le_of_ble_eq_true rfl) dX1_circle_32 ⟨(show 2 ≤ 2 from by omega), (show 8 ≤ 8 from by omega)⟩ ⟨(show 2 ≤ 2 from by omega), (show 8 ≤ 8 from by omega)⟩
  · refine lv_iconst (v := iI 0) kx kb dX1_circle_17 rfl ?_
    refine lv_bipush (v := iI 40) kx kb dX1_circle_18 rfl ?_
    refine lv_iload_n kx kb dX1_circle_20 rfl (lv_at hl 3 rfl) ?_
    refine t_callRS C (met_X1_isIn l D E 0 40 r (by first | assumption | omega)) (va_cwS 3 hts (lw_S q690 q617 q59 q618) rfl rfl rfl (by decide +kernel) ⟨Nat.le_of_ble_eq_true rfl, Nat.le_of_ble_eq_true rfl⟩) hK hX hP hD hS hA [] rfl (by decide) tYb_0 (fun _ _ _ => trivial) rfl hl.1 rfl (Nat.le_of_ble_eq_true rfl) dX1_circle_21 ⟨(show 1 ≤ 2 from by omega), (show 2 ≤ 8 from by omega)⟩ ?_
    refine W.eq (g2 := F0 m0 24 ls [.int (zI (decide (0 ≤ r ∧ r ≤ 40)))]) rfl ?_
    refine tz_if_eq (tgt := 31) kx kb dX1_circle_24 (by decide) (fun h24 => ?_) (fun h24 => ?_)
    · simp only [decide_eq_true_eq, decide_eq_false_iff_not] at h24
      refine lv_iconst (v := iI 0) kx kb dX1_circle_31 rfl ?_
      subst hQ
      exact u_callS (wr := [(t, .inr (1, [.ref a, .ref c])), (a, .inr (2, [.int (iI ((w : Nat) : Int)), .int (iI ((g : Nat) : Int)), .ref b])), (b, .inr (3, [.ref v, .int (iI ((un P : Nat) : Int)), .int (zI false)])), (v, .inl (D.2 2, n, .inr (.inl (wd P)))), (c, .inr (3, [.ref v3, .int (iI ((un S : Nat) : Int)), .int (zI false)])), (v3, .inl (D.2 2, n2, .inr (.inl (wd S)))), (q_1, .inl (D.2 1, 2, .inl (fun x_ => iI ((va_up (va_up (fun _ => 0) 0 cx) 1 cy) x_))))]) C ht (met_X1_checkArgument_no l hfl D E false (rfl)) (va_cwS 1 hts (lw_S q1187 q1188 q59 q1189) rfl rfl rfl (by decide +kernel) ⟨Nat.le_of_ble_eq_true rfl, Nat.le_of_ble_eq_true rfl⟩) hK hX hP hD hS hA [] [0, 1, 2, 3, 4, 5, 6] rfl rfl (by decide) (by decide) (by decide) [0, 1, 2, 3, 4, 5] rfl rfl hl.1 rfl (Nat.le_of_ble_eq_true rfl) dX1_circle_32 ⟨(show 2 ≤ 2 from by omega), (show 8 ≤ 8 from by omega)⟩ ⟨(show 2 ≤ 2 from by omega), (show 8 ≤ 8 from by omega)⟩
    · simp only [decide_eq_true_eq] at h24; exact (hv ⟨by have h9_ := plA_t.mp h14 0 (by decide); simpa [va_up] using h9_, by have h9_ := plA_t.mp h14 1 (by decide); simpa [va_up] using h9_, h24⟩).elim
set_option maxHeartbeats 4000000 in
set_option maxRecDepth 100000 in
theorem met_X1_join_no (l : Launch) (hfl : l.stackTraces = false) (D : TG) (E : TE) (t : Nat) (a : Nat) (b : Nat) (v : Nat) (n : Nat) (w : Nat) (g : Nat) (P : Nat → Bool) (c : Nat) (v3 : Nat) (n2 : Nat) (S : Nat → Bool) (y : Int) (hw : 1 ≤ w ∧ w ≤ 32) (hg : 1 ≤ g ∧ g ≤ 32) (hB : BB P n) (hB2 : BB S n2) (hPz : ∀ j_, w * g ≤ j_ → P j_ = false) (hSz : ∀ j_, w * g ≤ j_ → S j_ = false) (ry : -2147483648 ≤ y ∧ y < 2147483648) (hv : ¬ (0 ≤ y ∧ y ≤ 3)) : uThr l yX1_join cX1_join 2 (some .int) 9 140 (1) (6) [.ref t, .int (iI y)] D E [(t, .inr (1, [.ref a, .ref c])), (a, .inr (2, [.int (iI ((w : Nat) : Int)), .int (iI ((g : Nat) : Int)), .ref b])), (b, .inr (3, [.ref v, .int (iI ((un P : Nat) : Int)), .int (zI false)])), (v, .inl (D.2 2, n, .inr (.inl (wd P)))), (c, .inr (3, [.ref v3, .int (iI ((un S : Nat) : Int)), .int (zI false)])), (v3, .inl (D.2 2, n2, .inr (.inl (wd S))))] "java/lang/IllegalArgumentException" := by
  refine uu_thr (by decide +kernel) (Nat.le_of_ble_eq_true rfl) ?_
  intro p0 e0 s0 m0 below meth c0 A ls args Q hag hQ C ht hK hX hP hD hA hAe hl
  obtain ⟨kx, kb, hml, hown, hts, -⟩ := id C
  have hS : va_S A s0.heap s0.heap [] := va_S.rf
  have hl : lv_has ls 2 [(0, .ref t), (1, .int (iI y))] := hl
  have hwg := wg_le hw hg
  have hBn := hB.1
  have hBm := hB.2.1
  have hul := un_le hB
  have hul2 := un_le hB2
  refine lv_iconst (v := iI 0) kx kb dX1_join_0 rfl ?_
  refine lv_iconst (v := iI 3) kx kb dX1_join_1 rfl ?_
  refine lv_iload_n kx kb dX1_join_2 rfl (lv_at hl 1 rfl) ?_
  refine t_callRS C (met_X1_isIn l D E 0 3 y (by first | assumption | omega)) (va_cwS 3 hts (lw_S q690 q617 q59 q618) rfl rfl rfl (by decide +kernel) ⟨Nat.le_of_ble_eq_true rfl, Nat.le_of_ble_eq_true rfl⟩) hK hX hP hD hS hA [] rfl (by decide) tYb_0 (fun _ _ _ => trivial) rfl hl.1 rfl (Nat.le_of_ble_eq_true rfl) dX1_join_3 ⟨(show 0 ≤ 1 from by omega), (show 0 ≤ 6 from by omega)⟩ ?_
  refine W.eq (g2 := F0 m0 6 ls [.int (zI (decide (0 ≤ y ∧ y ≤ 3)))]) rfl ?_
  subst hQ
  exact u_callS (wr := [(t, .inr (1, [.ref a, .ref c])), (a, .inr (2, [.int (iI ((w : Nat) : Int)), .int (iI ((g : Nat) : Int)), .ref b])), (b, .inr (3, [.ref v, .int (iI ((un P : Nat) : Int)), .int (zI false)])), (v, .inl (D.2 2, n, .inr (.inl (wd P)))), (c, .inr (3, [.ref v3, .int (iI ((un S : Nat) : Int)), .int (zI false)])), (v3, .inl (D.2 2, n2, .inr (.inl (wd S))))]) C ht (met_X1_checkArgument_no l hfl D E (decide (0 ≤ y ∧ y ≤ 3)) (decide_eq_false (by omega))) (va_cwS 1 hts (lw_S q1187 q1188 q59 q1189) rfl rfl rfl (by decide +kernel) ⟨Nat.le_of_ble_eq_true rfl, Nat.le_of_ble_eq_true rfl⟩) hK hX hP hD hS hA [] [0, 1, 2, 3, 4, 5] rfl rfl (by decide) (by decide) (by decide) [0, 1, 2, 3, 4, 5] rfl rfl hl.1 rfl (Nat.le_of_ble_eq_true rfl) dX1_join_6 ⟨(show 1 ≤ 1 from by omega), (show 6 ≤ 6 from by omega)⟩ ⟨(show 1 ≤ 1 from by omega), (show 6 ≤ 6 from by omega)⟩
set_option maxHeartbeats 4000000 in
set_option maxRecDepth 100000 in
theorem met_X1_runAt_n1 (l : Launch) (hfl : l.stackTraces = false) (D : TG) (E : TE) (t : Nat) (a : Nat) (b : Nat) (v : Nat) (n : Nat) (w : Nat) (g : Nat) (P : Nat → Bool) (c : Nat) (v3 : Nat) (n2 : Nat) (S : Nat → Bool) (y : Int) (k : Int) (hw : 1 ≤ w ∧ w ≤ 32) (hg : 1 ≤ g ∧ g ≤ 32) (hB : BB P n) (hB2 : BB S n2) (hPz : ∀ j_, w * g ≤ j_ → P j_ = false) (hSz : ∀ j_, w * g ≤ j_ → S j_ = false) (ry : -2147483648 ≤ y ∧ y < 2147483648) (rk : -2147483648 ≤ k ∧ k < 2147483648) (hv : ¬ (0 ≤ y ∧ y < g)) : uThr l yX1_runAt cX1_runAt 5 (some .int) 10 161 (1) (6) [.ref t, .int (iI y), .int (iI k)] D E [(t, .inr (1, [.ref a, .ref c])), (a, .inr (2, [.int (iI ((w : Nat) : Int)), .int (iI ((g : Nat) : Int)), .ref b])), (b, .inr (3, [.ref v, .int (iI ((un P : Nat) : Int)), .int (zI false)])), (v, .inl (D.2 2, n, .inr (.inl (wd P)))), (c, .inr (3, [.ref v3, .int (iI ((un S : Nat) : Int)), .int (zI false)])), (v3, .inl (D.2 2, n2, .inr (.inl (wd S))))] "java/lang/IndexOutOfBoundsException" := by
  refine uu_thr (by decide +kernel) (Nat.le_of_ble_eq_true rfl) ?_
  intro p0 e0 s0 m0 below meth c0 A ls args Q hag hQ C ht hK hX hP hD hA hAe hl
  obtain ⟨kx, kb, hml, hown, hts, -⟩ := id C
  have hS : va_S A s0.heap s0.heap [] := va_S.rf
  have hl : lv_has ls 5 [(0, .ref t), (1, .int (iI y)), (2, .int (iI k))] := hl
  have hwg := wg_le hw hg
  have hBn := hB.1
  have hBm := hB.2.1
  have hul := un_le hB
  have hul2 := un_le hB2
  refine lv_aload_n kx kb dX1_runAt_0 rfl (lv_at hl 0 rfl) ?_
  refine va_get (D := D.1) (ci := 1) (v := .ref a) (C := RX1) (T := TX1) (N := 2) kx kb hts in_X1 hown hK hP 0 rfl rfl 0 (by decide) (hts _ q152) (fun _ h9 => h9) rfl dX1_runAt_1 ?_
  refine lv_aload_n kx kb dX1_runAt_4 rfl (lv_at hl 0 rfl) ?_
  refine lv_iload_n kx kb dX1_runAt_5 rfl (lv_at hl 1 rfl) ?_
  subst hQ
  exact u_callV (wr := []) C ht (met_X1_checkedRow_no l hfl D E t a b v n w g P c v3 n2 S y (by first | assumption | omega) (by first | assumption | omega) (by first | assumption | omega) (by first | assumption | omega) (by first | assumption | omega) (by first | assumption | omega) (by first | assumption | omega) (hv)) (cwV 1 hts (lw_V q686 q688 qs9 q59 q689) rfl rfl rfl (by decide +kernel) ⟨Nat.le_of_ble_eq_true rfl, Nat.le_of_ble_eq_true rfl⟩) (va_recv hK hP (ci := 1) (q0 := 0) rfl rfl) hK hX hP hD hS hA [0, 1, 2, 3, 4, 5] [] rfl rfl (by decide) (by decide) (by decide) [0, 1, 2, 3, 4, 5] rfl rfl hl.1 rfl (Nat.le_of_ble_eq_true rfl) dX1_runAt_6 ⟨(show 1 ≤ 1 from by omega), (show 6 ≤ 6 from by omega)⟩ ⟨(show 1 ≤ 1 from by omega), (show 6 ≤ 6 from by omega)⟩
set_option maxHeartbeats 4000000 in
set_option maxRecDepth 100000 in
theorem met_X1_runAt_n2 (l : Launch) (hfl : l.stackTraces = false) (D : TG) (E : TE) (t : Nat) (a : Nat) (b : Nat) (v : Nat) (n : Nat) (w : Nat) (g : Nat) (P : Nat → Bool) (c : Nat) (v3 : Nat) (n2 : Nat) (S : Nat → Bool) (y : Int) (k : Int) (hw : 1 ≤ w ∧ w ≤ 32) (hg : 1 ≤ g ∧ g ≤ 32) (hB : BB P n) (hB2 : BB S n2) (hPz : ∀ j_, w * g ≤ j_ → P j_ = false) (hSz : ∀ j_, w * g ≤ j_ → S j_ = false) (hv : 0 ≤ y ∧ y < g) (rk : -2147483648 ≤ k ∧ k < 2147483648) (hk : ¬ (0 ≤ k ∧ k < rnO w g P y)) : uThr l yX1_runAt cX1_runAt 5 (some .int) 9 143 (66) (170) [.ref t, .int (iI y), .int (iI k)] D E [(t, .inr (1, [.ref a, .ref c])), (a, .inr (2, [.int (iI ((w : Nat) : Int)), .int (iI ((g : Nat) : Int)), .ref b])), (b, .inr (3, [.ref v, .int (iI ((un P : Nat) : Int)), .int (zI false)])), (v, .inl (D.2 2, n, .inr (.inl (wd P)))), (c, .inr (3, [.ref v3, .int (iI ((un S : Nat) : Int)), .int (zI false)])), (v3, .inl (D.2 2, n2, .inr (.inl (wd S))))] "java/util/NoSuchElementException" := by
  refine uu_thr (by decide +kernel) (Nat.le_of_ble_eq_true rfl) ?_
  intro p0 e0 s0 m0 below meth c0 A ls args Q hag hQ C ht hK hX hP hD hA hAe hl
  obtain ⟨kx, kb, hml, hown, hts, -⟩ := id C
  have hS : va_S A s0.heap s0.heap [] := va_S.rf
  have hl : lv_has ls 5 [(0, .ref t), (1, .int (iI y)), (2, .int (iI k))] := hl
  have hwg := wg_le hw hg
  have hBn := hB.1
  have hBm := hB.2.1
  have hul := un_le hB
  have hul2 := un_le hB2
  have hrl := rnO_le w g P y
  refine lv_aload_n kx kb dX1_runAt_0 rfl (lv_at hl 0 rfl) ?_
  refine va_get (D := D.1) (ci := 1) (v := .ref a) (C := RX1) (T := TX1) (N := 2) kx kb hts in_X1 hown hK hP 0 rfl rfl 0 (by decide) (hts _ q152) (fun _ h9 => h9) rfl dX1_runAt_1 ?_
  refine lv_aload_n kx kb dX1_runAt_4 rfl (lv_at hl 0 rfl) ?_
  refine lv_iload_n kx kb dX1_runAt_5 rfl (lv_at hl 1 rfl) ?_
  refine t_callRV C (met_X1_checkedRow_ok l D E t a b v n w g P c v3 n2 S y (by first | assumption | omega) (by first | assumption | omega) (by first | assumption | omega) (by first | assumption | omega) (by first | assumption | omega) (by first | assumption | omega) (by first | assumption | omega)) (cwV 1 hts (lw_V q686 q688 qs9 q59 q689) rfl rfl rfl (by decide +kernel) ⟨Nat.le_of_ble_eq_true rfl, Nat.le_of_ble_eq_true rfl⟩) (va_recv hK hP (ci := 1) (q0 := 0) rfl rfl) hK hX hP hD hS hA [0, 1, 2, 3, 4, 5] rfl (by decide) tYb_0 (fun _ _ _ => trivial) rfl hl.1 rfl (Nat.le_of_ble_eq_true rfl) dX1_runAt_6 ⟨(show 0 ≤ 66 from by omega), (show 0 ≤ 170 from by omega)⟩ ?_
  refine W.eq (g2 := F0 m0 9 ls [.int (iI y), .ref a]) rfl ?_
  refine t_callV (wr := [(t, .inr (1, [.ref a, .ref c])), (c, .inr (3, [.ref v3, .int (iI ((un S : Nat) : Int)), .int (zI false)])), (v3, .inl (D.2 2, n2, .inr (.inl (wd S))))]) C (met_X2_runs l D E a b v n w g P y (by first | assumption | omega) (by first | assumption | omega) (by first | assumption | omega) (by first | assumption | omega)) (cwV 1 hts (lw_V q705 q706 q707 q60 q708) rfl rfl rfl (by decide +kernel) ⟨Nat.le_of_ble_eq_true rfl, Nat.le_of_ble_eq_true rfl⟩) (va_recv hK hP (ci := 2) (q0 := 1) rfl rfl) hK hX hP hD hS hA [1, 2, 3] [0, 4, 5] rfl rfl (by decide) (by decide) (by decide) tYb_0 (fun _ _ _ => trivial) rfl hl.1 rfl (Nat.le_of_ble_eq_true rfl) dX1_runAt_9 ⟨(show 65 ≤ 66 from by omega), (show 164 ≤ 170 from by omega)⟩ (fun u_ H locs hp hP hD hS => ?_)
  obtain ⟨ll_1, mq_2, L_3⟩ := u_
  have hc9_1 : llI (rowP w g P y) w L_3 := hp
  have hP : va_P D.1 clAll ([(t, .inr (1, [.ref a, .ref c])), (c, .inr (3, [.ref v3, .int (iI ((un S : Nat) : Int)), .int (zI false)])), (v3, .inl (D.2 2, n2, .inr (.inl (wd S)))), (a, .inr (2, [.int (iI ((w : Nat) : Int)), .int (iI ((g : Nat) : Int)), .ref b])), (b, .inr (3, [.ref v, .int (iI ((un P : Nat) : Int)), .int (zI false)])), (v, .inl (D.2 2, n, .inr (.inl (wd P)))), (ll_1, .inr (6, [.int (iI mq_2), .int (iI ((L_3.length : Nat) : Int)), va_rf (llF L_3), va_rf (llH L_3)]))] ++ (llW none L_3)) H := hP
  have hD : va_D A ([(t, .inr (1, [.ref a, .ref c])), (c, .inr (3, [.ref v3, .int (iI ((un S : Nat) : Int)), .int (zI false)])), (v3, .inl (D.2 2, n2, .inr (.inl (wd S)))), (a, .inr (2, [.int (iI ((w : Nat) : Int)), .int (iI ((g : Nat) : Int)), .ref b])), (b, .inr (3, [.ref v, .int (iI ((un P : Nat) : Int)), .int (zI false)])), (v, .inl (D.2 2, n, .inr (.inl (wd P)))), (ll_1, .inr (6, [.int (iI mq_2), .int (iI ((L_3.length : Nat) : Int)), va_rf (llF L_3), va_rf (llH L_3)]))] ++ (llW none L_3)) := hD
  refine W.eq (g2 := F0 m0 12 ls [.ref ll_1]) rfl ?_
  refine W.widen (k := 65) (n := 164) (Nat.le_refl _) (Nat.le_refl _) ?_
  have hLk : L_3.length = rnO w g P y := by rw [hc9_1.1, show rnO w g P y = fb_ct (rfst (rowP w g P y)) w from rnO_r w g P y w]
  refine lv_astore_n (lv' := [(3, .ref ll_1), (0, .ref t), (1, .int (iI y)), (2, .int (iI k))]) kx kb dX1_runAt_12 rfl hl (by decide) rfl (fun ls hl => ?_)
  refine lv_iconst (v := iI 0) kx kb dX1_runAt_13 rfl ?_
  refine lv_aload_n kx kb dX1_runAt_14 rfl (lv_at hl 0 rfl) ?_
  refine t_callRV C (met_J24_size l D E ll_1 mq_2 ((L_3.length : Nat) : Int) (llF L_3) (llH L_3)) (cwV 0 hts (lw_V q806 q807 q808 q90 q809) rfl rfl rfl (by decide +kernel) ⟨Nat.le_of_ble_eq_true rfl, Nat.le_of_ble_eq_true rfl⟩) (va_recv hK hP (ci := 6) (q0 := 6) rfl rfl) hK hX hP hD hS hA [6] (pl_F (fx := [(t, .inr (1, [.ref a, .ref c])), (c, .inr (3, [.ref v3, .int (iI ((un S : Nat) : Int)), .int (zI false)])), (v3, .inl (D.2 2, n2, .inr (.inl (wd S)))), (a, .inr (2, [.int (iI ((w : Nat) : Int)), .int (iI ((g : Nat) : Int)), .ref b])), (b, .inr (3, [.ref v, .int (iI ((un P : Nat) : Int)), .int (zI false)])), (v, .inl (D.2 2, n, .inr (.inl (wd P)))), (ll_1, .inr (6, [.int (iI mq_2), .int (iI ((L_3.length : Nat) : Int)), va_rf (llF L_3), va_rf (llH L_3)]))]) (pool := llW none L_3) rfl) (by decide) tYb_0 (fun _ _ _ => trivial) rfl hl.1 rfl (Nat.le_of_ble_eq_true rfl) dX1_runAt_15 ⟨(show 65 ≤ 66 from by omega), (show 164 ≤ 170 from by omega)⟩ ?_
  refine W.eq (g2 := F0 m0 18 ls [.int (iI ((L_3.length : Nat) : Int)), .int (iI 0)]) rfl ?_
  refine lv_iconst (v := iI 1) kx kb dX1_runAt_18 rfl ?_
  refine ti_isub kx kb dX1_runAt_19 ?_
  refine lv_iload_n kx kb dX1_runAt_20 rfl (lv_at hl 3 rfl) ?_
  refine t_callRS C (met_X1_isIn l D E 0 (((L_3.length : Nat) : Int) - 1) k (by first | assumption | omega)) (va_cwS 3 hts (lw_S q690 q617 q59 q618) rfl rfl rfl (by decide +kernel) ⟨Nat.le_of_ble_eq_true rfl, Nat.le_of_ble_eq_true rfl⟩) hK hX hP hD hS hA [] (pl_F (fx := [(t, .inr (1, [.ref a, .ref c])), (c, .inr (3, [.ref v3, .int (iI ((un S : Nat) : Int)), .int (zI false)])), (v3, .inl (D.2 2, n2, .inr (.inl (wd S)))), (a, .inr (2, [.int (iI ((w : Nat) : Int)), .int (iI ((g : Nat) : Int)), .ref b])), (b, .inr (3, [.ref v, .int (iI ((un P : Nat) : Int)), .int (zI false)])), (v, .inl (D.2 2, n, .inr (.inl (wd P)))), (ll_1, .inr (6, [.int (iI mq_2), .int (iI ((L_3.length : Nat) : Int)), va_rf (llF L_3), va_rf (llH L_3)]))]) (pool := llW none L_3) rfl) (by decide) tYb_0 (fun _ _ _ => trivial) rfl hl.1 rfl (Nat.le_of_ble_eq_true rfl) dX1_runAt_21 ⟨(show 65 ≤ 66 from by omega), (show 164 ≤ 170 from by omega)⟩ ?_
  refine W.eq (g2 := F0 m0 24 ls [.int (zI (decide (0 ≤ k ∧ k ≤ (((L_3.length : Nat) : Int) - 1))))]) rfl ?_
  subst hQ
  exact u_callS (wr := [(t, .inr (1, [.ref a, .ref c])), (c, .inr (3, [.ref v3, .int (iI ((un S : Nat) : Int)), .int (zI false)])), (v3, .inl (D.2 2, n2, .inr (.inl (wd S)))), (a, .inr (2, [.int (iI ((w : Nat) : Int)), .int (iI ((g : Nat) : Int)), .ref b])), (b, .inr (3, [.ref v, .int (iI ((un P : Nat) : Int)), .int (zI false)])), (v, .inl (D.2 2, n, .inr (.inl (wd P)))), (ll_1, .inr (6, [.int (iI mq_2), .int (iI ((L_3.length : Nat) : Int)), va_rf (llF L_3), va_rf (llH L_3)]))]) C ht (met_X1_checkElement_no l hfl D E (decide (0 ≤ k ∧ k ≤ (((L_3.length : Nat) : Int) - 1))) (decide_eq_false (by omega))) (va_cwS 1 hts (lw_S q1339 q1340 q59 q1341) rfl rfl rfl (by decide +kernel) ⟨Nat.le_of_ble_eq_true rfl, Nat.le_of_ble_eq_true rfl⟩) hK hX hP hD hS hA [] [0, 1, 2, 3, 4, 5, 6] rfl rfl (by decide) (by decide) (by decide) [0, 3, 4, 5, 1, 2] rfl rfl hl.1 rfl (Nat.le_of_ble_eq_true rfl) dX1_runAt_24 ⟨(show 66 ≤ 66 from by omega), (show 170 ≤ 170 from by omega)⟩ ⟨(show 66 ≤ 66 from by omega), (show 170 ≤ 170 from by omega)⟩
