set_option maxRecDepth 100000
set_option maxHeartbeats 4000000 in
set_option maxRecDepth 100000 in
theorem met_X1_isIn (l : Launch) (D : TG) (E : TE) (lo : Int) (hi : Int) (z : Int) (hr : -2147483648 ≤ lo ∧ lo < 2147483648 ∧ -2147483648 ≤ hi ∧ hi < 2147483648 ∧ -2147483648 ≤ z ∧ z < 2147483648) : tRd l yX1_isIn cX1_isIn 3 (some .boolean) 0 0 [.int (iI lo), .int (iI hi), .int (iI z)] D E [] tY0 (some (.int (zI (decide (lo ≤ z ∧ z ≤ hi))))) := by
  refine tu_rd (by decide +kernel) (Nat.le_of_ble_eq_true rfl) ?_
  intro p0 e0 s0 m0 below meth c0 A ls args Q hag hQ C hK hX hY hP hD hA hAe hl
  obtain ⟨kx, kb, hml, hown, hts, -⟩ := id C
  have hS : va_S A s0.heap s0.heap [] := va_S.rf
  have hl : lv_has ls 3 [(0, .int (iI lo)), (1, .int (iI hi)), (2, .int (iI z))] := hl
  refine lv_iload_n kx kb dX1_isIn_0 rfl (lv_at hl 0 rfl) ?_
  refine lv_iload_n kx kb dX1_isIn_1 rfl (lv_at hl 2 rfl) ?_
  refine ti_icmp_gt (tgt := 14) kx kb (by omega) dX1_isIn_2 (by decide) (fun h2 => ?_) (fun h2 => ?_)
  · refine lv_iconst (v := iI 0) kx kb dX1_isIn_14 rfl ?_
    refine W.eq (g2 := F0 m0 15 ls [.int (zI false)]) rfl ?_
    subst hQ
    exact tr_zret C rfl (by first | rw [decide_eq_true (p := lo ≤ z ∧ z ≤ hi) (by omega)] | rw [decide_eq_false (p := lo ≤ z ∧ z ≤ hi) (by omega)]) dX1_isIn_15
  · refine lv_iload_n kx kb dX1_isIn_5 rfl (lv_at hl 2 rfl) ?_
    refine lv_iload_n kx kb dX1_isIn_6 rfl (lv_at hl 1 rfl) ?_
    refine ti_icmp_gt (tgt := 14) kx kb (by omega) dX1_isIn_7 (by decide) (fun h7 => ?_) (fun h7 => ?_)
    · refine lv_iconst (v := iI 0) kx kb dX1_isIn_14 rfl ?_
      refine W.eq (g2 := F0 m0 15 ls [.int (zI false)]) rfl ?_
      subst hQ
      exact tr_zret C rfl (by first | rw [decide_eq_true (p := lo ≤ z ∧ z ≤ hi) (by omega)] | rw [decide_eq_false (p := lo ≤ z ∧ z ≤ hi) (by omega)]) dX1_isIn_15
    · refine lv_iconst (v := iI 1) kx kb dX1_isIn_10 rfl ?_
      refine lv_goto (tgt := 15) kx kb dX1_isIn_11 (by decide) ?_
      refine W.eq (g2 := F0 m0 15 ls [.int (zI true)]) rfl ?_
      subst hQ
      exact tr_zret C rfl (by first | rw [decide_eq_true (p := lo ≤ z ∧ z ≤ hi) (by omega)] | rw [decide_eq_false (p := lo ≤ z ∧ z ≤ hi) (by omega)]) dX1_isIn_15
set_option maxHeartbeats 4000000 in
set_option maxRecDepth 100000 in
theorem met_X1_right (l : Launch) (D : TG) (E : TE) (k : Int) (hk : 0 ≤ k ∧ k < 8) : tRd l yX1_right cX1_right 1 (some .int) 0 0 [.int (iI k)] D E [] tY0 (some (.int (iI (sX k)))) := by
  refine tu_rd (by decide +kernel) (Nat.le_of_ble_eq_true rfl) ?_
  intro p0 e0 s0 m0 below meth c0 A ls args Q hag hQ C hK hX hY hP hD hA hAe hl
  obtain ⟨kx, kb, hml, hown, hts, -⟩ := id C
  have hS : va_S A s0.heap s0.heap [] := va_S.rf
  have hl : lv_has ls 1 [(0, .int (iI k))] := hl
  refine lv_iload_n kx kb dX1_right_0 rfl (lv_at hl 0 rfl) ?_
  refine lv_iconst (v := iI 4) kx kb dX1_right_1 rfl ?_
  refine ti_irem kx kb (by omega) dX1_right_2 ?_
  refine ti_if_ne (tgt := 10) kx kb (by omega) dX1_right_3 (by decide) (fun h3 => ?_) (fun h3 => ?_)
  · refine lv_iload_n kx kb dX1_right_10 rfl (lv_at hl 0 rfl) ?_
    refine lv_iconst (v := iI 4) kx kb dX1_right_11 rfl ?_
    refine ti_icmp_ge (tgt := 19) kx kb (by omega) dX1_right_12 (by decide) (fun h12 => ?_) (fun h12 => ?_)
    · refine lv_iconst (v := iI (-1)) kx kb dX1_right_19 rfl ?_
      subst hQ
      exact tr_iret C rfl (by simp only [sX]; first | rw [if_pos (by omega)] | rw [if_neg (by omega), if_pos (by omega)] | rw [if_neg (by omega), if_neg (by omega)]) dX1_right_20
    · refine lv_iconst (v := iI 1) kx kb dX1_right_15 rfl ?_
      refine lv_goto (tgt := 20) kx kb dX1_right_16 (by decide) ?_
      subst hQ
      exact tr_iret C rfl (by simp only [sX]; first | rw [if_pos (by omega)] | rw [if_neg (by omega), if_pos (by omega)] | rw [if_neg (by omega), if_neg (by omega)]) dX1_right_20
  · refine lv_iconst (v := iI 0) kx kb dX1_right_6 rfl ?_
    refine lv_goto (tgt := 20) kx kb dX1_right_7 (by decide) ?_
    subst hQ
    exact tr_iret C rfl (by simp only [sX]; first | rw [if_pos (by omega)] | rw [if_neg (by omega), if_pos (by omega)] | rw [if_neg (by omega), if_neg (by omega)]) dX1_right_20
set_option maxHeartbeats 4000000 in
set_option maxRecDepth 100000 in
theorem met_X1_down (l : Launch) (D : TG) (E : TE) (k : Int) (hk : 0 ≤ k ∧ k < 8) : tRd l yX1_down cX1_down 1 (some .int) 1 20 [.int (iI k)] D E [] tY0 (some (.int (iI (sY k)))) := by
  refine tu_rd (by decide +kernel) (Nat.le_of_ble_eq_true rfl) ?_
  intro p0 e0 s0 m0 below meth c0 A ls args Q hag hQ C hK hX hY hP hD hA hAe hl
  obtain ⟨kx, kb, hml, hown, hts, -⟩ := id C
  have hS : va_S A s0.heap s0.heap [] := va_S.rf
  have hl : lv_has ls 1 [(0, .int (iI k))] := hl
  refine lv_iload_n kx kb dX1_down_0 rfl (lv_at hl 0 rfl) ?_
  refine lv_bipush (v := iI 6) kx kb dX1_down_1 rfl ?_
  refine ti_iadd kx kb dX1_down_3 ?_
  refine lv_bipush (v := iI 8) kx kb dX1_down_4 rfl ?_
  refine ti_irem kx kb (by omega) dX1_down_6 ?_
  refine t_callRS C (met_X1_right l D E ((k + 6) % 8) (by first | assumption | omega)) (va_cwS 1 hts (lw_S q607 q602 q59 q603) rfl rfl rfl (by decide +kernel) ⟨Nat.le_of_ble_eq_true rfl, Nat.le_of_ble_eq_true rfl⟩) hK hX hP hD hS hA [] rfl (by decide) tYb_0 (fun _ _ _ => trivial) rfl hl.1 rfl (Nat.le_of_ble_eq_true rfl) dX1_down_7 ⟨(show 0 ≤ 0 from by omega), (show 0 ≤ 0 from by omega)⟩ ?_
  refine W.eq (g2 := F0 m0 10 ls [.int (iI (sX ((k + 6) % 8)))]) rfl ?_
  subst hQ
  exact tr_iret C rfl (by rw [show sX ((k + 6) % 8) = sY k from by (rcases (show k = 0 ∨ k = 1 ∨ k = 2 ∨ k = 3 ∨ k = 4 ∨ k = 5 ∨ k = 6 ∨ k = 7 by omega) with rfl | rfl | rfl | rfl | rfl | rfl | rfl | rfl <;> decide)]) dX1_down_10
set_option maxHeartbeats 4000000 in
set_option maxRecDepth 100000 in
theorem met_X2_cells (l : Launch) (D : TG) (E : TE) (a : Nat) (b : Nat) (w : Nat) (g : Nat) (hw : 1 ≤ w ∧ w ≤ 32) (hg : 1 ≤ g ∧ g ≤ 32) : tRd l yX2_cells cX2_cells 1 (some .int) 0 0 [.ref a] D E [(a, .inr (2, [.int (iI ((w : Nat) : Int)), .int (iI ((g : Nat) : Int)), .ref b]))] tY0 (some (.int (iI ((w * g : Nat) : Int)))) := by
  refine tu_rd (by decide +kernel) (Nat.le_of_ble_eq_true rfl) ?_
  intro p0 e0 s0 m0 below meth c0 A ls args Q hag hQ C hK hX hY hP hD hA hAe hl
  obtain ⟨kx, kb, hml, hown, hts, -⟩ := id C
  have hS : va_S A s0.heap s0.heap [] := va_S.rf
  have hl : lv_has ls 1 [(0, .ref a)] := hl
  have hwg := wg_le hw hg
  refine lv_aload_n kx kb dX2_cells_0 rfl (lv_at hl 0 rfl) ?_
  refine va_get (D := D.1) (ci := 2) (v := .int (iI ((w : Nat) : Int))) (C := RX2) (T := TX2) (N := 3) kx kb hts in_X2 hown hK hP 0 rfl rfl 0 (by decide) (hts _ q137) (fun _ h9 => h9) rfl dX2_cells_1 ?_
  refine lv_aload_n kx kb dX2_cells_4 rfl (lv_at hl 0 rfl) ?_
  refine va_get (D := D.1) (ci := 2) (v := .int (iI ((g : Nat) : Int))) (C := RX2) (T := TX2) (N := 3) kx kb hts in_X2 hown hK hP 0 rfl rfl 1 (by decide) (hts _ q139) (fun _ h9 => h9) rfl dX2_cells_5 ?_
  refine ti_imul kx kb dX2_cells_8 ?_
  subst hQ
  exact tr_iret C rfl (by rw [Int.natCast_mul]) dX2_cells_9
set_option maxHeartbeats 4000000 in
set_option maxRecDepth 100000 in
theorem met_X2_isOn (l : Launch) (D : TG) (E : TE) (a : Nat) (b : Nat) (w : Nat) (g : Nat) (x : Int) (y : Int) (hw : 1 ≤ w ∧ w ≤ 32) (hg : 1 ≤ g ∧ g ≤ 32) (rx : -2147483000 ≤ x ∧ x < 2147483648) (ry : -2147483000 ≤ y ∧ y < 2147483648) : tRd l yX2_isOn cX2_isOn 3 (some .boolean) 1 22 [.ref a, .int (iI x), .int (iI y)] D E [(a, .inr (2, [.int (iI ((w : Nat) : Int)), .int (iI ((g : Nat) : Int)), .ref b]))] tY0 (some (.int (zI (isBd w g x y)))) := by
  refine tu_rd (by decide +kernel) (Nat.le_of_ble_eq_true rfl) ?_
  intro p0 e0 s0 m0 below meth c0 A ls args Q hag hQ C hK hX hY hP hD hA hAe hl
  obtain ⟨kx, kb, hml, hown, hts, -⟩ := id C
  have hS : va_S A s0.heap s0.heap [] := va_S.rf
  have hl : lv_has ls 3 [(0, .ref a), (1, .int (iI x)), (2, .int (iI y))] := hl
  have hwg := wg_le hw hg
  refine lv_iconst (v := iI 0) kx kb dX2_isOn_0 rfl ?_
  refine lv_aload_n kx kb dX2_isOn_1 rfl (lv_at hl 0 rfl) ?_
  refine va_get (D := D.1) (ci := 2) (v := .int (iI ((w : Nat) : Int))) (C := RX2) (T := TX2) (N := 3) kx kb hts in_X2 hown hK hP 0 rfl rfl 0 (by decide) (hts _ q137) (fun _ h9 => h9) rfl dX2_isOn_2 ?_
  refine lv_iconst (v := iI 1) kx kb dX2_isOn_5 rfl ?_
  refine ti_isub kx kb dX2_isOn_6 ?_
  refine lv_iload_n kx kb dX2_isOn_7 rfl (lv_at hl 1 rfl) ?_
  refine t_callRSN C (met_X1_isIn l D E 0 (((w : Nat) : Int) - 1) x (by first | assumption | omega)) ⟨cnS 3 hts (lw_meth q618) (hX.1 _ q616 rfl) (hts _ q59) (by decide +kernel) ⟨Nat.le_of_ble_eq_true rfl, Nat.le_of_ble_eq_true rfl⟩, hts _ q617, trivial⟩ hK hX hP hD hS hA [] rfl (by decide) tYb_0 (fun _ _ _ => trivial) rfl hl.1 rfl (Nat.le_of_ble_eq_true rfl) dX2_isOn_8 ⟨(show 0 ≤ 0 from by omega), (show 0 ≤ 0 from by omega)⟩ ?_
  refine W.eq (g2 := F0 m0 11 ls [.int (zI (decide (0 ≤ x ∧ x ≤ (((w : Nat) : Int) - 1))))]) rfl ?_
  refine tz_if_eq (tgt := 32) kx kb dX2_isOn_11 (by decide) (fun h11 => ?_) (fun h11 => ?_)
  · simp only [decide_eq_true_eq, decide_eq_false_iff_not] at h11
    refine lv_iconst (v := iI 0) kx kb dX2_isOn_32 rfl ?_
    refine W.eq (g2 := F0 m0 33 ls [.int (zI false)]) rfl ?_
    subst hQ
    exact tr_zret C rfl (by first | rw [(isBd_t w g x y).mpr (by omega)] | rw [(isBd_f w g x y).mpr (by omega)]) dX2_isOn_33
  · simp only [decide_eq_true_eq, decide_eq_false_iff_not] at h11
    refine lv_iconst (v := iI 0) kx kb dX2_isOn_14 rfl ?_
    refine lv_aload_n kx kb dX2_isOn_15 rfl (lv_at hl 0 rfl) ?_
    refine va_get (D := D.1) (ci := 2) (v := .int (iI ((g : Nat) : Int))) (C := RX2) (T := TX2) (N := 3) kx kb hts in_X2 hown hK hP 0 rfl rfl 1 (by decide) (hts _ q139) (fun _ h9 => h9) rfl dX2_isOn_16 ?_
    refine lv_iconst (v := iI 1) kx kb dX2_isOn_19 rfl ?_
    refine ti_isub kx kb dX2_isOn_20 ?_
    refine lv_iload_n kx kb dX2_isOn_21 rfl (lv_at hl 2 rfl) ?_
    refine t_callRSN C (met_X1_isIn l D E 0 (((g : Nat) : Int) - 1) y (by first | assumption | omega)) ⟨cnS 3 hts (lw_meth q618) (hX.1 _ q616 rfl) (hts _ q59) (by decide +kernel) ⟨Nat.le_of_ble_eq_true rfl, Nat.le_of_ble_eq_true rfl⟩, hts _ q617, trivial⟩ hK hX hP hD hS hA [] rfl (by decide) tYb_0 (fun _ _ _ => trivial) rfl hl.1 rfl (Nat.le_of_ble_eq_true rfl) dX2_isOn_22 ⟨(show 0 ≤ 0 from by omega), (show 0 ≤ 0 from by omega)⟩ ?_
    refine W.eq (g2 := F0 m0 25 ls [.int (zI (decide (0 ≤ y ∧ y ≤ (((g : Nat) : Int) - 1))))]) rfl ?_
    refine tz_if_eq (tgt := 32) kx kb dX2_isOn_25 (by decide) (fun h25 => ?_) (fun h25 => ?_)
    · simp only [decide_eq_true_eq, decide_eq_false_iff_not] at h25
      refine lv_iconst (v := iI 0) kx kb dX2_isOn_32 rfl ?_
      refine W.eq (g2 := F0 m0 33 ls [.int (zI false)]) rfl ?_
      subst hQ
      exact tr_zret C rfl (by first | rw [(isBd_t w g x y).mpr (by omega)] | rw [(isBd_f w g x y).mpr (by omega)]) dX2_isOn_33
    · simp only [decide_eq_true_eq, decide_eq_false_iff_not] at h25
      refine lv_iconst (v := iI 1) kx kb dX2_isOn_28 rfl ?_
      refine lv_goto (tgt := 33) kx kb dX2_isOn_29 (by decide) ?_
      refine W.eq (g2 := F0 m0 33 ls [.int (zI true)]) rfl ?_
      subst hQ
      exact tr_zret C rfl (by first | rw [(isBd_t w g x y).mpr (by omega)] | rw [(isBd_f w g x y).mpr (by omega)]) dX2_isOn_33
set_option maxHeartbeats 4000000 in
set_option maxRecDepth 100000 in
theorem met_X2_has (l : Launch) (D : TG) (E : TE) (a : Nat) (b : Nat) (v : Nat) (n : Nat) (w : Nat) (g : Nat) (P : Nat → Bool) (x : Int) (y : Int) (hw : 1 ≤ w ∧ w ≤ 32) (hg : 1 ≤ g ∧ g ≤ 32) (hB : BB P n) (rx : -2147483000 ≤ x ∧ x < 2147483648) (ry : -2147483000 ≤ y ∧ y < 2147483648) : tRd l yX2_has cX2_has 3 (some .boolean) 2 44 [.ref a, .int (iI x), .int (iI y)] D E [(a, .inr (2, [.int (iI ((w : Nat) : Int)), .int (iI ((g : Nat) : Int)), .ref b])), (b, .inr (3, [.ref v, .int (iI ((un P : Nat) : Int)), .int (zI false)])), (v, .inl (D.2 2, n, .inr (.inl (wd P))))] tY0 (some (.int (zI (isK w g P x y)))) := by
  refine tu_rd (by decide +kernel) (Nat.le_of_ble_eq_true rfl) ?_
  intro p0 e0 s0 m0 below meth c0 A ls args Q hag hQ C hK hX hY hP hD hA hAe hl
  obtain ⟨kx, kb, hml, hown, hts, -⟩ := id C
  have hS : va_S A s0.heap s0.heap [] := va_S.rf
  have hl : lv_has ls 3 [(0, .ref a), (1, .int (iI x)), (2, .int (iI y))] := hl
  have hwg := wg_le hw hg
  have hBn := hB.1
  have hBm := hB.2.1
  have hul := un_le hB
  refine lv_aload_n kx kb dX2_has_0 rfl (lv_at hl 0 rfl) ?_
  refine lv_iload_n kx kb dX2_has_1 rfl (lv_at hl 1 rfl) ?_
  refine lv_iload_n kx kb dX2_has_2 rfl (lv_at hl 2 rfl) ?_
  refine t_callRV C (met_X2_isOn l D E a b w g x y (by first | assumption | omega) (by first | assumption | omega) (by first | assumption | omega) (by first | assumption | omega)) (cwV 2 hts (lw_V q612 q613 q614 q60 q615) rfl rfl rfl (by decide +kernel) ⟨Nat.le_of_ble_eq_true rfl, Nat.le_of_ble_eq_true rfl⟩) (va_recv hK hP (ci := 2) (q0 := 0) rfl rfl) hK hX hP hD hS hA [0] rfl (by decide) tYb_0 (fun _ _ _ => trivial) rfl hl.1 rfl (Nat.le_of_ble_eq_true rfl) dX2_has_3 ⟨(show 0 ≤ 0 from by omega), (show 0 ≤ 0 from by omega)⟩ ?_
  refine W.eq (g2 := F0 m0 6 ls [.int (zI (isBd w g x y))]) rfl ?_
  refine tz_if_eq (tgt := 31) kx kb dX2_has_6 (by decide) (fun h6 => ?_) (fun h6 => ?_)
  · simp only [isBd_t, isBd_f] at h6
    refine lv_iconst (v := iI 0) kx kb dX2_has_31 rfl ?_
    refine W.eq (g2 := F0 m0 32 ls [.int (zI false)]) rfl ?_
    subst hQ
    exact tr_zret C rfl (by rw [show isK w g P x y = false from by simp only [isK]; rw [(isBd_f w g x y).mpr h6]; rfl]) dX2_has_32
  · simp only [isBd_t, isBd_f] at h6
    have hq := cel_int h6
    refine lv_aload_n kx kb dX2_has_9 rfl (lv_at hl 0 rfl) ?_
    refine va_get (D := D.1) (ci := 2) (v := .ref b) (C := RX2) (T := TX2) (N := 3) kx kb hts in_X2 hown hK hP 0 rfl rfl 2 (by decide) (hts _ q141) (fun _ h9 => h9) rfl dX2_has_10 ?_
    refine lv_iload_n kx kb dX2_has_13 rfl (lv_at hl 2 rfl) ?_
    refine lv_aload_n kx kb dX2_has_14 rfl (lv_at hl 0 rfl) ?_
    refine va_get (D := D.1) (ci := 2) (v := .int (iI ((w : Nat) : Int))) (C := RX2) (T := TX2) (N := 3) kx kb hts in_X2 hown hK hP 0 rfl rfl 0 (by decide) (hts _ q137) (fun _ h9 => h9) rfl dX2_has_15 ?_
    refine ti_imul kx kb dX2_has_18 ?_
    refine lv_iload_n kx kb dX2_has_19 rfl (lv_at hl 1 rfl) ?_
    refine ti_iadd kx kb dX2_has_20 ?_
    refine W.eq (g2 := F0 m0 21 ls [.int (iI ((cel w x y : Nat) : Int)), .ref b]) (by rw [show y * ((w : Nat) : Int) + x = ((cel w x y : Nat) : Int) from by omega]) ?_
    refine t_callRV C (met_J0_get l D E b v n P (cel w x y) (by first | assumption | omega) (by first | assumption | omega)) (cwV 1 hts (lw_V q619 q620 q621 q61 q622) rfl rfl rfl (by decide +kernel) ⟨Nat.le_of_ble_eq_true rfl, Nat.le_of_ble_eq_true rfl⟩) (va_recv hK hP (ci := 3) (q0 := 1) rfl rfl) hK hX hP hD hS hA [1, 2] rfl (by decide) tYb_0 (fun _ _ _ => trivial) rfl hl.1 rfl (Nat.le_of_ble_eq_true rfl) dX2_has_21 ⟨(show 0 ≤ 0 from by omega), (show 0 ≤ 0 from by omega)⟩ ?_
    refine W.eq (g2 := F0 m0 24 ls [.int (zI (P (cel w x y)))]) rfl ?_
    refine tz_if_eq (tgt := 31) kx kb dX2_has_24 (by decide) (fun h24 => ?_) (fun h24 => ?_)
    · refine lv_iconst (v := iI 0) kx kb dX2_has_31 rfl ?_
      refine W.eq (g2 := F0 m0 32 ls [.int (zI false)]) rfl ?_
      subst hQ
      exact tr_zret C rfl (by rw [show isK w g P x y = false from by simp [isK, h24]]) dX2_has_32
    · refine lv_iconst (v := iI 1) kx kb dX2_has_27 rfl ?_
      refine lv_goto (tgt := 32) kx kb dX2_has_28 (by decide) ?_
      refine W.eq (g2 := F0 m0 32 ls [.int (zI true)]) rfl ?_
      subst hQ
      exact tr_zret C rfl (by rw [show isK w g P x y = true from by simp [isK, isBd_t, h6, h24]]) dX2_has_32
set_option maxHeartbeats 4000000 in
set_option maxRecDepth 100000 in
theorem met_X2_isInkBeside (l : Launch) (D : TG) (E : TE) (a : Nat) (b : Nat) (v : Nat) (n : Nat) (w : Nat) (g : Nat) (P : Nat → Bool) (c : Nat) (k : Int) (hw : 1 ≤ w ∧ w ≤ 32) (hg : 1 ≤ g ∧ g ≤ 32) (hB : BB P n) (hc : c < 1024) (hk : 0 ≤ k ∧ k < 8) : tRd l yX2_isInkBeside cX2_isInkBeside 3 (some .boolean) 3 66 [.ref a, .int (iI ((c : Nat) : Int)), .int (iI k)] D E [(a, .inr (2, [.int (iI ((w : Nat) : Int)), .int (iI ((g : Nat) : Int)), .ref b])), (b, .inr (3, [.ref v, .int (iI ((un P : Nat) : Int)), .int (zI false)])), (v, .inl (D.2 2, n, .inr (.inl (wd P))))] tY0 (some (.int (zI (bes w g P c k)))) := by
  refine tu_rd (by decide +kernel) (Nat.le_of_ble_eq_true rfl) ?_
  intro p0 e0 s0 m0 below meth c0 A ls args Q hag hQ C hK hX hY hP hD hA hAe hl
  obtain ⟨kx, kb, hml, hown, hts, -⟩ := id C
  have hS : va_S A s0.heap s0.heap [] := va_S.rf
  have hl : lv_has ls 3 [(0, .ref a), (1, .int (iI ((c : Nat) : Int))), (2, .int (iI k))] := hl
  have hwg := wg_le hw hg
  have hBn := hB.1
  have hBm := hB.2.1
  have hul := un_le hB
  have hm := md_rng c w hw.1
  have hsx := sX_rng k
  have hsy := sY_rng k
  refine lv_aload_n kx kb dX2_isInkBeside_0 rfl (lv_at hl 0 rfl) ?_
  refine lv_iload_n kx kb dX2_isInkBeside_1 rfl (lv_at hl 1 rfl) ?_
  refine lv_aload_n kx kb dX2_isInkBeside_2 rfl (lv_at hl 0 rfl) ?_
  refine va_get (D := D.1) (ci := 2) (v := .int (iI ((w : Nat) : Int))) (C := RX2) (T := TX2) (N := 3) kx kb hts in_X2 hown hK hP 0 rfl rfl 0 (by decide) (hts _ q137) (fun _ h9 => h9) rfl dX2_isInkBeside_3 ?_
  refine ti_irem kx kb (by omega) dX2_isInkBeside_6 ?_
  refine lv_iload_n kx kb dX2_isInkBeside_7 rfl (lv_at hl 2 rfl) ?_
  refine t_callRSN C (met_X1_right l D E k (by first | assumption | omega)) ⟨cnS 1 hts (lw_meth q603) (hX.1 _ q601 rfl) (hts _ q59) (by decide +kernel) ⟨Nat.le_of_ble_eq_true rfl, Nat.le_of_ble_eq_true rfl⟩, hts _ q602, trivial⟩ hK hX hP hD hS hA [] rfl (by decide) tYb_0 (fun _ _ _ => trivial) rfl hl.1 rfl (Nat.le_of_ble_eq_true rfl) dX2_isInkBeside_8 ⟨(show 0 ≤ 0 from by omega), (show 0 ≤ 0 from by omega)⟩ ?_
  refine W.eq (g2 := F0 m0 11 ls [.int (iI (sX k)), .int (iI (((c : Nat) : Int) % ((w : Nat) : Int))), .ref a]) rfl ?_
  refine ti_iadd kx kb dX2_isInkBeside_11 ?_
  refine lv_iload_n kx kb dX2_isInkBeside_12 rfl (lv_at hl 1 rfl) ?_
  refine lv_aload_n kx kb dX2_isInkBeside_13 rfl (lv_at hl 0 rfl) ?_
  refine va_get (D := D.1) (ci := 2) (v := .int (iI ((w : Nat) : Int))) (C := RX2) (T := TX2) (N := 3) kx kb hts in_X2 hown hK hP 0 rfl rfl 0 (by decide) (hts _ q137) (fun _ h9 => h9) rfl dX2_isInkBeside_14 ?_
  refine ti_idiv kx kb (by omega) dX2_isInkBeside_17 ?_
  refine lv_iload_n kx kb dX2_isInkBeside_18 rfl (lv_at hl 2 rfl) ?_
  refine t_callRSN C (met_X1_down l D E k (by first | assumption | omega)) ⟨cnS 1 hts (lw_meth q606) (hX.1 _ q604 rfl) (hts _ q59) (by decide +kernel) ⟨Nat.le_of_ble_eq_true rfl, Nat.le_of_ble_eq_true rfl⟩, hts _ q605, trivial⟩ hK hX hP hD hS hA [] rfl (by decide) tYb_0 (fun _ _ _ => trivial) rfl hl.1 rfl (Nat.le_of_ble_eq_true rfl) dX2_isInkBeside_19 ⟨(show 0 ≤ 0 from by omega), (show 0 ≤ 0 from by omega)⟩ ?_
  refine W.eq (g2 := F0 m0 22 ls [.int (iI (sY k)), .int (iI (((c : Nat) : Int) / ((w : Nat) : Int))), .int (iI ((((c : Nat) : Int) % ((w : Nat) : Int)) + (sX k))), .ref a]) rfl ?_
  refine ti_iadd kx kb dX2_isInkBeside_22 ?_
  refine t_callRV C (met_X2_has l D E a b v n w g P ((((c : Nat) : Int) % ((w : Nat) : Int)) + (sX k)) ((((c : Nat) : Int) / ((w : Nat) : Int)) + (sY k)) (by first | assumption | omega) (by first | assumption | omega) (by first | assumption | omega) (by first | assumption | omega) (by first | assumption | omega)) (cwV 2 hts (lw_V q608 q609 q610 q60 q611) rfl rfl rfl (by decide +kernel) ⟨Nat.le_of_ble_eq_true rfl, Nat.le_of_ble_eq_true rfl⟩) (va_recv hK hP (ci := 2) (q0 := 0) rfl rfl) hK hX hP hD hS hA [0, 1, 2] rfl (by decide) tYb_0 (fun _ _ _ => trivial) rfl hl.1 rfl (Nat.le_of_ble_eq_true rfl) dX2_isInkBeside_23 ⟨(show 0 ≤ 0 from by omega), (show 0 ≤ 0 from by omega)⟩ ?_
  refine W.eq (g2 := F0 m0 26 ls [.int (zI (isK w g P ((((c : Nat) : Int) % ((w : Nat) : Int)) + (sX k)) ((((c : Nat) : Int) / ((w : Nat) : Int)) + (sY k))))]) rfl ?_
  subst hQ
  exact tr_zret C rfl rfl dX2_isInkBeside_26
set_option maxHeartbeats 4000000 in
set_option maxRecDepth 100000 in
theorem met_X2_beside (l : Launch) (D : TG) (E : TE) (a : Nat) (b : Nat) (w : Nat) (g : Nat) (c : Nat) (k : Int) (hw : 1 ≤ w ∧ w ≤ 32) (hg : 1 ≤ g ∧ g ≤ 32) (hc : c < 1024) (hk : 0 ≤ k ∧ k < 8) : tRd l yX2_beside cX2_beside 5 (some .int) 2 44 [.ref a, .int (iI ((c : Nat) : Int)), .int (iI k)] D E [(a, .inr (2, [.int (iI ((w : Nat) : Int)), .int (iI ((g : Nat) : Int)), .ref b]))] tY0 (some (.int (iI (if nbB w g c k then ((nbC w c k : Nat) : Int) else -1)))) := by
  refine tu_rd (by decide +kernel) (Nat.le_of_ble_eq_true rfl) ?_
  intro p0 e0 s0 m0 below meth c0 A ls args Q hag hQ C hK hX hY hP hD hA hAe hl
  obtain ⟨kx, kb, hml, hown, hts, -⟩ := id C
  have hS : va_S A s0.heap s0.heap [] := va_S.rf
  have hl : lv_has ls 5 [(0, .ref a), (1, .int (iI ((c : Nat) : Int))), (2, .int (iI k))] := hl
  have hwg := wg_le hw hg
  have hm := md_rng c w hw.1
  have hsx := sX_rng k
  have hsy := sY_rng k
  refine lv_iload_n kx kb dX2_beside_0 rfl (lv_at hl 1 rfl) ?_
  refine lv_aload_n kx kb dX2_beside_1 rfl (lv_at hl 0 rfl) ?_
  refine va_get (D := D.1) (ci := 2) (v := .int (iI ((w : Nat) : Int))) (C := RX2) (T := TX2) (N := 3) kx kb hts in_X2 hown hK hP 0 rfl rfl 0 (by decide) (hts _ q137) (fun _ h9 => h9) rfl dX2_beside_2 ?_
  refine ti_irem kx kb (by omega) dX2_beside_5 ?_
  refine lv_iload_n kx kb dX2_beside_6 rfl (lv_at hl 2 rfl) ?_
  refine t_callRSN C (met_X1_right l D E k (by first | assumption | omega)) ⟨cnS 1 hts (lw_meth q603) (hX.1 _ q601 rfl) (hts _ q59) (by decide +kernel) ⟨Nat.le_of_ble_eq_true rfl, Nat.le_of_ble_eq_true rfl⟩, hts _ q602, trivial⟩ hK hX hP hD hS hA [] rfl (by decide) tYb_0 (fun _ _ _ => trivial) rfl hl.1 rfl (Nat.le_of_ble_eq_true rfl) dX2_beside_7 ⟨(show 0 ≤ 0 from by omega), (show 0 ≤ 0 from by omega)⟩ ?_
  refine W.eq (g2 := F0 m0 10 ls [.int (iI (sX k)), .int (iI (((c : Nat) : Int) % ((w : Nat) : Int)))]) rfl ?_
  refine ti_iadd kx kb dX2_beside_10 ?_
  refine lv_istore_n (lv' := [(3, .int (iI ((((c : Nat) : Int) % ((w : Nat) : Int)) + (sX k)))), (0, .ref a), (1, .int (iI ((c : Nat) : Int))), (2, .int (iI k))]) kx kb dX2_beside_11 rfl hl (by decide) rfl (fun ls hl => ?_)
  refine lv_iload_n kx kb dX2_beside_12 rfl (lv_at hl 2 rfl) ?_
  refine lv_aload_n kx kb dX2_beside_13 rfl (lv_at hl 1 rfl) ?_
  refine va_get (D := D.1) (ci := 2) (v := .int (iI ((w : Nat) : Int))) (C := RX2) (T := TX2) (N := 3) kx kb hts in_X2 hown hK hP 0 rfl rfl 0 (by decide) (hts _ q137) (fun _ h9 => h9) rfl dX2_beside_14 ?_
  refine ti_idiv kx kb (by omega) dX2_beside_17 ?_
  refine lv_iload_n kx kb dX2_beside_18 rfl (lv_at hl 3 rfl) ?_
  refine t_callRSN C (met_X1_down l D E k (by first | assumption | omega)) ⟨cnS 1 hts (lw_meth q606) (hX.1 _ q604 rfl) (hts _ q59) (by decide +kernel) ⟨Nat.le_of_ble_eq_true rfl, Nat.le_of_ble_eq_true rfl⟩, hts _ q605, trivial⟩ hK hX hP hD hS hA [] rfl (by decide) tYb_0 (fun _ _ _ => trivial) rfl hl.1 rfl (Nat.le_of_ble_eq_true rfl) dX2_beside_19 ⟨(show 0 ≤ 0 from by omega), (show 0 ≤ 0 from by omega)⟩ ?_
  refine W.eq (g2 := F0 m0 22 ls [.int (iI (sY k)), .int (iI (((c : Nat) : Int) / ((w : Nat) : Int)))]) rfl ?_
  refine ti_iadd kx kb dX2_beside_22 ?_
  refine lv_istore (lv' := [(4, .int (iI ((((c : Nat) : Int) / ((w : Nat) : Int)) + (sY k)))), (3, .int (iI ((((c : Nat) : Int) % ((w : Nat) : Int)) + (sX k)))), (0, .ref a), (1, .int (iI ((c : Nat) : Int))), (2, .int (iI k))]) kx kb dX2_beside_23 hl (by decide) rfl (fun ls hl => ?_)
  refine lv_aload_n kx kb dX2_beside_25 rfl (lv_at hl 2 rfl) ?_
  refine lv_iload_n kx kb dX2_beside_26 rfl (lv_at hl 1 rfl) ?_
  refine lv_iload kx kb dX2_beside_27 (lv_at hl 0 rfl) ?_
  refine t_callRV C (met_X2_isOn l D E a b w g ((((c : Nat) : Int) % ((w : Nat) : Int)) + (sX k)) ((((c : Nat) : Int) / ((w : Nat) : Int)) + (sY k)) (by first | assumption | omega) (by first | assumption | omega) (by first | assumption | omega) (by first | assumption | omega)) (cwV 2 hts (lw_V q612 q613 q614 q60 q615) rfl rfl rfl (by decide +kernel) ⟨Nat.le_of_ble_eq_true rfl, Nat.le_of_ble_eq_true rfl⟩) (va_recv hK hP (ci := 2) (q0 := 0) rfl rfl) hK hX hP hD hS hA [0] rfl (by decide) tYb_0 (fun _ _ _ => trivial) rfl hl.1 rfl (Nat.le_of_ble_eq_true rfl) dX2_beside_29 ⟨(show 0 ≤ 0 from by omega), (show 0 ≤ 0 from by omega)⟩ ?_
  refine W.eq (g2 := F0 m0 32 ls [.int (zI (isBd w g ((((c : Nat) : Int) % ((w : Nat) : Int)) + (sX k)) ((((c : Nat) : Int) / ((w : Nat) : Int)) + (sY k))))]) rfl ?_
  refine tz_if_eq (tgt := 47) kx kb dX2_beside_32 (by decide) (fun h32 => ?_) (fun h32 => ?_)
  · simp only [isBd_t, isBd_f] at h32
    refine lv_iconst (v := iI (-1)) kx kb dX2_beside_47 rfl ?_
    subst hQ
    exact tr_iret C rfl (by unfold nbB nbC nbX nbY; rw [(isBd_f _ _ _ _).mpr h32]; rfl) dX2_beside_48
  · simp only [isBd_t, isBd_f] at h32
    refine lv_iload kx kb dX2_beside_35 (lv_at hl 0 rfl) ?_
    refine lv_aload_n kx kb dX2_beside_37 rfl (lv_at hl 2 rfl) ?_
    refine va_get (D := D.1) (ci := 2) (v := .int (iI ((w : Nat) : Int))) (C := RX2) (T := TX2) (N := 3) kx kb hts in_X2 hown hK hP 0 rfl rfl 0 (by decide) (hts _ q137) (fun _ h9 => h9) rfl dX2_beside_38 ?_
    refine ti_imul kx kb dX2_beside_41 ?_
    refine lv_iload_n kx kb dX2_beside_42 rfl (lv_at hl 1 rfl) ?_
    refine ti_iadd kx kb dX2_beside_43 ?_
    refine lv_goto (tgt := 48) kx kb dX2_beside_44 (by decide) ?_
    subst hQ
    exact tr_iret C rfl (by unfold nbB nbC nbX nbY; rw [(isBd_t _ _ _ _).mpr h32, if_pos rfl]; have hq := cel_int h32; congr 3; omega) dX2_beside_48
