set_option maxRecDepth 100000
set_option maxHeartbeats 4000000 in
set_option maxRecDepth 100000 in
theorem met_X2_lambda_pen_0 (l : Launch) (D : TG) (E : TE) (a : Nat) (b : Nat) (v : Nat) (n : Nat) (w : Nat) (g : Nat) (P : Nat → Bool) (z : Bool) (x : Int) (y : Int) (hw : 1 ≤ w ∧ w ≤ 32) (hg : 1 ≤ g ∧ g ≤ 32) (hB : BB P n) (rx : -2147483000 ≤ x ∧ x < 2147483648) (ry : -2147483000 ≤ y ∧ y < 2147483648) : tMet l yX2_lambda_pen_0 cX2_lambda_pen_0 4 none 6 150 (dN w g x y z n - n) (2 * (dN w g x y z n - n)) [.ref a, .int (zI z), .int (iI x), .int (iI y)] D E [(a, .inr (2, [.int (iI ((w : Nat) : Int)), .int (iI ((g : Nat) : Int)), .ref b])), (b, .inr (3, [.ref v, .int (iI ((un P : Nat) : Int)), .int (zI false)])), (v, .inl (D.2 2, n, .inr (.inl (wd P))))] tY0 (S := Nat) (fun u_ => True) (fun u_ => none) (fun u_ => [(a, .inr (2, [.int (iI ((w : Nat) : Int)), .int (iI ((g : Nat) : Int)), .ref b])), (b, .inr (3, [.ref u_, .int (iI ((un (drw w g x y z P) : Nat) : Int)), .int (zI false)])), (u_, .inl (D.2 2, dN w g x y z n, .inr (.inl (wd (drw w g x y z P)))))]) := by
  refine tu_met (by decide +kernel) (Nat.le_of_ble_eq_true rfl) ?_
  intro p0 e0 s0 m0 below meth c0 A ls args Q hag hQ C hK hX hY hP hD hA hAe hl
  obtain ⟨kx, kb, hml, hown, hts, -⟩ := id C
  have hS : va_S A s0.heap s0.heap [] := va_S.rf
  have hl : lv_has ls 4 [(0, .ref a), (1, .int (zI z)), (2, .int (iI x)), (3, .int (iI y))] := hl
  have hwg := wg_le hw hg
  have hBn := hB.1
  have hBm := hB.2.1
  have hul := un_le hB
  have hsn := sN_cost n (cel w x y) z
  refine lv_aload_n kx kb dX2_lambda_pen_0_0 rfl (lv_at hl 0 rfl) ?_
  refine lv_iload_n kx kb dX2_lambda_pen_0_1 rfl (lv_at hl 2 rfl) ?_
  refine lv_iload_n kx kb dX2_lambda_pen_0_2 rfl (lv_at hl 3 rfl) ?_
  refine t_callRV C (met_X2_isOn l D E a b w g x y (by first | assumption | omega) (by first | assumption | omega) (by first | assumption | omega) (by first | assumption | omega)) (cwV 2 hts (lw_V q612 q613 q614 q60 q615) rfl rfl rfl (by decide +kernel) ⟨Nat.le_of_ble_eq_true rfl, Nat.le_of_ble_eq_true rfl⟩) (va_recv hK hP (ci := 2) (q0 := 0) rfl rfl) hK hX hP hD hS hA [0] rfl (by decide) tYb_0 (fun _ _ _ => trivial) rfl hl.1 rfl (Nat.le_of_ble_eq_true rfl) dX2_lambda_pen_0_3 ⟨(show 0 ≤ dN w g x y z n - n from by omega), (show 0 ≤ 2 * (dN w g x y z n - n) from by omega)⟩ ?_
  refine W.eq (g2 := F0 m0 6 ls [.int (zI (isBd w g x y))]) rfl ?_
  refine tz_if_eq (tgt := 25) kx kb dX2_lambda_pen_0_6 (by decide) (fun h6 => ?_) (fun h6 => ?_)
  · simp only [isBd_t, isBd_f] at h6
    have hP : va_P D.1 clAll [(a, .inr (2, [.int (iI ((w : Nat) : Int)), .int (iI ((g : Nat) : Int)), .ref b])), (b, .inr (3, [.ref v, .int (iI ((un (drw w g x y z P) : Nat) : Int)), .int (zI false)])), (v, .inl (D.2 2, dN w g x y z n, .inr (.inl (wd (drw w g x y z P)))))] s0.heap := by rw [show dN w g x y z n = n from by unfold dN; rw [if_neg (by rw [(isBd_f _ _ _ _).mpr h6]; decide)], show drw w g x y z P = P from by unfold drw; rw [if_neg (by rw [(isBd_f _ _ _ _).mpr h6]; decide)]]; exact hP
    have hD : va_D A [(a, .inr (2, [.int (iI ((w : Nat) : Int)), .int (iI ((g : Nat) : Int)), .ref b])), (b, .inr (3, [.ref v, .int (iI ((un (drw w g x y z P) : Nat) : Int)), .int (zI false)])), (v, .inl (D.2 2, dN w g x y z n, .inr (.inl (wd (drw w g x y z P)))))] := by rw [show dN w g x y z n = n from by unfold dN; rw [if_neg (by rw [(isBd_f _ _ _ _).mpr h6]; decide)], show drw w g x y z P = P from by unfold drw; rw [if_neg (by rw [(isBd_f _ _ _ _).mpr h6]; decide)]]; exact hD
    subst hQ
    exact tm_vret C v trivial hP hD hS (show 0 ≤ dN w g x y z n - n from by omega) (show 0 ≤ 2 * (dN w g x y z n - n) from by omega) rfl rfl dX2_lambda_pen_0_25
  · simp only [isBd_t, isBd_f] at h6
    have hq := cel_int h6
    have hdn : dN w g x y z n = sN n (cel w x y) z := if_pos ((isBd_t _ _ _ _).mpr h6)
    refine lv_aload_n kx kb dX2_lambda_pen_0_9 rfl (lv_at hl 0 rfl) ?_
    refine va_get (D := D.1) (ci := 2) (v := .ref b) (C := RX2) (T := TX2) (N := 3) kx kb hts in_X2 hown hK hP 0 rfl rfl 2 (by decide) (hts _ q141) (fun _ h9 => h9) rfl dX2_lambda_pen_0_10 ?_
    refine lv_iload_n kx kb dX2_lambda_pen_0_13 rfl (lv_at hl 3 rfl) ?_
    refine lv_aload_n kx kb dX2_lambda_pen_0_14 rfl (lv_at hl 0 rfl) ?_
    refine va_get (D := D.1) (ci := 2) (v := .int (iI ((w : Nat) : Int))) (C := RX2) (T := TX2) (N := 3) kx kb hts in_X2 hown hK hP 0 rfl rfl 0 (by decide) (hts _ q137) (fun _ h9 => h9) rfl dX2_lambda_pen_0_15 ?_
    refine ti_imul kx kb dX2_lambda_pen_0_18 ?_
    refine lv_iload_n kx kb dX2_lambda_pen_0_19 rfl (lv_at hl 2 rfl) ?_
    refine ti_iadd kx kb dX2_lambda_pen_0_20 ?_
    refine lv_iload_n kx kb dX2_lambda_pen_0_21 rfl (lv_at hl 1 rfl) ?_
    refine W.eq (g2 := F0 m0 22 ls [.int (zI z), .int (iI ((cel w x y : Nat) : Int)), .ref b]) (by rw [show y * ((w : Nat) : Int) + x = ((cel w x y : Nat) : Int) from by omega]) ?_
    refine t_callV (wr := [(a, .inr (2, [.int (iI ((w : Nat) : Int)), .int (iI ((g : Nat) : Int)), .ref b]))]) C (met_J0_set l D E b v n P (cel w x y) z (by first | assumption | omega) (by first | assumption | omega)) (cwV 2 hts (lw_V q628 q629 q630 q61 q631) rfl rfl rfl (by decide +kernel) ⟨Nat.le_of_ble_eq_true rfl, Nat.le_of_ble_eq_true rfl⟩) (va_recv hK hP (ci := 3) (q0 := 1) rfl rfl) hK hX hP hD hS hA [1, 2] [0] rfl rfl (by decide) (by decide) (by decide) tYb_0 (fun _ _ _ => trivial) rfl hl.1 rfl (Nat.le_of_ble_eq_true rfl) dX2_lambda_pen_0_22 ⟨(show 0 + (sC n (cel w x y) z) ≤ dN w g x y z n - n from by omega), (show 0 + (sS n (cel w x y) z) ≤ 2 * (dN w g x y z n - n) from by omega)⟩ (fun u_ H locs hp hP hD hS => ?_)
    obtain ⟨w2_1, rfl⟩ : ∃ z, z = u_ := ⟨_, rfl⟩
    have hP : va_P D.1 clAll [(a, .inr (2, [.int (iI ((w : Nat) : Int)), .int (iI ((g : Nat) : Int)), .ref b])), (b, .inr (3, [.ref w2_1, .int (iI ((un (setB P (cel w x y) z) : Nat) : Int)), .int (zI false)])), (w2_1, .inl (D.2 2, sN n (cel w x y) z, .inr (.inl (wd (setB P (cel w x y) z)))))] H := hP
    have hD : va_D A [(a, .inr (2, [.int (iI ((w : Nat) : Int)), .int (iI ((g : Nat) : Int)), .ref b])), (b, .inr (3, [.ref w2_1, .int (iI ((un (setB P (cel w x y) z) : Nat) : Int)), .int (zI false)])), (w2_1, .inl (D.2 2, sN n (cel w x y) z, .inr (.inl (wd (setB P (cel w x y) z)))))] := hD
    refine W.eq (g2 := F0 m0 25 ls []) rfl ?_
    refine W.widen (k := 0 + (sC n (cel w x y) z)) (n := 0 + (sS n (cel w x y) z)) (Nat.le_refl _) (Nat.le_refl _) ?_
    have hP : va_P D.1 clAll [(a, .inr (2, [.int (iI ((w : Nat) : Int)), .int (iI ((g : Nat) : Int)), .ref b])), (b, .inr (3, [.ref w2_1, .int (iI ((un (drw w g x y z P) : Nat) : Int)), .int (zI false)])), (w2_1, .inl (D.2 2, dN w g x y z n, .inr (.inl (wd (drw w g x y z P)))))] H := by rw [hdn, show drw w g x y z P = setB P (cel w x y) z from by unfold drw; rw [if_pos ((isBd_t _ _ _ _).mpr h6), setB_up]]; exact hP
    have hD : va_D A [(a, .inr (2, [.int (iI ((w : Nat) : Int)), .int (iI ((g : Nat) : Int)), .ref b])), (b, .inr (3, [.ref w2_1, .int (iI ((un (drw w g x y z P) : Nat) : Int)), .int (zI false)])), (w2_1, .inl (D.2 2, dN w g x y z n, .inr (.inl (wd (drw w g x y z P)))))] := by rw [hdn, show drw w g x y z P = setB P (cel w x y) z from by unfold drw; rw [if_pos ((isBd_t _ _ _ _).mpr h6), setB_up]]; exact hD
    subst hQ
    exact tm_vret C w2_1 trivial hP hD hS (show 0 + (sC n (cel w x y) z) ≤ dN w g x y z n - n from by omega) (show 0 + (sS n (cel w x y) z) ≤ 2 * (dN w g x y z n - n) from by omega) rfl rfl dX2_lambda_pen_0_25
