set_option maxRecDepth 100000
set_option maxHeartbeats 4000000 in
set_option maxRecDepth 100000 in
theorem met_X1_width (l : Launch) (D : TG) (E : TE) (t : Nat) (a : Nat) (b : Nat) (v : Nat) (n : Nat) (w : Nat) (g : Nat) (P : Nat → Bool) (c : Nat) (v3 : Nat) (n2 : Nat) (S : Nat → Bool) (hw : 1 ≤ w ∧ w ≤ 32) (hg : 1 ≤ g ∧ g ≤ 32) (hB : BB P n) (hB2 : BB S n2) (hPz : ∀ j_, w * g ≤ j_ → P j_ = false) (hSz : ∀ j_, w * g ≤ j_ → S j_ = false) : tRd l yX1_width cX1_width 1 (some .int) 0 0 [.ref t] D E [(t, .inr (1, [.ref a, .ref c])), (a, .inr (2, [.int (iI ((w : Nat) : Int)), .int (iI ((g : Nat) : Int)), .ref b])), (b, .inr (3, [.ref v, .int (iI ((un P : Nat) : Int)), .int (zI false)])), (v, .inl (D.2 2, n, .inr (.inl (wd P)))), (c, .inr (3, [.ref v3, .int (iI ((un S : Nat) : Int)), .int (zI false)])), (v3, .inl (D.2 2, n2, .inr (.inl (wd S))))] tY0 (some (.int (iI ((w : Nat) : Int)))) := by
  refine tu_rd (by decide +kernel) (Nat.le_of_ble_eq_true rfl) ?_
  intro p0 e0 s0 m0 below meth c0 A ls args Q hag hQ C hK hX hY hP hD hA hAe hl
  obtain ⟨kx, kb, hml, hown, hts, -⟩ := id C
  have hS : va_S A s0.heap s0.heap [] := va_S.rf
  have hl : lv_has ls 1 [(0, .ref t)] := hl
  have hwg := wg_le hw hg
  have hBn := hB.1
  have hBm := hB.2.1
  have hul := un_le hB
  have hul2 := un_le hB2
  refine lv_aload_n kx kb dX1_width_0 rfl (lv_at hl 0 rfl) ?_
  refine va_get (D := D.1) (ci := 1) (v := .ref a) (C := RX1) (T := TX1) (N := 2) kx kb hts in_X1 hown hK hP 0 rfl rfl 0 (by decide) (hts _ q152) (fun _ h9 => h9) rfl dX1_width_1 ?_
  refine va_getN (D := D.1) (ci := 2) (v := .int (iI ((w : Nat) : Int))) (C := RX2) (T := TX2) (N := 3) kx kb hts in_X2 hown hK hP 1 rfl rfl 0 (by decide) (va_Nw.use rfl (hX.1 _ q138 rfl)) (fun _ h9 => h9) rfl dX1_width_4 ?_
  subst hQ
  exact tr_iret C rfl rfl dX1_width_7
set_option maxHeartbeats 4000000 in
set_option maxRecDepth 100000 in
theorem met_X1_height (l : Launch) (D : TG) (E : TE) (t : Nat) (a : Nat) (b : Nat) (v : Nat) (n : Nat) (w : Nat) (g : Nat) (P : Nat → Bool) (c : Nat) (v3 : Nat) (n2 : Nat) (S : Nat → Bool) (hw : 1 ≤ w ∧ w ≤ 32) (hg : 1 ≤ g ∧ g ≤ 32) (hB : BB P n) (hB2 : BB S n2) (hPz : ∀ j_, w * g ≤ j_ → P j_ = false) (hSz : ∀ j_, w * g ≤ j_ → S j_ = false) : tRd l yX1_height cX1_height 1 (some .int) 0 0 [.ref t] D E [(t, .inr (1, [.ref a, .ref c])), (a, .inr (2, [.int (iI ((w : Nat) : Int)), .int (iI ((g : Nat) : Int)), .ref b])), (b, .inr (3, [.ref v, .int (iI ((un P : Nat) : Int)), .int (zI false)])), (v, .inl (D.2 2, n, .inr (.inl (wd P)))), (c, .inr (3, [.ref v3, .int (iI ((un S : Nat) : Int)), .int (zI false)])), (v3, .inl (D.2 2, n2, .inr (.inl (wd S))))] tY0 (some (.int (iI ((g : Nat) : Int)))) := by
  refine tu_rd (by decide +kernel) (Nat.le_of_ble_eq_true rfl) ?_
  intro p0 e0 s0 m0 below meth c0 A ls args Q hag hQ C hK hX hY hP hD hA hAe hl
  obtain ⟨kx, kb, hml, hown, hts, -⟩ := id C
  have hS : va_S A s0.heap s0.heap [] := va_S.rf
  have hl : lv_has ls 1 [(0, .ref t)] := hl
  have hwg := wg_le hw hg
  have hBn := hB.1
  have hBm := hB.2.1
  have hul := un_le hB
  have hul2 := un_le hB2
  refine lv_aload_n kx kb dX1_height_0 rfl (lv_at hl 0 rfl) ?_
  refine va_get (D := D.1) (ci := 1) (v := .ref a) (C := RX1) (T := TX1) (N := 2) kx kb hts in_X1 hown hK hP 0 rfl rfl 0 (by decide) (hts _ q152) (fun _ h9 => h9) rfl dX1_height_1 ?_
  refine va_getN (D := D.1) (ci := 2) (v := .int (iI ((g : Nat) : Int))) (C := RX2) (T := TX2) (N := 3) kx kb hts in_X2 hown hK hP 1 rfl rfl 1 (by decide) (va_Nw.use rfl (hX.1 _ q140 rfl)) (fun _ h9 => h9) rfl dX1_height_4 ?_
  subst hQ
  exact tr_iret C rfl rfl dX1_height_7
set_option maxHeartbeats 4000000 in
set_option maxRecDepth 100000 in
theorem met_X1_ink (l : Launch) (D : TG) (E : TE) (t : Nat) (a : Nat) (b : Nat) (v : Nat) (n : Nat) (w : Nat) (g : Nat) (P : Nat → Bool) (c : Nat) (v3 : Nat) (n2 : Nat) (S : Nat → Bool) (hw : 1 ≤ w ∧ w ≤ 32) (hg : 1 ≤ g ∧ g ≤ 32) (hB : BB P n) (hB2 : BB S n2) (hPz : ∀ j_, w * g ≤ j_ → P j_ = false) (hSz : ∀ j_, w * g ≤ j_ → S j_ = false) : tRd l yX1_ink cX1_ink 1 (some .int) 2 43 [.ref t] D E [(t, .inr (1, [.ref a, .ref c])), (a, .inr (2, [.int (iI ((w : Nat) : Int)), .int (iI ((g : Nat) : Int)), .ref b])), (b, .inr (3, [.ref v, .int (iI ((un P : Nat) : Int)), .int (zI false)])), (v, .inl (D.2 2, n, .inr (.inl (wd P)))), (c, .inr (3, [.ref v3, .int (iI ((un S : Nat) : Int)), .int (zI false)])), (v3, .inl (D.2 2, n2, .inr (.inl (wd S))))] tY0 (some (.int (iI ((fb_ct P 1024 : Nat) : Int)))) := by
  refine tu_rd (by decide +kernel) (Nat.le_of_ble_eq_true rfl) ?_
  intro p0 e0 s0 m0 below meth c0 A ls args Q hag hQ C hK hX hY hP hD hA hAe hl
  obtain ⟨kx, kb, hml, hown, hts, -⟩ := id C
  have hS : va_S A s0.heap s0.heap [] := va_S.rf
  have hl : lv_has ls 1 [(0, .ref t)] := hl
  have hwg := wg_le hw hg
  have hBn := hB.1
  have hBm := hB.2.1
  have hul := un_le hB
  have hul2 := un_le hB2
  refine lv_aload_n kx kb dX1_ink_0 rfl (lv_at hl 0 rfl) ?_
  refine va_get (D := D.1) (ci := 1) (v := .ref a) (C := RX1) (T := TX1) (N := 2) kx kb hts in_X1 hown hK hP 0 rfl rfl 0 (by decide) (hts _ q152) (fun _ h9 => h9) rfl dX1_ink_1 ?_
  refine va_getN (D := D.1) (ci := 2) (v := .ref b) (C := RX2) (T := TX2) (N := 3) kx kb hts in_X2 hown hK hP 1 rfl rfl 2 (by decide) (va_Nw.use rfl (hX.1 _ q142 rfl)) (fun _ h9 => h9) rfl dX1_ink_4 ?_
  refine t_callRV C (met_J0_cardinality l D E b v n P (by first | assumption | omega)) (cwV 0 hts (lw_V q535 q536 q537 q61 q538) rfl rfl rfl (by decide +kernel) ⟨Nat.le_of_ble_eq_true rfl, Nat.le_of_ble_eq_true rfl⟩) (va_recv hK hP (ci := 3) (q0 := 2) rfl rfl) hK hX hP hD hS hA [2, 3] rfl (by decide) tYb_0 (fun _ _ _ => trivial) rfl hl.1 rfl (Nat.le_of_ble_eq_true rfl) dX1_ink_7 ⟨(show 0 ≤ 0 from by omega), (show 0 ≤ 0 from by omega)⟩ ?_
  refine W.eq (g2 := F0 m0 10 ls [.int (iI ((fb_ct P 1024 : Nat) : Int))]) rfl ?_
  subst hQ
  exact tr_iret C rfl rfl dX1_ink_10
set_option maxHeartbeats 4000000 in
set_option maxRecDepth 100000 in
theorem met_X1_edges (l : Launch) (D : TG) (E : TE) (t : Nat) (a : Nat) (b : Nat) (v : Nat) (n : Nat) (w : Nat) (g : Nat) (P : Nat → Bool) (c : Nat) (v3 : Nat) (n2 : Nat) (S : Nat → Bool) (hw : 1 ≤ w ∧ w ≤ 32) (hg : 1 ≤ g ∧ g ≤ 32) (hB : BB P n) (hB2 : BB S n2) (hPz : ∀ j_, w * g ≤ j_ → P j_ = false) (hSz : ∀ j_, w * g ≤ j_ → S j_ = false) : tRd l yX1_edges cX1_edges 1 (some .int) 5 111 [.ref t] D E [(t, .inr (1, [.ref a, .ref c])), (a, .inr (2, [.int (iI ((w : Nat) : Int)), .int (iI ((g : Nat) : Int)), .ref b])), (b, .inr (3, [.ref v, .int (iI ((un P : Nat) : Int)), .int (zI false)])), (v, .inl (D.2 2, n, .inr (.inl (wd P)))), (c, .inr (3, [.ref v3, .int (iI ((un S : Nat) : Int)), .int (zI false)])), (v3, .inl (D.2 2, n2, .inr (.inl (wd S))))] tY0 (some (.int (iI ((egA w g P 1024 : Nat) : Int)))) := by
  refine tu_rd (by decide +kernel) (Nat.le_of_ble_eq_true rfl) ?_
  intro p0 e0 s0 m0 below meth c0 A ls args Q hag hQ C hK hX hY hP hD hA hAe hl
  obtain ⟨kx, kb, hml, hown, hts, -⟩ := id C
  have hS : va_S A s0.heap s0.heap [] := va_S.rf
  have hl : lv_has ls 1 [(0, .ref t)] := hl
  have hwg := wg_le hw hg
  have hBn := hB.1
  have hBm := hB.2.1
  have hul := un_le hB
  have hul2 := un_le hB2
  refine lv_aload_n kx kb dX1_edges_0 rfl (lv_at hl 0 rfl) ?_
  refine va_get (D := D.1) (ci := 1) (v := .ref a) (C := RX1) (T := TX1) (N := 2) kx kb hts in_X1 hown hK hP 0 rfl rfl 0 (by decide) (hts _ q152) (fun _ h9 => h9) rfl dX1_edges_1 ?_
  refine t_callRV C (met_X2_edges l D E a b v n w g P (by first | assumption | omega) (by first | assumption | omega) (by first | assumption | omega)) (cwV 0 hts (lw_V q964 q965 q966 q60 q967) rfl rfl rfl (by decide +kernel) ⟨Nat.le_of_ble_eq_true rfl, Nat.le_of_ble_eq_true rfl⟩) (va_recv hK hP (ci := 2) (q0 := 1) rfl rfl) hK hX hP hD hS hA [1, 2, 3] rfl (by decide) tYb_0 (fun _ _ _ => trivial) rfl hl.1 rfl (Nat.le_of_ble_eq_true rfl) dX1_edges_4 ⟨(show 0 ≤ 0 from by omega), (show 0 ≤ 0 from by omega)⟩ ?_
  refine W.eq (g2 := F0 m0 7 ls [.int (iI ((egA w g P 1024 : Nat) : Int))]) rfl ?_
  subst hQ
  exact tr_iret C rfl rfl dX1_edges_7
set_option maxHeartbeats 4000000 in
set_option maxRecDepth 100000 in
theorem met_X1_thin (l : Launch) (D : TG) (E : TE) (t : Nat) (a : Nat) (b : Nat) (v : Nat) (n : Nat) (w : Nat) (g : Nat) (P : Nat → Bool) (c : Nat) (v3 : Nat) (n2 : Nat) (S : Nat → Bool) (hw : 1 ≤ w ∧ w ≤ 32) (hg : 1 ≤ g ∧ g ≤ 32) (hB : BB P n) (hB2 : BB S n2) (hPz : ∀ j_, w * g ≤ j_ → P j_ = false) (hSz : ∀ j_, w * g ≤ j_ → S j_ = false) : tMet l yX1_thin cX1_thin 1 (some .int) 8 194 (4 + 5 * fb_ct P (w * g)) (8 + 38 * fb_ct P (w * g)) [.ref t] D E [(t, .inr (1, [.ref a, .ref c])), (a, .inr (2, [.int (iI ((w : Nat) : Int)), .int (iI ((g : Nat) : Int)), .ref b])), (b, .inr (3, [.ref v, .int (iI ((un P : Nat) : Int)), .int (zI false)])), (v, .inl (D.2 2, n, .inr (.inl (wd P)))), (c, .inr (3, [.ref v3, .int (iI ((un S : Nat) : Int)), .int (zI false)])), (v3, .inl (D.2 2, n2, .inr (.inl (wd S))))] tY0 (S := Unit) (fun u_ => True) (fun u_ => some (.int (iI (((thR w g P).1 : Nat) : Int)))) (fun u_ => [(t, .inr (1, [.ref a, .ref c])), (a, .inr (2, [.int (iI ((w : Nat) : Int)), .int (iI ((g : Nat) : Int)), .ref b])), (b, .inr (3, [.ref v, .int (iI ((un ((thR w g P).2) : Nat) : Int)), .int (zI false)])), (v, .inl (D.2 2, n, .inr (.inl (wd ((thR w g P).2))))), (c, .inr (3, [.ref v3, .int (iI ((un S : Nat) : Int)), .int (zI false)])), (v3, .inl (D.2 2, n2, .inr (.inl (wd S))))]) := by
  refine tu_met (by decide +kernel) (Nat.le_of_ble_eq_true rfl) ?_
  intro p0 e0 s0 m0 below meth c0 A ls args Q hag hQ C hK hX hY hP hD hA hAe hl
  obtain ⟨kx, kb, hml, hown, hts, -⟩ := id C
  have hS : va_S A s0.heap s0.heap [] := va_S.rf
  have hl : lv_has ls 1 [(0, .ref t)] := hl
  have hwg := wg_le hw hg
  have hBn := hB.1
  have hBm := hB.2.1
  have hul := un_le hB
  have hul2 := un_le hB2
  refine lv_aload_n kx kb dX1_thin_0 rfl (lv_at hl 0 rfl) ?_
  refine va_get (D := D.1) (ci := 1) (v := .ref a) (C := RX1) (T := TX1) (N := 2) kx kb hts in_X1 hown hK hP 0 rfl rfl 0 (by decide) (hts _ q152) (fun _ h9 => h9) rfl dX1_thin_1 ?_
  refine t_callV (wr := [(t, .inr (1, [.ref a, .ref c])), (c, .inr (3, [.ref v3, .int (iI ((un S : Nat) : Int)), .int (zI false)])), (v3, .inl (D.2 2, n2, .inr (.inl (wd S))))]) C (met_X2_thin l D E a b v n w g P (by first | assumption | omega) (by first | assumption | omega) (by first | assumption | omega) (by first | assumption | omega)) (cwV 0 hts (lw_V q574 q575 q576 q60 q577) rfl rfl rfl (by decide +kernel) ⟨Nat.le_of_ble_eq_true rfl, Nat.le_of_ble_eq_true rfl⟩) (va_recv hK hP (ci := 2) (q0 := 1) rfl rfl) hK hX hP hD hS hA [1, 2, 3] [0, 4, 5] rfl rfl (by decide) (by decide) (by decide) tYb_0 (fun _ _ _ => trivial) rfl hl.1 rfl (Nat.le_of_ble_eq_true rfl) dX1_thin_4 ⟨(show 0 + (4 + 5 * fb_ct P (w * g)) ≤ 4 + 5 * fb_ct P (w * g) from by omega), (show 0 + (8 + 38 * fb_ct P (w * g)) ≤ 8 + 38 * fb_ct P (w * g) from by omega)⟩ (fun u_ H locs hp hP hD hS => ?_)
  have hP : va_P D.1 clAll [(t, .inr (1, [.ref a, .ref c])), (c, .inr (3, [.ref v3, .int (iI ((un S : Nat) : Int)), .int (zI false)])), (v3, .inl (D.2 2, n2, .inr (.inl (wd S)))), (a, .inr (2, [.int (iI ((w : Nat) : Int)), .int (iI ((g : Nat) : Int)), .ref b])), (b, .inr (3, [.ref v, .int (iI ((un ((thR w g P).2) : Nat) : Int)), .int (zI false)])), (v, .inl (D.2 2, n, .inr (.inl (wd ((thR w g P).2)))))] H := hP
  have hD : va_D A [(t, .inr (1, [.ref a, .ref c])), (c, .inr (3, [.ref v3, .int (iI ((un S : Nat) : Int)), .int (zI false)])), (v3, .inl (D.2 2, n2, .inr (.inl (wd S)))), (a, .inr (2, [.int (iI ((w : Nat) : Int)), .int (iI ((g : Nat) : Int)), .ref b])), (b, .inr (3, [.ref v, .int (iI ((un ((thR w g P).2) : Nat) : Int)), .int (zI false)])), (v, .inl (D.2 2, n, .inr (.inl (wd ((thR w g P).2)))))] := hD
  refine W.eq (g2 := F0 m0 7 ls [.int (iI (((thR w g P).1 : Nat) : Int))]) rfl ?_
  refine W.widen (k := 0 + (4 + 5 * fb_ct P (w * g))) (n := 0 + (8 + 38 * fb_ct P (w * g))) (Nat.le_refl _) (Nat.le_refl _) ?_
  subst hQ
  exact tm_iret C () trivial (hP.sub [0, 3, 4, 5, 1, 2] rfl) (hD.sub [0, 3, 4, 5, 1, 2] (by decide) rfl) hS (show 0 + (4 + 5 * fb_ct P (w * g)) ≤ 4 + 5 * fb_ct P (w * g) from by omega) (show 0 + (8 + 38 * fb_ct P (w * g)) ≤ 8 + 38 * fb_ct P (w * g) from by omega) rfl rfl dX1_thin_7
set_option maxHeartbeats 4000000 in
set_option maxRecDepth 100000 in
theorem met_X1_invert (l : Launch) (D : TG) (E : TE) (t : Nat) (a : Nat) (b : Nat) (v : Nat) (n : Nat) (w : Nat) (g : Nat) (P : Nat → Bool) (c : Nat) (v3 : Nat) (n2 : Nat) (S : Nat → Bool) (hw : 1 ≤ w ∧ w ≤ 32) (hg : 1 ≤ g ∧ g ≤ 32) (hB : BB P n) (hB2 : BB S n2) (hPz : ∀ j_, w * g ≤ j_ → P j_ = false) (hSz : ∀ j_, w * g ≤ j_ → S j_ = false) : tMet l yX1_invert cX1_invert 1 (some .int) 5 135 (1) (30) [.ref t] D E [(t, .inr (1, [.ref a, .ref c])), (a, .inr (2, [.int (iI ((w : Nat) : Int)), .int (iI ((g : Nat) : Int)), .ref b])), (b, .inr (3, [.ref v, .int (iI ((un P : Nat) : Int)), .int (zI false)])), (v, .inl (D.2 2, n, .inr (.inl (wd P)))), (c, .inr (3, [.ref v3, .int (iI ((un S : Nat) : Int)), .int (zI false)])), (v3, .inl (D.2 2, n2, .inr (.inl (wd S))))] tY0 (S := Nat) (fun u_ => True) (fun u_ => some (.int (iI ((fb_ct (flp P (w * g)) 1024 : Nat) : Int)))) (fun u_ => [(t, .inr (1, [.ref a, .ref c])), (a, .inr (2, [.int (iI ((w : Nat) : Int)), .int (iI ((g : Nat) : Int)), .ref b])), (b, .inr (3, [.ref u_, .int (iI ((un (flp P (w * g)) : Nat) : Int)), .int (zI false)])), (u_, .inl (D.2 2, gN n ((w * g - 1) / 64 + 1), .inr (.inl (wd (flp P (w * g)))))), (c, .inr (3, [.ref v3, .int (iI ((un S : Nat) : Int)), .int (zI false)])), (v3, .inl (D.2 2, n2, .inr (.inl (wd S))))]) := by
  refine tu_met (by decide +kernel) (Nat.le_of_ble_eq_true rfl) ?_
  intro p0 e0 s0 m0 below meth c0 A ls args Q hag hQ C hK hX hY hP hD hA hAe hl
  obtain ⟨kx, kb, hml, hown, hts, -⟩ := id C
  have hS : va_S A s0.heap s0.heap [] := va_S.rf
  have hl : lv_has ls 1 [(0, .ref t)] := hl
  have hwg := wg_le hw hg
  have hBn := hB.1
  have hBm := hB.2.1
  have hul := un_le hB
  have hul2 := un_le hB2
  have hgc := gC_le n ((w * g - 1) / 64 + 1)
  have hgs := gS_le (n := n) (show (w * g - 1) / 64 + 1 ≤ 16 by omega)
  have hwg1 : 1 ≤ w * g := Nat.mul_pos hw.1 hg.1
  have hBf := BB_flp hB (show 1 ≤ w * g ∧ w * g ≤ 1024 by omega)
  have hPf : ∀ j_, w * g ≤ j_ → flp P (w * g) j_ = false := fun j_ h_ => by rw [flp, hPz j_ h_, decide_eq_false (by omega)]; rfl
  refine lv_aload_n kx kb dX1_invert_0 rfl (lv_at hl 0 rfl) ?_
  refine va_get (D := D.1) (ci := 1) (v := .ref a) (C := RX1) (T := TX1) (N := 2) kx kb hts in_X1 hown hK hP 0 rfl rfl 0 (by decide) (hts _ q152) (fun _ h9 => h9) rfl dX1_invert_1 ?_
  refine va_getN (D := D.1) (ci := 2) (v := .ref b) (C := RX2) (T := TX2) (N := 3) kx kb hts in_X2 hown hK hP 1 rfl rfl 2 (by decide) (va_Nw.use rfl (hX.1 _ q142 rfl)) (fun _ h9 => h9) rfl dX1_invert_4 ?_
  refine lv_iconst (v := iI 0) kx kb dX1_invert_7 rfl ?_
  refine lv_aload_n kx kb dX1_invert_8 rfl (lv_at hl 0 rfl) ?_
  refine va_get (D := D.1) (ci := 1) (v := .ref a) (C := RX1) (T := TX1) (N := 2) kx kb hts in_X1 hown hK hP 0 rfl rfl 0 (by decide) (hts _ q152) (fun _ h9 => h9) rfl dX1_invert_9 ?_
  refine t_callRV C (met_X2_cells l D E a b w g (by first | assumption | omega) (by first | assumption | omega)) (cwV 0 hts (lw_V q163 q164 q165 q60 q166) rfl rfl rfl (by decide +kernel) ⟨Nat.le_of_ble_eq_true rfl, Nat.le_of_ble_eq_true rfl⟩) (va_recv hK hP (ci := 2) (q0 := 1) rfl rfl) hK hX hP hD hS hA [1] rfl (by decide) tYb_0 (fun _ _ _ => trivial) rfl hl.1 rfl (Nat.le_of_ble_eq_true rfl) dX1_invert_12 ⟨(show 0 ≤ 1 from by omega), (show 0 ≤ 30 from by omega)⟩ ?_
  refine W.eq (g2 := F0 m0 15 ls [.int (iI ((w * g : Nat) : Int)), .int (iI 0), .ref b]) rfl ?_
  refine t_callV (wr := [(t, .inr (1, [.ref a, .ref c])), (a, .inr (2, [.int (iI ((w : Nat) : Int)), .int (iI ((g : Nat) : Int)), .ref b])), (c, .inr (3, [.ref v3, .int (iI ((un S : Nat) : Int)), .int (zI false)])), (v3, .inl (D.2 2, n2, .inr (.inl (wd S))))]) C (met_J0_flip l D E b v n P (w * g) (by first | assumption | omega) (by first | assumption | omega)) (cwV 2 hts (lw_V q167 q168 q169 q61 q170) rfl rfl rfl (by decide +kernel) ⟨Nat.le_of_ble_eq_true rfl, Nat.le_of_ble_eq_true rfl⟩) (va_recv hK hP (ci := 3) (q0 := 2) rfl rfl) hK hX hP hD hS hA [2, 3] [0, 1, 4, 5] rfl rfl (by decide) (by decide) (by decide) tYb_0 (fun _ _ _ => trivial) rfl hl.1 rfl (Nat.le_of_ble_eq_true rfl) dX1_invert_15 ⟨(show 0 + (gC n (((w * g) - 1) / 64 + 1)) ≤ 1 from by omega), (show 0 + (gS n (((w * g) - 1) / 64 + 1)) ≤ 30 from by omega)⟩ (fun u_ H locs hp hP hD hS => ?_)
  obtain ⟨w2_1, rfl⟩ : ∃ z, z = u_ := ⟨_, rfl⟩
  have hP : va_P D.1 clAll [(t, .inr (1, [.ref a, .ref c])), (a, .inr (2, [.int (iI ((w : Nat) : Int)), .int (iI ((g : Nat) : Int)), .ref b])), (c, .inr (3, [.ref v3, .int (iI ((un S : Nat) : Int)), .int (zI false)])), (v3, .inl (D.2 2, n2, .inr (.inl (wd S)))), (b, .inr (3, [.ref w2_1, .int (iI ((un (flp P (w * g)) : Nat) : Int)), .int (zI false)])), (w2_1, .inl (D.2 2, gN n (((w * g) - 1) / 64 + 1), .inr (.inl (wd (flp P (w * g))))))] H := hP
  have hD : va_D A [(t, .inr (1, [.ref a, .ref c])), (a, .inr (2, [.int (iI ((w : Nat) : Int)), .int (iI ((g : Nat) : Int)), .ref b])), (c, .inr (3, [.ref v3, .int (iI ((un S : Nat) : Int)), .int (zI false)])), (v3, .inl (D.2 2, n2, .inr (.inl (wd S)))), (b, .inr (3, [.ref w2_1, .int (iI ((un (flp P (w * g)) : Nat) : Int)), .int (zI false)])), (w2_1, .inl (D.2 2, gN n (((w * g) - 1) / 64 + 1), .inr (.inl (wd (flp P (w * g))))))] := hD
  refine W.eq (g2 := F0 m0 18 ls []) rfl ?_
  refine W.widen (k := 0 + (gC n (((w * g) - 1) / 64 + 1))) (n := 0 + (gS n (((w * g) - 1) / 64 + 1))) (Nat.le_refl _) (Nat.le_refl _) ?_
  refine lv_aload_n kx kb dX1_invert_18 rfl (lv_at hl 0 rfl) ?_
  refine t_callRV C (met_X1_ink l D E t a b w2_1 (gN n (((w * g) - 1) / 64 + 1)) w g (flp P (w * g)) c v3 n2 S (by first | assumption | omega) (by first | assumption | omega) (hBf) (by first | assumption | omega) (hPf) (by first | assumption | omega)) (cwV 0 hts (lw_V q531 q532 q533 q59 q534) rfl rfl rfl (by decide +kernel) ⟨Nat.le_of_ble_eq_true rfl, Nat.le_of_ble_eq_true rfl⟩) (va_recv hK hP (ci := 1) (q0 := 0) rfl rfl) hK hX hP hD hS hA [0, 1, 4, 5, 2, 3] rfl (by decide) tYb_0 (fun _ _ _ => trivial) rfl hl.1 rfl (Nat.le_of_ble_eq_true rfl) dX1_invert_19 ⟨(show 0 + (gC n (((w * g) - 1) / 64 + 1)) ≤ 1 from by omega), (show 0 + (gS n (((w * g) - 1) / 64 + 1)) ≤ 30 from by omega)⟩ ?_
  refine W.eq (g2 := F0 m0 22 ls [.int (iI ((fb_ct (flp P (w * g)) 1024 : Nat) : Int))]) rfl ?_
  subst hQ
  exact tm_iret C w2_1 trivial (hP.sub [0, 1, 4, 5, 2, 3] rfl) (hD.sub [0, 1, 4, 5, 2, 3] (by decide) rfl) hS (show 0 + (gC n (((w * g) - 1) / 64 + 1)) ≤ 1 from by omega) (show 0 + (gS n (((w * g) - 1) / 64 + 1)) ≤ 30 from by omega) rfl rfl dX1_invert_22
set_option maxHeartbeats 4000000 in
set_option maxRecDepth 100000 in
theorem met_X1_store (l : Launch) (D : TG) (E : TE) (t : Nat) (a : Nat) (b : Nat) (v : Nat) (n : Nat) (w : Nat) (g : Nat) (P : Nat → Bool) (c : Nat) (v3 : Nat) (n2 : Nat) (S : Nat → Bool) (hw : 1 ≤ w ∧ w ≤ 32) (hg : 1 ≤ g ∧ g ≤ 32) (hB : BB P n) (hB2 : BB S n2) (hPz : ∀ j_, w * g ≤ j_ → P j_ = false) (hSz : ∀ j_, w * g ≤ j_ → S j_ = false) : tMet l yX1_store cX1_store 2 (some .int) 6 150 (9) (104) [.ref t] D E [(t, .inr (1, [.ref a, .ref c])), (a, .inr (2, [.int (iI ((w : Nat) : Int)), .int (iI ((g : Nat) : Int)), .ref b])), (b, .inr (3, [.ref v, .int (iI ((un P : Nat) : Int)), .int (zI false)])), (v, .inl (D.2 2, n, .inr (.inl (wd P)))), (c, .inr (3, [.ref v3, .int (iI ((un S : Nat) : Int)), .int (zI false)])), (v3, .inl (D.2 2, n2, .inr (.inl (wd S))))] tY0 (S := Nat × Nat) (fun u_ => True) (fun u_ => some (.int (iI ((fb_ct (xorB P S) 1024 : Nat) : Int)))) (fun u_ => [(t, .inr (1, [.ref a, .ref u_.1])), (a, .inr (2, [.int (iI ((w : Nat) : Int)), .int (iI ((g : Nat) : Int)), .ref b])), (b, .inr (3, [.ref v, .int (iI ((un P : Nat) : Int)), .int (zI false)])), (v, .inl (D.2 2, n, .inr (.inl (wd P)))), (u_.1, .inr (3, [.ref u_.2, .int (iI ((un P : Nat) : Int)), .int (zI false)])), (u_.2, .inl (D.2 2, gN 1 (un P), .inr (.inl (wd P))))]) := by
  refine tu_met (by decide +kernel) (Nat.le_of_ble_eq_true rfl) ?_
  intro p0 e0 s0 m0 below meth c0 A ls args Q hag hQ C hK hX hY hP hD hA hAe hl
  obtain ⟨kx, kb, hml, hown, hts, -⟩ := id C
  have hS : va_S A s0.heap s0.heap [] := va_S.rf
  have hl : lv_has ls 2 [(0, .ref t)] := hl
  have hwg := wg_le hw hg
  have hBn := hB.1
  have hBm := hB.2.1
  have hul := un_le hB
  have hul2 := un_le hB2
  refine lv_aload_n kx kb dX1_store_0 rfl (lv_at hl 0 rfl) ?_
  refine va_get (D := D.1) (ci := 1) (v := .ref a) (C := RX1) (T := TX1) (N := 2) kx kb hts in_X1 hown hK hP 0 rfl rfl 0 (by decide) (hts _ q152) (fun _ h9 => h9) rfl dX1_store_1 ?_
  refine lv_aload_n kx kb dX1_store_4 rfl (lv_at hl 0 rfl) ?_
  refine va_get (D := D.1) (ci := 1) (v := .ref c) (C := RX1) (T := TX1) (N := 2) kx kb hts in_X1 hown hK hP 0 rfl rfl 1 (by decide) (hts _ q153) (fun _ h9 => h9) rfl dX1_store_5 ?_
  refine t_callV (wr := [(t, .inr (1, [.ref a, .ref c]))]) C (met_X2_changes l D E a b v n w g P c v3 n2 S (by first | assumption | omega) (by first | assumption | omega) (by first | assumption | omega) (by first | assumption | omega)) (cwV 1 hts (lw_V q549 q550 q551 q60 q552) rfl rfl rfl (by decide +kernel) ⟨Nat.le_of_ble_eq_true rfl, Nat.le_of_ble_eq_true rfl⟩) (va_recv hK hP (ci := 2) (q0 := 1) rfl rfl) hK hX hP hD hS hA [1, 2, 3, 4, 5] [0] rfl rfl (by decide) (by decide) (by decide) tYb_0 (fun _ _ _ => trivial) rfl hl.1 rfl (Nat.le_of_ble_eq_true rfl) dX1_store_8 ⟨(show 5 ≤ 9 from by omega), (show 67 ≤ 104 from by omega)⟩ (fun u_ H locs hp hP hD hS => ?_)
  have hP : va_P D.1 clAll [(t, .inr (1, [.ref a, .ref c])), (a, .inr (2, [.int (iI ((w : Nat) : Int)), .int (iI ((g : Nat) : Int)), .ref b])), (b, .inr (3, [.ref v, .int (iI ((un P : Nat) : Int)), .int (zI false)])), (v, .inl (D.2 2, n, .inr (.inl (wd P)))), (c, .inr (3, [.ref v3, .int (iI ((un S : Nat) : Int)), .int (zI false)])), (v3, .inl (D.2 2, n2, .inr (.inl (wd S))))] H := hP
  have hD : va_D A [(t, .inr (1, [.ref a, .ref c])), (a, .inr (2, [.int (iI ((w : Nat) : Int)), .int (iI ((g : Nat) : Int)), .ref b])), (b, .inr (3, [.ref v, .int (iI ((un P : Nat) : Int)), .int (zI false)])), (v, .inl (D.2 2, n, .inr (.inl (wd P)))), (c, .inr (3, [.ref v3, .int (iI ((un S : Nat) : Int)), .int (zI false)])), (v3, .inl (D.2 2, n2, .inr (.inl (wd S))))] := hD
  refine W.eq (g2 := F0 m0 11 ls [.int (iI ((fb_ct (xorB P S) 1024 : Nat) : Int))]) rfl ?_
  refine W.widen (k := 5) (n := 67) (Nat.le_refl _) (Nat.le_refl _) ?_
  refine lv_istore_n (lv' := [(1, .int (iI ((fb_ct (xorB P S) 1024 : Nat) : Int))), (0, .ref t)]) kx kb dX1_store_11 rfl hl (by decide) rfl (fun ls hl => ?_)
  refine lv_aload_n kx kb dX1_store_12 rfl (lv_at hl 1 rfl) ?_
  refine lv_aload_n kx kb dX1_store_13 rfl (lv_at hl 1 rfl) ?_
  refine va_get (D := D.1) (ci := 1) (v := .ref a) (C := RX1) (T := TX1) (N := 2) kx kb hts in_X1 hown hK hP 0 rfl rfl 0 (by decide) (hts _ q152) (fun _ h9 => h9) rfl dX1_store_14 ?_
  refine t_callV (wr := [(t, .inr (1, [.ref a, .ref c])), (c, .inr (3, [.ref v3, .int (iI ((un S : Nat) : Int)), .int (zI false)])), (v3, .inl (D.2 2, n2, .inr (.inl (wd S))))]) C (met_X2_like l D E a b v n w g P (by first | assumption | omega) (by first | assumption | omega) (by first | assumption | omega)) (cwV 0 hts (lw_V q569 q554 q555 q60 q556) rfl rfl rfl (by decide +kernel) ⟨Nat.le_of_ble_eq_true rfl, Nat.le_of_ble_eq_true rfl⟩) (va_recv hK hP (ci := 2) (q0 := 1) rfl rfl) hK hX hP hD hS hA [1, 2, 3] [0, 4, 5] rfl rfl (by decide) (by decide) (by decide) tYb_0 (fun _ _ _ => trivial) rfl hl.1 rfl (Nat.le_of_ble_eq_true rfl) dX1_store_17 ⟨(show 9 ≤ 9 from by omega), (show 104 ≤ 104 from by omega)⟩ (fun u_ H locs hp hP hD hS => ?_)
  obtain ⟨a2_1, b2_2, v2_3⟩ := u_
  have hP : va_P D.1 clAll [(t, .inr (1, [.ref a, .ref c])), (c, .inr (3, [.ref v3, .int (iI ((un S : Nat) : Int)), .int (zI false)])), (v3, .inl (D.2 2, n2, .inr (.inl (wd S)))), (a, .inr (2, [.int (iI ((w : Nat) : Int)), .int (iI ((g : Nat) : Int)), .ref b])), (b, .inr (3, [.ref v, .int (iI ((un P : Nat) : Int)), .int (zI false)])), (v, .inl (D.2 2, n, .inr (.inl (wd P)))), (a2_1, .inr (2, [.int (iI ((w : Nat) : Int)), .int (iI ((g : Nat) : Int)), .ref b2_2])), (b2_2, .inr (3, [.ref v2_3, .int (iI ((un P : Nat) : Int)), .int (zI false)])), (v2_3, .inl (D.2 2, gN 1 (un P), .inr (.inl (wd P))))] H := hP
  have hD : va_D A [(t, .inr (1, [.ref a, .ref c])), (c, .inr (3, [.ref v3, .int (iI ((un S : Nat) : Int)), .int (zI false)])), (v3, .inl (D.2 2, n2, .inr (.inl (wd S)))), (a, .inr (2, [.int (iI ((w : Nat) : Int)), .int (iI ((g : Nat) : Int)), .ref b])), (b, .inr (3, [.ref v, .int (iI ((un P : Nat) : Int)), .int (zI false)])), (v, .inl (D.2 2, n, .inr (.inl (wd P)))), (a2_1, .inr (2, [.int (iI ((w : Nat) : Int)), .int (iI ((g : Nat) : Int)), .ref b2_2])), (b2_2, .inr (3, [.ref v2_3, .int (iI ((un P : Nat) : Int)), .int (zI false)])), (v2_3, .inl (D.2 2, gN 1 (un P), .inr (.inl (wd P))))] := hD
  refine W.eq (g2 := F0 m0 20 ls [.ref a2_1, .ref t]) rfl ?_
  refine W.widen (k := 9) (n := 104) (Nat.le_refl _) (Nat.le_refl _) ?_
  refine va_getN (D := D.1) (ci := 2) (v := .ref b2_2) (C := RX2) (T := TX2) (N := 3) kx kb hts in_X2 hown hK hP 6 rfl rfl 2 (by decide) (va_Nw.use rfl (hX.1 _ q142 rfl)) (fun _ h9 => h9) rfl dX1_store_20 ?_
  refine va_put (D := D.1) (ci := 1) (v := .ref b2_2) (ty := (.object "java/util/BitSet")) (C := RX1) (T := TX1) (N := 2) kx kb hts in_X1 tyX1 tyX1_ok nmX1 hown hK hP hD hS 0 rfl rfl 1 (by decide) (hts _ q153) (fun _ h9 => h9) rfl (by decide +kernel) rfl rfl (Nat.le_of_ble_eq_true rfl) dX1_store_23 (fun H locs hP hD hS => ?_)
  have hP : va_P D.1 clAll [(t, .inr (1, [.ref a, .ref b2_2])), (c, .inr (3, [.ref v3, .int (iI ((un S : Nat) : Int)), .int (zI false)])), (v3, .inl (D.2 2, n2, .inr (.inl (wd S)))), (a, .inr (2, [.int (iI ((w : Nat) : Int)), .int (iI ((g : Nat) : Int)), .ref b])), (b, .inr (3, [.ref v, .int (iI ((un P : Nat) : Int)), .int (zI false)])), (v, .inl (D.2 2, n, .inr (.inl (wd P)))), (a2_1, .inr (2, [.int (iI ((w : Nat) : Int)), .int (iI ((g : Nat) : Int)), .ref b2_2])), (b2_2, .inr (3, [.ref v2_3, .int (iI ((un P : Nat) : Int)), .int (zI false)])), (v2_3, .inl (D.2 2, gN 1 (un P), .inr (.inl (wd P))))] H := hP
  have hD : va_D A [(t, .inr (1, [.ref a, .ref b2_2])), (c, .inr (3, [.ref v3, .int (iI ((un S : Nat) : Int)), .int (zI false)])), (v3, .inl (D.2 2, n2, .inr (.inl (wd S)))), (a, .inr (2, [.int (iI ((w : Nat) : Int)), .int (iI ((g : Nat) : Int)), .ref b])), (b, .inr (3, [.ref v, .int (iI ((un P : Nat) : Int)), .int (zI false)])), (v, .inl (D.2 2, n, .inr (.inl (wd P)))), (a2_1, .inr (2, [.int (iI ((w : Nat) : Int)), .int (iI ((g : Nat) : Int)), .ref b2_2])), (b2_2, .inr (3, [.ref v2_3, .int (iI ((un P : Nat) : Int)), .int (zI false)])), (v2_3, .inl (D.2 2, gN 1 (un P), .inr (.inl (wd P))))] := hD
  refine lv_iload_n kx kb dX1_store_26 rfl (lv_at hl 0 rfl) ?_
  subst hQ
  exact tm_iret C (b2_2, v2_3) trivial (hP.sub [0, 3, 4, 5, 7, 8] rfl) (hD.sub [0, 3, 4, 5, 7, 8] (by decide) rfl) hS (show 9 ≤ 9 from by omega) (show 104 ≤ 104 from by omega) rfl rfl dX1_store_27
set_option maxHeartbeats 4000000 in
set_option maxRecDepth 100000 in
theorem met_X1_stepsToThin (l : Launch) (D : TG) (E : TE) (t : Nat) (a : Nat) (b : Nat) (v : Nat) (n : Nat) (w : Nat) (g : Nat) (P : Nat → Bool) (c : Nat) (v3 : Nat) (n2 : Nat) (S : Nat → Bool) (hw : 1 ≤ w ∧ w ≤ 32) (hg : 1 ≤ g ∧ g ≤ 32) (hB : BB P n) (hB2 : BB S n2) (hPz : ∀ j_, w * g ≤ j_ → P j_ = false) (hSz : ∀ j_, w * g ≤ j_ → S j_ = false) : tMet l yX1_stepsToThin cX1_stepsToThin 1 (some .int) 8 194 (8 + 5 * fb_ct P (w * g)) (45 + 38 * fb_ct P (w * g)) [.ref t] D E [(t, .inr (1, [.ref a, .ref c])), (a, .inr (2, [.int (iI ((w : Nat) : Int)), .int (iI ((g : Nat) : Int)), .ref b])), (b, .inr (3, [.ref v, .int (iI ((un P : Nat) : Int)), .int (zI false)])), (v, .inl (D.2 2, n, .inr (.inl (wd P)))), (c, .inr (3, [.ref v3, .int (iI ((un S : Nat) : Int)), .int (zI false)])), (v3, .inl (D.2 2, n2, .inr (.inl (wd S))))] tY0 (S := Unit) (fun u_ => True) (fun u_ => some (.int (iI (((thR w g P).1 : Nat) : Int)))) (fun u_ => [(t, .inr (1, [.ref a, .ref c])), (a, .inr (2, [.int (iI ((w : Nat) : Int)), .int (iI ((g : Nat) : Int)), .ref b])), (b, .inr (3, [.ref v, .int (iI ((un P : Nat) : Int)), .int (zI false)])), (v, .inl (D.2 2, n, .inr (.inl (wd P)))), (c, .inr (3, [.ref v3, .int (iI ((un S : Nat) : Int)), .int (zI false)])), (v3, .inl (D.2 2, n2, .inr (.inl (wd S))))]) := by
  refine tu_met (by decide +kernel) (Nat.le_of_ble_eq_true rfl) ?_
  intro p0 e0 s0 m0 below meth c0 A ls args Q hag hQ C hK hX hY hP hD hA hAe hl
  obtain ⟨kx, kb, hml, hown, hts, -⟩ := id C
  have hS : va_S A s0.heap s0.heap [] := va_S.rf
  have hl : lv_has ls 1 [(0, .ref t)] := hl
  have hwg := wg_le hw hg
  have hBn := hB.1
  have hBm := hB.2.1
  have hul := un_le hB
  have hul2 := un_le hB2
  have hB3 : BB P (gN 1 (un P)) := by have h := BB_or (BB_none (n := 1) (by omega)) hB; rw [orB_none] at h; exact h
  refine lv_aload_n kx kb dX1_stepsToThin_0 rfl (lv_at hl 0 rfl) ?_
  refine va_get (D := D.1) (ci := 1) (v := .ref a) (C := RX1) (T := TX1) (N := 2) kx kb hts in_X1 hown hK hP 0 rfl rfl 0 (by decide) (hts _ q152) (fun _ h9 => h9) rfl dX1_stepsToThin_1 ?_
  refine t_callV (wr := [(t, .inr (1, [.ref a, .ref c])), (c, .inr (3, [.ref v3, .int (iI ((un S : Nat) : Int)), .int (zI false)])), (v3, .inl (D.2 2, n2, .inr (.inl (wd S))))]) C (met_X2_like l D E a b v n w g P (by first | assumption | omega) (by first | assumption | omega) (by first | assumption | omega)) (cwV 0 hts (lw_V q569 q554 q555 q60 q556) rfl rfl rfl (by decide +kernel) ⟨Nat.le_of_ble_eq_true rfl, Nat.le_of_ble_eq_true rfl⟩) (va_recv hK hP (ci := 2) (q0 := 1) rfl rfl) hK hX hP hD hS hA [1, 2, 3] [0, 4, 5] rfl rfl (by decide) (by decide) (by decide) tYb_0 (fun _ _ _ => trivial) rfl hl.1 rfl (Nat.le_of_ble_eq_true rfl) dX1_stepsToThin_4 ⟨(show 4 ≤ 8 + 5 * fb_ct P (w * g) from by omega), (show 37 ≤ 45 + 38 * fb_ct P (w * g) from by omega)⟩ (fun u_ H locs hp hP hD hS => ?_)
  obtain ⟨a2_1, b2_2, v2_3⟩ := u_
  have hP : va_P D.1 clAll [(t, .inr (1, [.ref a, .ref c])), (c, .inr (3, [.ref v3, .int (iI ((un S : Nat) : Int)), .int (zI false)])), (v3, .inl (D.2 2, n2, .inr (.inl (wd S)))), (a, .inr (2, [.int (iI ((w : Nat) : Int)), .int (iI ((g : Nat) : Int)), .ref b])), (b, .inr (3, [.ref v, .int (iI ((un P : Nat) : Int)), .int (zI false)])), (v, .inl (D.2 2, n, .inr (.inl (wd P)))), (a2_1, .inr (2, [.int (iI ((w : Nat) : Int)), .int (iI ((g : Nat) : Int)), .ref b2_2])), (b2_2, .inr (3, [.ref v2_3, .int (iI ((un P : Nat) : Int)), .int (zI false)])), (v2_3, .inl (D.2 2, gN 1 (un P), .inr (.inl (wd P))))] H := hP
  have hD : va_D A [(t, .inr (1, [.ref a, .ref c])), (c, .inr (3, [.ref v3, .int (iI ((un S : Nat) : Int)), .int (zI false)])), (v3, .inl (D.2 2, n2, .inr (.inl (wd S)))), (a, .inr (2, [.int (iI ((w : Nat) : Int)), .int (iI ((g : Nat) : Int)), .ref b])), (b, .inr (3, [.ref v, .int (iI ((un P : Nat) : Int)), .int (zI false)])), (v, .inl (D.2 2, n, .inr (.inl (wd P)))), (a2_1, .inr (2, [.int (iI ((w : Nat) : Int)), .int (iI ((g : Nat) : Int)), .ref b2_2])), (b2_2, .inr (3, [.ref v2_3, .int (iI ((un P : Nat) : Int)), .int (zI false)])), (v2_3, .inl (D.2 2, gN 1 (un P), .inr (.inl (wd P))))] := hD
  refine W.eq (g2 := F0 m0 7 ls [.ref a2_1]) rfl ?_
  refine W.widen (k := 4) (n := 37) (Nat.le_refl _) (Nat.le_refl _) ?_
  refine t_callV (wr := [(t, .inr (1, [.ref a, .ref c])), (c, .inr (3, [.ref v3, .int (iI ((un S : Nat) : Int)), .int (zI false)])), (v3, .inl (D.2 2, n2, .inr (.inl (wd S)))), (a, .inr (2, [.int (iI ((w : Nat) : Int)), .int (iI ((g : Nat) : Int)), .ref b])), (b, .inr (3, [.ref v, .int (iI ((un P : Nat) : Int)), .int (zI false)])), (v, .inl (D.2 2, n, .inr (.inl (wd P))))]) C (met_X2_thin l D E a2_1 b2_2 v2_3 (gN 1 (un P)) w g P (by first | assumption | omega) (by first | assumption | omega) (hB3) (by first | assumption | omega)) (cwV 0 hts (lw_V q574 q575 q576 q60 q577) rfl rfl rfl (by decide +kernel) ⟨Nat.le_of_ble_eq_true rfl, Nat.le_of_ble_eq_true rfl⟩) (va_recv hK hP (ci := 2) (q0 := 6) rfl rfl) hK hX hP hD hS hA [6, 7, 8] [0, 1, 2, 3, 4, 5] rfl rfl (by decide) (by decide) (by decide) tYb_0 (fun _ _ _ => trivial) rfl hl.1 rfl (Nat.le_of_ble_eq_true rfl) dX1_stepsToThin_7 ⟨(show 4 + (4 + 5 * fb_ct P (w * g)) ≤ 8 + 5 * fb_ct P (w * g) from by omega), (show 37 + (8 + 38 * fb_ct P (w * g)) ≤ 45 + 38 * fb_ct P (w * g) from by omega)⟩ (fun u_ H locs hp hP hD hS => ?_)
  have hP : va_P D.1 clAll [(t, .inr (1, [.ref a, .ref c])), (c, .inr (3, [.ref v3, .int (iI ((un S : Nat) : Int)), .int (zI false)])), (v3, .inl (D.2 2, n2, .inr (.inl (wd S)))), (a, .inr (2, [.int (iI ((w : Nat) : Int)), .int (iI ((g : Nat) : Int)), .ref b])), (b, .inr (3, [.ref v, .int (iI ((un P : Nat) : Int)), .int (zI false)])), (v, .inl (D.2 2, n, .inr (.inl (wd P)))), (a2_1, .inr (2, [.int (iI ((w : Nat) : Int)), .int (iI ((g : Nat) : Int)), .ref b2_2])), (b2_2, .inr (3, [.ref v2_3, .int (iI ((un ((thR w g P).2) : Nat) : Int)), .int (zI false)])), (v2_3, .inl (D.2 2, (gN 1 (un P)), .inr (.inl (wd ((thR w g P).2)))))] H := hP
  have hD : va_D A [(t, .inr (1, [.ref a, .ref c])), (c, .inr (3, [.ref v3, .int (iI ((un S : Nat) : Int)), .int (zI false)])), (v3, .inl (D.2 2, n2, .inr (.inl (wd S)))), (a, .inr (2, [.int (iI ((w : Nat) : Int)), .int (iI ((g : Nat) : Int)), .ref b])), (b, .inr (3, [.ref v, .int (iI ((un P : Nat) : Int)), .int (zI false)])), (v, .inl (D.2 2, n, .inr (.inl (wd P)))), (a2_1, .inr (2, [.int (iI ((w : Nat) : Int)), .int (iI ((g : Nat) : Int)), .ref b2_2])), (b2_2, .inr (3, [.ref v2_3, .int (iI ((un ((thR w g P).2) : Nat) : Int)), .int (zI false)])), (v2_3, .inl (D.2 2, (gN 1 (un P)), .inr (.inl (wd ((thR w g P).2)))))] := hD
  refine W.eq (g2 := F0 m0 10 ls [.int (iI (((thR w g P).1 : Nat) : Int))]) rfl ?_
  refine W.widen (k := 4 + (4 + 5 * fb_ct P (w * g))) (n := 37 + (8 + 38 * fb_ct P (w * g))) (Nat.le_refl _) (Nat.le_refl _) ?_
  subst hQ
  exact tm_iret C () trivial (hP.sub [0, 3, 4, 5, 1, 2] rfl) (hD.sub [0, 3, 4, 5, 1, 2] (by decide) rfl) hS (show 4 + (4 + 5 * fb_ct P (w * g)) ≤ 8 + 5 * fb_ct P (w * g) from by omega) (show 37 + (8 + 38 * fb_ct P (w * g)) ≤ 45 + 38 * fb_ct P (w * g) from by omega) rfl rfl dX1_stepsToThin_10
set_option maxHeartbeats 4000000 in
set_option maxRecDepth 100000 in
theorem met_X1_thinned (l : Launch) (D : TG) (E : TE) (t : Nat) (a : Nat) (b : Nat) (v : Nat) (n : Nat) (w : Nat) (g : Nat) (P : Nat → Bool) (c : Nat) (v3 : Nat) (n2 : Nat) (S : Nat → Bool) (hw : 1 ≤ w ∧ w ≤ 32) (hg : 1 ≤ g ∧ g ≤ 32) (hB : BB P n) (hB2 : BB S n2) (hPz : ∀ j_, w * g ≤ j_ → P j_ = false) (hSz : ∀ j_, w * g ≤ j_ → S j_ = false) : tMet l yX1_thinned cX1_thinned 3 (some .int) 8 194 (8 + 5 * fb_ct P (w * g)) (45 + 38 * fb_ct P (w * g)) [.ref t] D E [(t, .inr (1, [.ref a, .ref c])), (a, .inr (2, [.int (iI ((w : Nat) : Int)), .int (iI ((g : Nat) : Int)), .ref b])), (b, .inr (3, [.ref v, .int (iI ((un P : Nat) : Int)), .int (zI false)])), (v, .inl (D.2 2, n, .inr (.inl (wd P)))), (c, .inr (3, [.ref v3, .int (iI ((un S : Nat) : Int)), .int (zI false)])), (v3, .inl (D.2 2, n2, .inr (.inl (wd S))))] tY0 (S := Unit) (fun u_ => True) (fun u_ => some (.int (iI ((fb_ct (thR w g P).2 1024 : Nat) : Int)))) (fun u_ => [(t, .inr (1, [.ref a, .ref c])), (a, .inr (2, [.int (iI ((w : Nat) : Int)), .int (iI ((g : Nat) : Int)), .ref b])), (b, .inr (3, [.ref v, .int (iI ((un P : Nat) : Int)), .int (zI false)])), (v, .inl (D.2 2, n, .inr (.inl (wd P)))), (c, .inr (3, [.ref v3, .int (iI ((un S : Nat) : Int)), .int (zI false)])), (v3, .inl (D.2 2, n2, .inr (.inl (wd S))))]) := by
  refine tu_met (by decide +kernel) (Nat.le_of_ble_eq_true rfl) ?_
  intro p0 e0 s0 m0 below meth c0 A ls args Q hag hQ C hK hX hY hP hD hA hAe hl
  obtain ⟨kx, kb, hml, hown, hts, -⟩ := id C
  have hS : va_S A s0.heap s0.heap [] := va_S.rf
  have hl : lv_has ls 3 [(0, .ref t)] := hl
  have hwg := wg_le hw hg
  have hBn := hB.1
  have hBm := hB.2.1
  have hul := un_le hB
  have hul2 := un_le hB2
  have hB3 : BB P (gN 1 (un P)) := by have h := BB_or (BB_none (n := 1) (by omega)) hB; rw [orB_none] at h; exact h
  have hB4 : BB (thR w g P).2 (gN 1 (un P)) := thR_BB hB3 hPz
  refine lv_aload_n kx kb dX1_thinned_0 rfl (lv_at hl 0 rfl) ?_
  refine va_get (D := D.1) (ci := 1) (v := .ref a) (C := RX1) (T := TX1) (N := 2) kx kb hts in_X1 hown hK hP 0 rfl rfl 0 (by decide) (hts _ q152) (fun _ h9 => h9) rfl dX1_thinned_1 ?_
  refine t_callV (wr := [(t, .inr (1, [.ref a, .ref c])), (c, .inr (3, [.ref v3, .int (iI ((un S : Nat) : Int)), .int (zI false)])), (v3, .inl (D.2 2, n2, .inr (.inl (wd S))))]) C (met_X2_like l D E a b v n w g P (by first | assumption | omega) (by first | assumption | omega) (by first | assumption | omega)) (cwV 0 hts (lw_V q569 q554 q555 q60 q556) rfl rfl rfl (by decide +kernel) ⟨Nat.le_of_ble_eq_true rfl, Nat.le_of_ble_eq_true rfl⟩) (va_recv hK hP (ci := 2) (q0 := 1) rfl rfl) hK hX hP hD hS hA [1, 2, 3] [0, 4, 5] rfl rfl (by decide) (by decide) (by decide) tYb_0 (fun _ _ _ => trivial) rfl hl.1 rfl (Nat.le_of_ble_eq_true rfl) dX1_thinned_4 ⟨(show 4 ≤ 8 + 5 * fb_ct P (w * g) from by omega), (show 37 ≤ 45 + 38 * fb_ct P (w * g) from by omega)⟩ (fun u_ H locs hp hP hD hS => ?_)
  obtain ⟨a2_1, b2_2, v2_3⟩ := u_
  have hP : va_P D.1 clAll [(t, .inr (1, [.ref a, .ref c])), (c, .inr (3, [.ref v3, .int (iI ((un S : Nat) : Int)), .int (zI false)])), (v3, .inl (D.2 2, n2, .inr (.inl (wd S)))), (a, .inr (2, [.int (iI ((w : Nat) : Int)), .int (iI ((g : Nat) : Int)), .ref b])), (b, .inr (3, [.ref v, .int (iI ((un P : Nat) : Int)), .int (zI false)])), (v, .inl (D.2 2, n, .inr (.inl (wd P)))), (a2_1, .inr (2, [.int (iI ((w : Nat) : Int)), .int (iI ((g : Nat) : Int)), .ref b2_2])), (b2_2, .inr (3, [.ref v2_3, .int (iI ((un P : Nat) : Int)), .int (zI false)])), (v2_3, .inl (D.2 2, gN 1 (un P), .inr (.inl (wd P))))] H := hP
  have hD : va_D A [(t, .inr (1, [.ref a, .ref c])), (c, .inr (3, [.ref v3, .int (iI ((un S : Nat) : Int)), .int (zI false)])), (v3, .inl (D.2 2, n2, .inr (.inl (wd S)))), (a, .inr (2, [.int (iI ((w : Nat) : Int)), .int (iI ((g : Nat) : Int)), .ref b])), (b, .inr (3, [.ref v, .int (iI ((un P : Nat) : Int)), .int (zI false)])), (v, .inl (D.2 2, n, .inr (.inl (wd P)))), (a2_1, .inr (2, [.int (iI ((w : Nat) : Int)), .int (iI ((g : Nat) : Int)), .ref b2_2])), (b2_2, .inr (3, [.ref v2_3, .int (iI ((un P : Nat) : Int)), .int (zI false)])), (v2_3, .inl (D.2 2, gN 1 (un P), .inr (.inl (wd P))))] := hD
  refine W.eq (g2 := F0 m0 7 ls [.ref a2_1]) rfl ?_
  refine W.widen (k := 4) (n := 37) (Nat.le_refl _) (Nat.le_refl _) ?_
  refine lv_astore_n (lv' := [(1, .ref a2_1), (0, .ref t)]) kx kb dX1_thinned_7 rfl hl (by decide) rfl (fun ls hl => ?_)
  refine lv_aload_n kx kb dX1_thinned_8 rfl (lv_at hl 0 rfl) ?_
  refine t_callV (wr := [(t, .inr (1, [.ref a, .ref c])), (c, .inr (3, [.ref v3, .int (iI ((un S : Nat) : Int)), .int (zI false)])), (v3, .inl (D.2 2, n2, .inr (.inl (wd S)))), (a, .inr (2, [.int (iI ((w : Nat) : Int)), .int (iI ((g : Nat) : Int)), .ref b])), (b, .inr (3, [.ref v, .int (iI ((un P : Nat) : Int)), .int (zI false)])), (v, .inl (D.2 2, n, .inr (.inl (wd P))))]) C (met_X2_thin l D E a2_1 b2_2 v2_3 (gN 1 (un P)) w g P (by first | assumption | omega) (by first | assumption | omega) (hB3) (by first | assumption | omega)) (cwV 0 hts (lw_V q574 q575 q576 q60 q577) rfl rfl rfl (by decide +kernel) ⟨Nat.le_of_ble_eq_true rfl, Nat.le_of_ble_eq_true rfl⟩) (va_recv hK hP (ci := 2) (q0 := 6) rfl rfl) hK hX hP hD hS hA [6, 7, 8] [0, 1, 2, 3, 4, 5] rfl rfl (by decide) (by decide) (by decide) tYb_0 (fun _ _ _ => trivial) rfl hl.1 rfl (Nat.le_of_ble_eq_true rfl) dX1_thinned_9 ⟨(show 4 + (4 + 5 * fb_ct P (w * g)) ≤ 8 + 5 * fb_ct P (w * g) from by omega), (show 37 + (8 + 38 * fb_ct P (w * g)) ≤ 45 + 38 * fb_ct P (w * g) from by omega)⟩ (fun u_ H locs hp hP hD hS => ?_)
  have hP : va_P D.1 clAll [(t, .inr (1, [.ref a, .ref c])), (c, .inr (3, [.ref v3, .int (iI ((un S : Nat) : Int)), .int (zI false)])), (v3, .inl (D.2 2, n2, .inr (.inl (wd S)))), (a, .inr (2, [.int (iI ((w : Nat) : Int)), .int (iI ((g : Nat) : Int)), .ref b])), (b, .inr (3, [.ref v, .int (iI ((un P : Nat) : Int)), .int (zI false)])), (v, .inl (D.2 2, n, .inr (.inl (wd P)))), (a2_1, .inr (2, [.int (iI ((w : Nat) : Int)), .int (iI ((g : Nat) : Int)), .ref b2_2])), (b2_2, .inr (3, [.ref v2_3, .int (iI ((un ((thR w g P).2) : Nat) : Int)), .int (zI false)])), (v2_3, .inl (D.2 2, (gN 1 (un P)), .inr (.inl (wd ((thR w g P).2)))))] H := hP
  have hD : va_D A [(t, .inr (1, [.ref a, .ref c])), (c, .inr (3, [.ref v3, .int (iI ((un S : Nat) : Int)), .int (zI false)])), (v3, .inl (D.2 2, n2, .inr (.inl (wd S)))), (a, .inr (2, [.int (iI ((w : Nat) : Int)), .int (iI ((g : Nat) : Int)), .ref b])), (b, .inr (3, [.ref v, .int (iI ((un P : Nat) : Int)), .int (zI false)])), (v, .inl (D.2 2, n, .inr (.inl (wd P)))), (a2_1, .inr (2, [.int (iI ((w : Nat) : Int)), .int (iI ((g : Nat) : Int)), .ref b2_2])), (b2_2, .inr (3, [.ref v2_3, .int (iI ((un ((thR w g P).2) : Nat) : Int)), .int (zI false)])), (v2_3, .inl (D.2 2, (gN 1 (un P)), .inr (.inl (wd ((thR w g P).2)))))] := hD
  refine W.eq (g2 := F0 m0 12 ls [.int (iI (((thR w g P).1 : Nat) : Int))]) rfl ?_
  refine W.widen (k := 4 + (4 + 5 * fb_ct P (w * g))) (n := 37 + (8 + 38 * fb_ct P (w * g))) (Nat.le_refl _) (Nat.le_refl _) ?_
  refine lv_istore_n (lv' := [(2, .int (iI (((thR w g P).1 : Nat) : Int))), (1, .ref a2_1), (0, .ref t)]) kx kb dX1_thinned_12 rfl hl (by decide) rfl (fun ls hl => ?_)
  refine lv_aload_n kx kb dX1_thinned_13 rfl (lv_at hl 1 rfl) ?_
  refine va_getN (D := D.1) (ci := 2) (v := .ref b2_2) (C := RX2) (T := TX2) (N := 3) kx kb hts in_X2 hown hK hP 6 rfl rfl 2 (by decide) (va_Nw.use rfl (hX.1 _ q142 rfl)) (fun _ h9 => h9) rfl dX1_thinned_14 ?_
  refine t_callRV C (met_J0_cardinality l D E b2_2 v2_3 (gN 1 (un P)) ((thR w g P).2) (hB4)) (cwV 0 hts (lw_V q535 q536 q537 q61 q538) rfl rfl rfl (by decide +kernel) ⟨Nat.le_of_ble_eq_true rfl, Nat.le_of_ble_eq_true rfl⟩) (va_recv hK hP (ci := 3) (q0 := 7) rfl rfl) hK hX hP hD hS hA [7, 8] rfl (by decide) tYb_0 (fun _ _ _ => trivial) rfl hl.1 rfl (Nat.le_of_ble_eq_true rfl) dX1_thinned_17 ⟨(show 4 + (4 + 5 * fb_ct P (w * g)) ≤ 8 + 5 * fb_ct P (w * g) from by omega), (show 37 + (8 + 38 * fb_ct P (w * g)) ≤ 45 + 38 * fb_ct P (w * g) from by omega)⟩ ?_
  refine W.eq (g2 := F0 m0 20 ls [.int (iI ((fb_ct ((thR w g P).2) 1024 : Nat) : Int))]) rfl ?_
  subst hQ
  exact tm_iret C () trivial (hP.sub [0, 3, 4, 5, 1, 2] rfl) (hD.sub [0, 3, 4, 5, 1, 2] (by decide) rfl) hS (show 4 + (4 + 5 * fb_ct P (w * g)) ≤ 8 + 5 * fb_ct P (w * g) from by omega) (show 37 + (8 + 38 * fb_ct P (w * g)) ≤ 45 + 38 * fb_ct P (w * g) from by omega) rfl rfl dX1_thinned_20
set_option maxHeartbeats 4000000 in
set_option maxRecDepth 100000 in
theorem met_X1_init (l : Launch) (D : TG) (E : TE) (t : Nat) : tMet l yX1_init cX1_init 1 none 4 85 (5) (11) [.ref t] D E [(t, .inr (1, [.null, .null]))] tY0 (S := Nat × Nat × Nat × Nat × Nat) (fun u_ => True) (fun u_ => none) (fun u_ => [(t, .inr (1, [.ref u_.1, .ref u_.2.2.2.1])), (u_.1, .inr (2, [.int (iI ((8 : Nat) : Int)), .int (iI ((8 : Nat) : Int)), .ref u_.2.1])), (u_.2.1, .inr (3, [.ref u_.2.2.1, .int (iI ((un (fun _ => false) : Nat) : Int)), .int (zI false)])), (u_.2.2.1, .inl (D.2 2, 1, .inr (.inl (wd (fun _ => false))))), (u_.2.2.2.1, .inr (3, [.ref u_.2.2.2.2, .int (iI ((un (fun _ => false) : Nat) : Int)), .int (zI false)])), (u_.2.2.2.2, .inl (D.2 2, 1, .inr (.inl (wd (fun _ => false)))))]) := by
  refine tu_met (by decide +kernel) (Nat.le_of_ble_eq_true rfl) ?_
  intro p0 e0 s0 m0 below meth c0 A ls args Q hag hQ C hK hX hY hP hD hA hAe hl
  obtain ⟨kx, kb, hml, hown, hts, -⟩ := id C
  have hS : va_S A s0.heap s0.heap [] := va_S.rf
  have hl : lv_has ls 1 [(0, .ref t)] := hl
  refine lv_aload_n kx kb dX1_init_0 rfl (lv_at hl 0 rfl) ?_
  refine W.objInit kx kb hown (hts _ q101) (hts _ q102) (hts _ q103) rfl (by rw [hml]; exact hl.1) rfl dX1_init_1 (Nat.le_of_ble_eq_true rfl) (Nat.le_of_ble_eq_true rfl) ?_
  refine W.eq (g2 := F0 m0 4 ls []) rfl ?_
  refine lv_aload_n kx kb dX1_init_4 rfl (lv_at hl 0 rfl) ?_
  refine va_new (D := D.1) (ci := 2) (fs := [.int (iI 0), .int (iI 0), .null]) (C := RX2) (T := TX2) (N := 3) kx kb hts in_X2 tyX2 tyX2_ok hown (hts _ q104) (hts _ q105) (hts _ q60) hK hP hD hS hA rfl (fun j hj => by rcases (show j = 0 ∨ j = 1 ∨ j = 2 by omega) with rfl | rfl | rfl <;> rfl) (show 1 ≤ 5 from by omega) (show 3 ≤ 11 from by omega) dX1_init_5 (fun q_1 H hP hD hS => ?_)
  have hP : va_P D.1 clAll [(t, .inr (1, [.null, .null])), (q_1, .inr (2, [.int (iI 0), .int (iI 0), .null]))] H := hP
  have hD : va_D A [(t, .inr (1, [.null, .null])), (q_1, .inr (2, [.int (iI 0), .int (iI 0), .null]))] := hD
  refine lv_dup kx kb dX1_init_8 rfl ?_
  refine lv_bipush (v := iI 8) kx kb dX1_init_9 rfl ?_
  refine lv_bipush (v := iI 8) kx kb dX1_init_11 rfl ?_
  refine t_callI (wr := [(t, .inr (1, [.null, .null]))]) C (met_X2_init l D E q_1 8 8) (cwI 2 hts (lw_meth q108) rfl rfl rfl (hts _ q60) (hts _ q106) (hts _ q107) rfl (by decide +kernel) ⟨Nat.le_of_ble_eq_true rfl, Nat.le_of_ble_eq_true rfl⟩) hK hX hP hD hS hA [1] [0] rfl rfl (by decide) (by decide) (by decide) tYb_0 (fun _ _ _ => trivial) rfl hl.1 rfl (Nat.le_of_ble_eq_true rfl) dX1_init_13 ⟨(show 3 ≤ 5 from by omega), (show 7 ≤ 11 from by omega)⟩ (fun u_ H locs hp hP hD hS => ?_)
  obtain ⟨b_2, v_3⟩ := u_
  have hP : va_P D.1 clAll [(t, .inr (1, [.null, .null])), (q_1, .inr (2, [.int (iI ((8 : Nat) : Int)), .int (iI ((8 : Nat) : Int)), .ref b_2])), (b_2, .inr (3, [.ref v_3, .int (iI ((un (fun _ => false) : Nat) : Int)), .int (zI false)])), (v_3, .inl (D.2 2, 1, .inr (.inl (wd (fun _ => false)))))] H := hP
  have hD : va_D A [(t, .inr (1, [.null, .null])), (q_1, .inr (2, [.int (iI ((8 : Nat) : Int)), .int (iI ((8 : Nat) : Int)), .ref b_2])), (b_2, .inr (3, [.ref v_3, .int (iI ((un (fun _ => false) : Nat) : Int)), .int (zI false)])), (v_3, .inl (D.2 2, 1, .inr (.inl (wd (fun _ => false)))))] := hD
  refine W.eq (g2 := F0 m0 16 ls [.ref q_1, .ref t]) rfl ?_
  refine W.widen (k := 3) (n := 7) (Nat.le_refl _) (Nat.le_refl _) ?_
  refine va_put (D := D.1) (ci := 1) (v := .ref q_1) (ty := (.object "TufaSteps$Picture")) (C := RX1) (T := TX1) (N := 2) kx kb hts in_X1 tyX1 tyX1_ok nmX1 hown hK hP hD hS 0 rfl rfl 0 (by decide) (hts _ q152) (fun _ h9 => h9) rfl (by decide +kernel) rfl rfl (Nat.le_of_ble_eq_true rfl) dX1_init_16 (fun H locs hP hD hS => ?_)
  have hP : va_P D.1 clAll [(t, .inr (1, [.ref q_1, .null])), (q_1, .inr (2, [.int (iI ((8 : Nat) : Int)), .int (iI ((8 : Nat) : Int)), .ref b_2])), (b_2, .inr (3, [.ref v_3, .int (iI ((un (fun _ => false) : Nat) : Int)), .int (zI false)])), (v_3, .inl (D.2 2, 1, .inr (.inl (wd (fun _ => false)))))] H := hP
  have hD : va_D A [(t, .inr (1, [.ref q_1, .null])), (q_1, .inr (2, [.int (iI ((8 : Nat) : Int)), .int (iI ((8 : Nat) : Int)), .ref b_2])), (b_2, .inr (3, [.ref v_3, .int (iI ((un (fun _ => false) : Nat) : Int)), .int (zI false)])), (v_3, .inl (D.2 2, 1, .inr (.inl (wd (fun _ => false)))))] := hD
  refine lv_aload_n kx kb dX1_init_19 rfl (lv_at hl 0 rfl) ?_
  refine va_new (D := D.1) (ci := 3) (fs := [.null, .int (iI 0), .int (zI false)]) (C := RJ0) (T := TJ0) (N := 3) kx kb hts in_J0 tyJ0 tyJ0_ok hown (hts _ q150) (hts _ q110) (hts _ q61) hK hP hD hS hA rfl (fun j hj => by rcases (show j = 0 ∨ j = 1 ∨ j = 2 by omega) with rfl | rfl | rfl <;> rfl) (show 4 ≤ 5 from by omega) (show 10 ≤ 11 from by omega) dX1_init_20 (fun q_4 H hP hD hS => ?_)
  have hP : va_P D.1 clAll [(t, .inr (1, [.ref q_1, .null])), (q_1, .inr (2, [.int (iI ((8 : Nat) : Int)), .int (iI ((8 : Nat) : Int)), .ref b_2])), (b_2, .inr (3, [.ref v_3, .int (iI ((un (fun _ => false) : Nat) : Int)), .int (zI false)])), (v_3, .inl (D.2 2, 1, .inr (.inl (wd (fun _ => false))))), (q_4, .inr (3, [.null, .int (iI 0), .int (zI false)]))] H := hP
  have hD : va_D A [(t, .inr (1, [.ref q_1, .null])), (q_1, .inr (2, [.int (iI ((8 : Nat) : Int)), .int (iI ((8 : Nat) : Int)), .ref b_2])), (b_2, .inr (3, [.ref v_3, .int (iI ((un (fun _ => false) : Nat) : Int)), .int (zI false)])), (v_3, .inl (D.2 2, 1, .inr (.inl (wd (fun _ => false))))), (q_4, .inr (3, [.null, .int (iI 0), .int (zI false)]))] := hD
  refine lv_dup kx kb dX1_init_23 rfl ?_
  refine t_callI (wr := [(t, .inr (1, [.ref q_1, .null])), (q_1, .inr (2, [.int (iI ((8 : Nat) : Int)), .int (iI ((8 : Nat) : Int)), .ref b_2])), (b_2, .inr (3, [.ref v_3, .int (iI ((un (fun _ => false) : Nat) : Int)), .int (zI false)])), (v_3, .inl (D.2 2, 1, .inr (.inl (wd (fun _ => false)))))]) C (met_J0_init l D E q_4) (cwI 0 hts (lw_meth q113) rfl rfl rfl (hts _ q61) (hts _ q151) (hts _ q112) rfl (by decide +kernel) ⟨Nat.le_of_ble_eq_true rfl, Nat.le_of_ble_eq_true rfl⟩) hK hX hP hD hS hA [4] [0, 1, 2, 3] rfl rfl (by decide) (by decide) (by decide) tYb_0 (fun _ _ _ => trivial) rfl hl.1 rfl (Nat.le_of_ble_eq_true rfl) dX1_init_24 ⟨(show 5 ≤ 5 from by omega), (show 11 ≤ 11 from by omega)⟩ (fun u_ H locs hp hP hD hS => ?_)
  obtain ⟨w_5, rfl⟩ : ∃ z, z = u_ := ⟨_, rfl⟩
  have hP : va_P D.1 clAll [(t, .inr (1, [.ref q_1, .null])), (q_1, .inr (2, [.int (iI ((8 : Nat) : Int)), .int (iI ((8 : Nat) : Int)), .ref b_2])), (b_2, .inr (3, [.ref v_3, .int (iI ((un (fun _ => false) : Nat) : Int)), .int (zI false)])), (v_3, .inl (D.2 2, 1, .inr (.inl (wd (fun _ => false))))), (q_4, .inr (3, [.ref w_5, .int (iI ((un (fun _ => false) : Nat) : Int)), .int (zI false)])), (w_5, .inl (D.2 2, 1, .inr (.inl (wd (fun _ => false)))))] H := hP
  have hD : va_D A [(t, .inr (1, [.ref q_1, .null])), (q_1, .inr (2, [.int (iI ((8 : Nat) : Int)), .int (iI ((8 : Nat) : Int)), .ref b_2])), (b_2, .inr (3, [.ref v_3, .int (iI ((un (fun _ => false) : Nat) : Int)), .int (zI false)])), (v_3, .inl (D.2 2, 1, .inr (.inl (wd (fun _ => false))))), (q_4, .inr (3, [.ref w_5, .int (iI ((un (fun _ => false) : Nat) : Int)), .int (zI false)])), (w_5, .inl (D.2 2, 1, .inr (.inl (wd (fun _ => false)))))] := hD
  refine W.eq (g2 := F0 m0 27 ls [.ref q_4, .ref t]) rfl ?_
  refine W.widen (k := 5) (n := 11) (Nat.le_refl _) (Nat.le_refl _) ?_
  refine va_put (D := D.1) (ci := 1) (v := .ref q_4) (ty := (.object "java/util/BitSet")) (C := RX1) (T := TX1) (N := 2) kx kb hts in_X1 tyX1 tyX1_ok nmX1 hown hK hP hD hS 0 rfl rfl 1 (by decide) (hts _ q153) (fun _ h9 => h9) rfl (by decide +kernel) rfl rfl (Nat.le_of_ble_eq_true rfl) dX1_init_27 (fun H locs hP hD hS => ?_)
  have hP : va_P D.1 clAll [(t, .inr (1, [.ref q_1, .ref q_4])), (q_1, .inr (2, [.int (iI ((8 : Nat) : Int)), .int (iI ((8 : Nat) : Int)), .ref b_2])), (b_2, .inr (3, [.ref v_3, .int (iI ((un (fun _ => false) : Nat) : Int)), .int (zI false)])), (v_3, .inl (D.2 2, 1, .inr (.inl (wd (fun _ => false))))), (q_4, .inr (3, [.ref w_5, .int (iI ((un (fun _ => false) : Nat) : Int)), .int (zI false)])), (w_5, .inl (D.2 2, 1, .inr (.inl (wd (fun _ => false)))))] H := hP
  have hD : va_D A [(t, .inr (1, [.ref q_1, .ref q_4])), (q_1, .inr (2, [.int (iI ((8 : Nat) : Int)), .int (iI ((8 : Nat) : Int)), .ref b_2])), (b_2, .inr (3, [.ref v_3, .int (iI ((un (fun _ => false) : Nat) : Int)), .int (zI false)])), (v_3, .inl (D.2 2, 1, .inr (.inl (wd (fun _ => false))))), (q_4, .inr (3, [.ref w_5, .int (iI ((un (fun _ => false) : Nat) : Int)), .int (zI false)])), (w_5, .inl (D.2 2, 1, .inr (.inl (wd (fun _ => false)))))] := hD
  subst hQ
  exact tm_vret C (q_1, b_2, v_3, q_4, w_5) trivial hP hD hS (show 5 ≤ 5 from by omega) (show 11 ≤ 11 from by omega) rfl rfl dX1_init_30
set_option maxHeartbeats 4000000 in
set_option maxRecDepth 100000 in
theorem met_X1_checkIndex_ok (l : Launch) (D : TG) (E : TE) (z : Bool) (hz : z = true) : tRd l yX1_checkIndex cX1_checkIndex 1 none 0 0 [.int (zI z)] D E [] tY0 (none) := by
  refine tu_rd (by decide +kernel) (Nat.le_of_ble_eq_true rfl) ?_
  intro p0 e0 s0 m0 below meth c0 A ls args Q hag hQ C hK hX hY hP hD hA hAe hl
  obtain ⟨kx, kb, hml, hown, hts, -⟩ := id C
  have hS : va_S A s0.heap s0.heap [] := va_S.rf
  have hl : lv_has ls 1 [(0, .int (zI z))] := hl
  refine lv_iload_n kx kb dX1_checkIndex_0 rfl (lv_at hl 0 rfl) ?_
  refine tz_if_ne (tgt := 12) kx kb dX1_checkIndex_1 (by decide) (fun h1 => ?_) (fun h1 => ?_)
  · subst hQ
    exact tr_vret C rfl rfl dX1_checkIndex_12
  · exact absurd (hz.symm.trans h1) (by decide)
set_option maxHeartbeats 4000000 in
set_option maxRecDepth 100000 in
theorem met_X1_checkArgument_ok (l : Launch) (D : TG) (E : TE) (z : Bool) (hz : z = true) : tRd l yX1_checkArgument cX1_checkArgument 1 none 0 0 [.int (zI z)] D E [] tY0 (none) := by
  refine tu_rd (by decide +kernel) (Nat.le_of_ble_eq_true rfl) ?_
  intro p0 e0 s0 m0 below meth c0 A ls args Q hag hQ C hK hX hY hP hD hA hAe hl
  obtain ⟨kx, kb, hml, hown, hts, -⟩ := id C
  have hS : va_S A s0.heap s0.heap [] := va_S.rf
  have hl : lv_has ls 1 [(0, .int (zI z))] := hl
  refine lv_iload_n kx kb dX1_checkArgument_0 rfl (lv_at hl 0 rfl) ?_
  refine tz_if_ne (tgt := 12) kx kb dX1_checkArgument_1 (by decide) (fun h1 => ?_) (fun h1 => ?_)
  · subst hQ
    exact tr_vret C rfl rfl dX1_checkArgument_12
  · exact absurd (hz.symm.trans h1) (by decide)
set_option maxHeartbeats 4000000 in
set_option maxRecDepth 100000 in
theorem met_X1_checkElement_ok (l : Launch) (D : TG) (E : TE) (z : Bool) (hz : z = true) : tRd l yX1_checkElement cX1_checkElement 1 none 0 0 [.int (zI z)] D E [] tY0 (none) := by
  refine tu_rd (by decide +kernel) (Nat.le_of_ble_eq_true rfl) ?_
  intro p0 e0 s0 m0 below meth c0 A ls args Q hag hQ C hK hX hY hP hD hA hAe hl
  obtain ⟨kx, kb, hml, hown, hts, -⟩ := id C
  have hS : va_S A s0.heap s0.heap [] := va_S.rf
  have hl : lv_has ls 1 [(0, .int (zI z))] := hl
  refine lv_iload_n kx kb dX1_checkElement_0 rfl (lv_at hl 0 rfl) ?_
  refine tz_if_ne (tgt := 12) kx kb dX1_checkElement_1 (by decide) (fun h1 => ?_) (fun h1 => ?_)
  · subst hQ
    exact tr_vret C rfl rfl dX1_checkElement_12
  · exact absurd (hz.symm.trans h1) (by decide)
set_option maxHeartbeats 4000000 in
set_option maxRecDepth 100000 in
theorem met_X1_cellAt_ok (l : Launch) (D : TG) (E : TE) (t : Nat) (a : Nat) (b : Nat) (v : Nat) (n : Nat) (w : Nat) (g : Nat) (P : Nat → Bool) (c : Nat) (v3 : Nat) (n2 : Nat) (S : Nat → Bool) (x : Int) (y : Int) (hw : 1 ≤ w ∧ w ≤ 32) (hg : 1 ≤ g ∧ g ≤ 32) (hB : BB P n) (hB2 : BB S n2) (hPz : ∀ j_, w * g ≤ j_ → P j_ = false) (hSz : ∀ j_, w * g ≤ j_ → S j_ = false) (hv : 0 ≤ x ∧ x < w ∧ 0 ≤ y ∧ y < g) : tRd l yX1_cellAt cX1_cellAt 3 (some .int) 2 44 [.ref t, .int (iI x), .int (iI y)] D E [(t, .inr (1, [.ref a, .ref c])), (a, .inr (2, [.int (iI ((w : Nat) : Int)), .int (iI ((g : Nat) : Int)), .ref b])), (b, .inr (3, [.ref v, .int (iI ((un P : Nat) : Int)), .int (zI false)])), (v, .inl (D.2 2, n, .inr (.inl (wd P)))), (c, .inr (3, [.ref v3, .int (iI ((un S : Nat) : Int)), .int (zI false)])), (v3, .inl (D.2 2, n2, .inr (.inl (wd S))))] tY0 (some (.int (iI ((cel w x y : Nat) : Int)))) := by
  refine tu_rd (by decide +kernel) (Nat.le_of_ble_eq_true rfl) ?_
  intro p0 e0 s0 m0 below meth c0 A ls args Q hag hQ C hK hX hY hP hD hA hAe hl
  obtain ⟨kx, kb, hml, hown, hts, -⟩ := id C
  have hS : va_S A s0.heap s0.heap [] := va_S.rf
  have hl : lv_has ls 3 [(0, .ref t), (1, .int (iI x)), (2, .int (iI y))] := hl
  have hwg := wg_le hw hg
  have hBn := hB.1
  have hBm := hB.2.1
  have hul := un_le hB
  have hul2 := un_le hB2
  have hq := cel_int hv
  refine lv_aload_n kx kb dX1_cellAt_0 rfl (lv_at hl 0 rfl) ?_
  refine va_get (D := D.1) (ci := 1) (v := .ref a) (C := RX1) (T := TX1) (N := 2) kx kb hts in_X1 hown hK hP 0 rfl rfl 0 (by decide) (hts _ q152) (fun _ h9 => h9) rfl dX1_cellAt_1 ?_
  refine lv_iload_n kx kb dX1_cellAt_4 rfl (lv_at hl 1 rfl) ?_
  refine lv_iload_n kx kb dX1_cellAt_5 rfl (lv_at hl 2 rfl) ?_
  refine t_callRV C (met_X2_isOn l D E a b w g x y (by first | assumption | omega) (by first | assumption | omega) (by first | assumption | omega) (by first | assumption | omega)) (cwV 2 hts (lw_V q1222 q613 q614 q60 q615) rfl rfl rfl (by decide +kernel) ⟨Nat.le_of_ble_eq_true rfl, Nat.le_of_ble_eq_true rfl⟩) (va_recv hK hP (ci := 2) (q0 := 1) rfl rfl) hK hX hP hD hS hA [1] rfl (by decide) tYb_0 (fun _ _ _ => trivial) rfl hl.1 rfl (Nat.le_of_ble_eq_true rfl) dX1_cellAt_6 ⟨(show 0 ≤ 0 from by omega), (show 0 ≤ 0 from by omega)⟩ ?_
  refine W.eq (g2 := F0 m0 9 ls [.int (zI (isBd w g x y))]) rfl ?_
  refine t_callRS C (met_X1_checkIndex_ok l D E (isBd w g x y) ((isBd_t w g x y).mpr hv)) (va_cwS 1 hts (lw_S q691 q692 q59 q693) rfl rfl rfl (by decide +kernel) ⟨Nat.le_of_ble_eq_true rfl, Nat.le_of_ble_eq_true rfl⟩) hK hX hP hD hS hA [] rfl (by decide) tYb_0 (fun _ _ _ => trivial) rfl hl.1 rfl (Nat.le_of_ble_eq_true rfl) dX1_cellAt_9 ⟨(show 0 ≤ 0 from by omega), (show 0 ≤ 0 from by omega)⟩ ?_
  refine W.eq (g2 := F0 m0 12 ls []) rfl ?_
  refine lv_iload_n kx kb dX1_cellAt_12 rfl (lv_at hl 2 rfl) ?_
  refine lv_aload_n kx kb dX1_cellAt_13 rfl (lv_at hl 0 rfl) ?_
  refine t_callRV C (met_X1_width l D E t a b v n w g P c v3 n2 S (by first | assumption | omega) (by first | assumption | omega) (by first | assumption | omega) (by first | assumption | omega) (by first | assumption | omega) (by first | assumption | omega)) (cwV 0 hts (lw_V q989 q649 q650 q59 q651) rfl rfl rfl (by decide +kernel) ⟨Nat.le_of_ble_eq_true rfl, Nat.le_of_ble_eq_true rfl⟩) (va_recv hK hP (ci := 1) (q0 := 0) rfl rfl) hK hX hP hD hS hA [0, 1, 2, 3, 4, 5] rfl (by decide) tYb_0 (fun _ _ _ => trivial) rfl hl.1 rfl (Nat.le_of_ble_eq_true rfl) dX1_cellAt_14 ⟨(show 0 ≤ 0 from by omega), (show 0 ≤ 0 from by omega)⟩ ?_
  refine W.eq (g2 := F0 m0 17 ls [.int (iI ((w : Nat) : Int)), .int (iI y)]) rfl ?_
  refine ti_imul kx kb dX1_cellAt_17 ?_
  refine lv_iload_n kx kb dX1_cellAt_18 rfl (lv_at hl 1 rfl) ?_
  refine ti_iadd kx kb dX1_cellAt_19 ?_
  subst hQ
  exact tr_iret C rfl (by rw [show y * ((w : Nat) : Int) + x = ((cel w x y : Nat) : Int) from hq.1]) dX1_cellAt_20
set_option maxHeartbeats 4000000 in
set_option maxRecDepth 100000 in
theorem met_X1_checkedRow_ok (l : Launch) (D : TG) (E : TE) (t : Nat) (a : Nat) (b : Nat) (v : Nat) (n : Nat) (w : Nat) (g : Nat) (P : Nat → Bool) (c : Nat) (v3 : Nat) (n2 : Nat) (S : Nat → Bool) (y : Int) (hw : 1 ≤ w ∧ w ≤ 32) (hg : 1 ≤ g ∧ g ≤ 32) (hB : BB P n) (hB2 : BB S n2) (hPz : ∀ j_, w * g ≤ j_ → P j_ = false) (hSz : ∀ j_, w * g ≤ j_ → S j_ = false) (hv : 0 ≤ y ∧ y < g) : tRd l yX1_checkedRow cX1_checkedRow 2 (some .int) 1 22 [.ref t, .int (iI y)] D E [(t, .inr (1, [.ref a, .ref c])), (a, .inr (2, [.int (iI ((w : Nat) : Int)), .int (iI ((g : Nat) : Int)), .ref b])), (b, .inr (3, [.ref v, .int (iI ((un P : Nat) : Int)), .int (zI false)])), (v, .inl (D.2 2, n, .inr (.inl (wd P)))), (c, .inr (3, [.ref v3, .int (iI ((un S : Nat) : Int)), .int (zI false)])), (v3, .inl (D.2 2, n2, .inr (.inl (wd S))))] tY0 (some (.int (iI y))) := by
  refine tu_rd (by decide +kernel) (Nat.le_of_ble_eq_true rfl) ?_
  intro p0 e0 s0 m0 below meth c0 A ls args Q hag hQ C hK hX hY hP hD hA hAe hl
  obtain ⟨kx, kb, hml, hown, hts, -⟩ := id C
  have hS : va_S A s0.heap s0.heap [] := va_S.rf
  have hl : lv_has ls 2 [(0, .ref t), (1, .int (iI y))] := hl
  have hwg := wg_le hw hg
  have hBn := hB.1
  have hBm := hB.2.1
  have hul := un_le hB
  have hul2 := un_le hB2
  refine lv_iconst (v := iI 0) kx kb dX1_checkedRow_0 rfl ?_
  refine lv_aload_n kx kb dX1_checkedRow_1 rfl (lv_at hl 0 rfl) ?_
  refine t_callRV C (met_X1_height l D E t a b v n w g P c v3 n2 S (by first | assumption | omega) (by first | assumption | omega) (by first | assumption | omega) (by first | assumption | omega) (by first | assumption | omega) (by first | assumption | omega)) (cwV 0 hts (lw_V q681 q653 q654 q59 q655) rfl rfl rfl (by decide +kernel) ⟨Nat.le_of_ble_eq_true rfl, Nat.le_of_ble_eq_true rfl⟩) (va_recv hK hP (ci := 1) (q0 := 0) rfl rfl) hK hX hP hD hS hA [0, 1, 2, 3, 4, 5] rfl (by decide) tYb_0 (fun _ _ _ => trivial) rfl hl.1 rfl (Nat.le_of_ble_eq_true rfl) dX1_checkedRow_2 ⟨(show 0 ≤ 0 from by omega), (show 0 ≤ 0 from by omega)⟩ ?_
  refine W.eq (g2 := F0 m0 5 ls [.int (iI ((g : Nat) : Int)), .int (iI 0)]) rfl ?_
  refine lv_iconst (v := iI 1) kx kb dX1_checkedRow_5 rfl ?_
  refine ti_isub kx kb dX1_checkedRow_6 ?_
  refine lv_iload_n kx kb dX1_checkedRow_7 rfl (lv_at hl 1 rfl) ?_
  refine t_callRS C (met_X1_isIn l D E 0 (((g : Nat) : Int) - 1) y (by first | assumption | omega)) (va_cwS 3 hts (lw_S q690 q617 q59 q618) rfl rfl rfl (by decide +kernel) ⟨Nat.le_of_ble_eq_true rfl, Nat.le_of_ble_eq_true rfl⟩) hK hX hP hD hS hA [] rfl (by decide) tYb_0 (fun _ _ _ => trivial) rfl hl.1 rfl (Nat.le_of_ble_eq_true rfl) dX1_checkedRow_8 ⟨(show 0 ≤ 0 from by omega), (show 0 ≤ 0 from by omega)⟩ ?_
  refine W.eq (g2 := F0 m0 11 ls [.int (zI (decide (0 ≤ y ∧ y ≤ (((g : Nat) : Int) - 1))))]) rfl ?_
  refine t_callRS C (met_X1_checkIndex_ok l D E (decide (0 ≤ y ∧ y ≤ (((g : Nat) : Int) - 1))) (decide_eq_true (by omega))) (va_cwS 1 hts (lw_S q691 q692 q59 q693) rfl rfl rfl (by decide +kernel) ⟨Nat.le_of_ble_eq_true rfl, Nat.le_of_ble_eq_true rfl⟩) hK hX hP hD hS hA [] rfl (by decide) tYb_0 (fun _ _ _ => trivial) rfl hl.1 rfl (Nat.le_of_ble_eq_true rfl) dX1_checkedRow_11 ⟨(show 0 ≤ 0 from by omega), (show 0 ≤ 0 from by omega)⟩ ?_
  refine W.eq (g2 := F0 m0 14 ls []) rfl ?_
  refine lv_iload_n kx kb dX1_checkedRow_14 rfl (lv_at hl 1 rfl) ?_
  subst hQ
  exact tr_iret C rfl rfl dX1_checkedRow_15
set_option maxHeartbeats 4000000 in
set_option maxRecDepth 100000 in
theorem met_X1_at_ok (l : Launch) (D : TG) (E : TE) (t : Nat) (a : Nat) (b : Nat) (v : Nat) (n : Nat) (w : Nat) (g : Nat) (P : Nat → Bool) (c : Nat) (v3 : Nat) (n2 : Nat) (S : Nat → Bool) (x : Int) (y : Int) (hw : 1 ≤ w ∧ w ≤ 32) (hg : 1 ≤ g ∧ g ≤ 32) (hB : BB P n) (hB2 : BB S n2) (hPz : ∀ j_, w * g ≤ j_ → P j_ = false) (hSz : ∀ j_, w * g ≤ j_ → S j_ = false) (hv : 0 ≤ x ∧ x < w ∧ 0 ≤ y ∧ y < g) : tRd l yX1_at cX1_at 3 (some .boolean) 3 66 [.ref t, .int (iI x), .int (iI y)] D E [(t, .inr (1, [.ref a, .ref c])), (a, .inr (2, [.int (iI ((w : Nat) : Int)), .int (iI ((g : Nat) : Int)), .ref b])), (b, .inr (3, [.ref v, .int (iI ((un P : Nat) : Int)), .int (zI false)])), (v, .inl (D.2 2, n, .inr (.inl (wd P)))), (c, .inr (3, [.ref v3, .int (iI ((un S : Nat) : Int)), .int (zI false)])), (v3, .inl (D.2 2, n2, .inr (.inl (wd S))))] tY0 (some (.int (zI (P (cel w x y))))) := by
  refine tu_rd (by decide +kernel) (Nat.le_of_ble_eq_true rfl) ?_
  intro p0 e0 s0 m0 below meth c0 A ls args Q hag hQ C hK hX hY hP hD hA hAe hl
  obtain ⟨kx, kb, hml, hown, hts, -⟩ := id C
  have hS : va_S A s0.heap s0.heap [] := va_S.rf
  have hl : lv_has ls 3 [(0, .ref t), (1, .int (iI x)), (2, .int (iI y))] := hl
  have hwg := wg_le hw hg
  have hBn := hB.1
  have hBm := hB.2.1
  have hul := un_le hB
  have hul2 := un_le hB2
  have hq := cel_int hv
  refine lv_aload_n kx kb dX1_at_0 rfl (lv_at hl 0 rfl) ?_
  refine va_get (D := D.1) (ci := 1) (v := .ref a) (C := RX1) (T := TX1) (N := 2) kx kb hts in_X1 hown hK hP 0 rfl rfl 0 (by decide) (hts _ q152) (fun _ h9 => h9) rfl dX1_at_1 ?_
  refine va_getN (D := D.1) (ci := 2) (v := .ref b) (C := RX2) (T := TX2) (N := 3) kx kb hts in_X2 hown hK hP 1 rfl rfl 2 (by decide) (va_Nw.use rfl (hX.1 _ q142 rfl)) (fun _ h9 => h9) rfl dX1_at_4 ?_
  refine lv_aload_n kx kb dX1_at_7 rfl (lv_at hl 0 rfl) ?_
  refine lv_iload_n kx kb dX1_at_8 rfl (lv_at hl 1 rfl) ?_
  refine lv_iload_n kx kb dX1_at_9 rfl (lv_at hl 2 rfl) ?_
  refine t_callRV C (met_X1_cellAt_ok l D E t a b v n w g P c v3 n2 S x y (by first | assumption | omega) (by first | assumption | omega) (by first | assumption | omega) (by first | assumption | omega) (by first | assumption | omega) (by first | assumption | omega) (by first | assumption | omega)) (cwV 2 hts (lw_V q1218 q1220 qs18 q59 q1221) rfl rfl rfl (by decide +kernel) ⟨Nat.le_of_ble_eq_true rfl, Nat.le_of_ble_eq_true rfl⟩) (va_recv hK hP (ci := 1) (q0 := 0) rfl rfl) hK hX hP hD hS hA [0, 1, 2, 3, 4, 5] rfl (by decide) tYb_0 (fun _ _ _ => trivial) rfl hl.1 rfl (Nat.le_of_ble_eq_true rfl) dX1_at_10 ⟨(show 0 ≤ 0 from by omega), (show 0 ≤ 0 from by omega)⟩ ?_
  refine W.eq (g2 := F0 m0 13 ls [.int (iI ((cel w x y : Nat) : Int)), .ref b]) rfl ?_
  refine t_callRV C (met_J0_get l D E b v n P (cel w x y) (by first | assumption | omega) (by first | assumption | omega)) (cwV 1 hts (lw_V q1178 q620 q621 q61 q622) rfl rfl rfl (by decide +kernel) ⟨Nat.le_of_ble_eq_true rfl, Nat.le_of_ble_eq_true rfl⟩) (va_recv hK hP (ci := 3) (q0 := 2) rfl rfl) hK hX hP hD hS hA [2, 3] rfl (by decide) tYb_0 (fun _ _ _ => trivial) rfl hl.1 rfl (Nat.le_of_ble_eq_true rfl) dX1_at_13 ⟨(show 0 ≤ 0 from by omega), (show 0 ≤ 0 from by omega)⟩ ?_
  refine W.eq (g2 := F0 m0 16 ls [.int (zI (P (cel w x y)))]) rfl ?_
  subst hQ
  exact tr_zret C rfl rfl dX1_at_16
set_option maxHeartbeats 4000000 in
set_option maxRecDepth 100000 in
theorem met_X1_set_ok (l : Launch) (D : TG) (E : TE) (t : Nat) (a : Nat) (b : Nat) (v : Nat) (n : Nat) (w : Nat) (g : Nat) (P : Nat → Bool) (c : Nat) (v3 : Nat) (n2 : Nat) (S : Nat → Bool) (x : Int) (y : Int) (z : Bool) (hw : 1 ≤ w ∧ w ≤ 32) (hg : 1 ≤ g ∧ g ≤ 32) (hB : BB P n) (hB2 : BB S n2) (hPz : ∀ j_, w * g ≤ j_ → P j_ = false) (hSz : ∀ j_, w * g ≤ j_ → S j_ = false) (hv : 0 ≤ x ∧ x < w ∧ 0 ≤ y ∧ y < g) : tMet l yX1_set cX1_set 6 (some .boolean) 6 150 (sC n (cel w x y) z) (sS n (cel w x y) z) [.ref t, .int (iI x), .int (iI y), .int (zI z)] D E [(t, .inr (1, [.ref a, .ref c])), (a, .inr (2, [.int (iI ((w : Nat) : Int)), .int (iI ((g : Nat) : Int)), .ref b])), (b, .inr (3, [.ref v, .int (iI ((un P : Nat) : Int)), .int (zI false)])), (v, .inl (D.2 2, n, .inr (.inl (wd P)))), (c, .inr (3, [.ref v3, .int (iI ((un S : Nat) : Int)), .int (zI false)])), (v3, .inl (D.2 2, n2, .inr (.inl (wd S))))] tY0 (S := Nat) (fun u_ => True) (fun u_ => some (.int (zI (P (cel w x y))))) (fun u_ => [(t, .inr (1, [.ref a, .ref c])), (a, .inr (2, [.int (iI ((w : Nat) : Int)), .int (iI ((g : Nat) : Int)), .ref b])), (b, .inr (3, [.ref u_, .int (iI ((un (setB P (cel w x y) z) : Nat) : Int)), .int (zI false)])), (u_, .inl (D.2 2, sN n (cel w x y) z, .inr (.inl (wd (setB P (cel w x y) z))))), (c, .inr (3, [.ref v3, .int (iI ((un S : Nat) : Int)), .int (zI false)])), (v3, .inl (D.2 2, n2, .inr (.inl (wd S))))]) := by
  refine tu_met (by decide +kernel) (Nat.le_of_ble_eq_true rfl) ?_
  intro p0 e0 s0 m0 below meth c0 A ls args Q hag hQ C hK hX hY hP hD hA hAe hl
  obtain ⟨kx, kb, hml, hown, hts, -⟩ := id C
  have hS : va_S A s0.heap s0.heap [] := va_S.rf
  have hl : lv_has ls 6 [(0, .ref t), (1, .int (iI x)), (2, .int (iI y)), (3, .int (zI z))] := hl
  have hwg := wg_le hw hg
  have hBn := hB.1
  have hBm := hB.2.1
  have hul := un_le hB
  have hul2 := un_le hB2
  have hq := cel_int hv
  refine lv_aload_n kx kb dX1_set_0 rfl (lv_at hl 0 rfl) ?_
  refine lv_iload_n kx kb dX1_set_1 rfl (lv_at hl 1 rfl) ?_
  refine lv_iload_n kx kb dX1_set_2 rfl (lv_at hl 2 rfl) ?_
  refine t_callRV C (met_X1_cellAt_ok l D E t a b v n w g P c v3 n2 S x y (by first | assumption | omega) (by first | assumption | omega) (by first | assumption | omega) (by first | assumption | omega) (by first | assumption | omega) (by first | assumption | omega) (by first | assumption | omega)) (cwV 2 hts (lw_V q1218 q1220 qs18 q59 q1221) rfl rfl rfl (by decide +kernel) ⟨Nat.le_of_ble_eq_true rfl, Nat.le_of_ble_eq_true rfl⟩) (va_recv hK hP (ci := 1) (q0 := 0) rfl rfl) hK hX hP hD hS hA [0, 1, 2, 3, 4, 5] rfl (by decide) tYb_0 (fun _ _ _ => trivial) rfl hl.1 rfl (Nat.le_of_ble_eq_true rfl) dX1_set_3 ⟨(show 0 ≤ sC n (cel w x y) z from by omega), (show 0 ≤ sS n (cel w x y) z from by omega)⟩ ?_
  refine W.eq (g2 := F0 m0 6 ls [.int (iI ((cel w x y : Nat) : Int))]) rfl ?_
  refine lv_istore (lv' := [(4, .int (iI ((cel w x y : Nat) : Int))), (0, .ref t), (1, .int (iI x)), (2, .int (iI y)), (3, .int (zI z))]) kx kb dX1_set_6 hl (by decide) rfl (fun ls hl => ?_)
  refine lv_aload_n kx kb dX1_set_8 rfl (lv_at hl 1 rfl) ?_
  refine va_get (D := D.1) (ci := 1) (v := .ref a) (C := RX1) (T := TX1) (N := 2) kx kb hts in_X1 hown hK hP 0 rfl rfl 0 (by decide) (hts _ q152) (fun _ h9 => h9) rfl dX1_set_9 ?_
  refine va_getN (D := D.1) (ci := 2) (v := .ref b) (C := RX2) (T := TX2) (N := 3) kx kb hts in_X2 hown hK hP 1 rfl rfl 2 (by decide) (va_Nw.use rfl (hX.1 _ q142 rfl)) (fun _ h9 => h9) rfl dX1_set_12 ?_
  refine lv_iload kx kb dX1_set_15 (lv_at hl 0 rfl) ?_
  refine t_callRV C (met_J0_get l D E b v n P (cel w x y) (by first | assumption | omega) (by first | assumption | omega)) (cwV 1 hts (lw_V q1178 q620 q621 q61 q622) rfl rfl rfl (by decide +kernel) ⟨Nat.le_of_ble_eq_true rfl, Nat.le_of_ble_eq_true rfl⟩) (va_recv hK hP (ci := 3) (q0 := 2) rfl rfl) hK hX hP hD hS hA [2, 3] rfl (by decide) tYb_0 (fun _ _ _ => trivial) rfl hl.1 rfl (Nat.le_of_ble_eq_true rfl) dX1_set_17 ⟨(show 0 ≤ sC n (cel w x y) z from by omega), (show 0 ≤ sS n (cel w x y) z from by omega)⟩ ?_
  refine W.eq (g2 := F0 m0 20 ls [.int (zI (P (cel w x y)))]) rfl ?_
  refine lv_istore (lv' := [(5, .int (zI (P (cel w x y)))), (4, .int (iI ((cel w x y : Nat) : Int))), (0, .ref t), (1, .int (iI x)), (2, .int (iI y)), (3, .int (zI z))]) kx kb dX1_set_20 hl (by decide) rfl (fun ls hl => ?_)
  refine lv_aload_n kx kb dX1_set_22 rfl (lv_at hl 2 rfl) ?_
  refine va_get (D := D.1) (ci := 1) (v := .ref a) (C := RX1) (T := TX1) (N := 2) kx kb hts in_X1 hown hK hP 0 rfl rfl 0 (by decide) (hts _ q152) (fun _ h9 => h9) rfl dX1_set_23 ?_
  refine va_getN (D := D.1) (ci := 2) (v := .ref b) (C := RX2) (T := TX2) (N := 3) kx kb hts in_X2 hown hK hP 1 rfl rfl 2 (by decide) (va_Nw.use rfl (hX.1 _ q142 rfl)) (fun _ h9 => h9) rfl dX1_set_26 ?_
  refine lv_iload kx kb dX1_set_29 (lv_at hl 1 rfl) ?_
  refine lv_iload_n kx kb dX1_set_31 rfl (lv_at hl 5 rfl) ?_
  refine t_callV (wr := [(t, .inr (1, [.ref a, .ref c])), (a, .inr (2, [.int (iI ((w : Nat) : Int)), .int (iI ((g : Nat) : Int)), .ref b])), (c, .inr (3, [.ref v3, .int (iI ((un S : Nat) : Int)), .int (zI false)])), (v3, .inl (D.2 2, n2, .inr (.inl (wd S))))]) C (met_J0_set l D E b v n P (cel w x y) z (by first | assumption | omega) (by first | assumption | omega)) (cwV 2 hts (lw_V q1223 q629 q630 q61 q631) rfl rfl rfl (by decide +kernel) ⟨Nat.le_of_ble_eq_true rfl, Nat.le_of_ble_eq_true rfl⟩) (va_recv hK hP (ci := 3) (q0 := 2) rfl rfl) hK hX hP hD hS hA [2, 3] [0, 1, 4, 5] rfl rfl (by decide) (by decide) (by decide) tYb_0 (fun _ _ _ => trivial) rfl hl.1 rfl (Nat.le_of_ble_eq_true rfl) dX1_set_32 ⟨(show 0 + (sC n (cel w x y) z) ≤ sC n (cel w x y) z from by omega), (show 0 + (sS n (cel w x y) z) ≤ sS n (cel w x y) z from by omega)⟩ (fun u_ H locs hp hP hD hS => ?_)
  obtain ⟨w2_1, rfl⟩ : ∃ z, z = u_ := ⟨_, rfl⟩
  have hP : va_P D.1 clAll [(t, .inr (1, [.ref a, .ref c])), (a, .inr (2, [.int (iI ((w : Nat) : Int)), .int (iI ((g : Nat) : Int)), .ref b])), (c, .inr (3, [.ref v3, .int (iI ((un S : Nat) : Int)), .int (zI false)])), (v3, .inl (D.2 2, n2, .inr (.inl (wd S)))), (b, .inr (3, [.ref w2_1, .int (iI ((un (setB P (cel w x y) z) : Nat) : Int)), .int (zI false)])), (w2_1, .inl (D.2 2, sN n (cel w x y) z, .inr (.inl (wd (setB P (cel w x y) z)))))] H := hP
  have hD : va_D A [(t, .inr (1, [.ref a, .ref c])), (a, .inr (2, [.int (iI ((w : Nat) : Int)), .int (iI ((g : Nat) : Int)), .ref b])), (c, .inr (3, [.ref v3, .int (iI ((un S : Nat) : Int)), .int (zI false)])), (v3, .inl (D.2 2, n2, .inr (.inl (wd S)))), (b, .inr (3, [.ref w2_1, .int (iI ((un (setB P (cel w x y) z) : Nat) : Int)), .int (zI false)])), (w2_1, .inl (D.2 2, sN n (cel w x y) z, .inr (.inl (wd (setB P (cel w x y) z)))))] := hD
  refine W.eq (g2 := F0 m0 35 ls []) rfl ?_
  refine W.widen (k := 0 + (sC n (cel w x y) z)) (n := 0 + (sS n (cel w x y) z)) (Nat.le_refl _) (Nat.le_refl _) ?_
  refine lv_iload kx kb dX1_set_35 (lv_at hl 0 rfl) ?_
  subst hQ
  exact tm_zret C w2_1 trivial (hP.sub [0, 1, 4, 5, 2, 3] rfl) (hD.sub [0, 1, 4, 5, 2, 3] (by decide) rfl) hS (show 0 + (sC n (cel w x y) z) ≤ sC n (cel w x y) z from by omega) (show 0 + (sS n (cel w x y) z) ≤ sS n (cel w x y) z from by omega) rfl rfl dX1_set_37
