set_option maxRecDepth 100000
set_option maxHeartbeats 4000000 in
set_option maxRecDepth 100000 in
theorem met_X1_parts (l : Launch) (D : TG) (E : TE) (t : Nat) (a : Nat) (b : Nat) (v : Nat) (n : Nat) (w : Nat) (g : Nat) (P : Nat → Bool) (c : Nat) (v3 : Nat) (n2 : Nat) (S : Nat → Bool) (hw : 1 ≤ w ∧ w ≤ 32) (hg : 1 ≤ g ∧ g ≤ 32) (hB : BB P n) (hB2 : BB S n2) (hPz : ∀ j_, w * g ≤ j_ → P j_ = false) (hSz : ∀ j_, w * g ≤ j_ → S j_ = false) : tMet l yX1_parts cX1_parts 1 (some .int) 8 205 (31 + 7 * fb_ct (fun j_ => P j_ == true) (w * g)) (62 + 64 * fb_ct (fun j_ => P j_ == true) (w * g)) [.ref t] D E [(t, .inr (1, [.ref a, .ref c])), (a, .inr (2, [.int (iI ((w : Nat) : Int)), .int (iI ((g : Nat) : Int)), .ref b])), (b, .inr (3, [.ref v, .int (iI ((un P : Nat) : Int)), .int (zI false)])), (v, .inl (D.2 2, n, .inr (.inl (wd P)))), (c, .inr (3, [.ref v3, .int (iI ((un S : Nat) : Int)), .int (zI false)])), (v3, .inl (D.2 2, n2, .inr (.inl (wd S))))] tY0 (S := Unit) (fun u_ => True) (fun u_ => some (.int (iI ((prtN w g P : Nat) : Int)))) (fun u_ => [(t, .inr (1, [.ref a, .ref c])), (a, .inr (2, [.int (iI ((w : Nat) : Int)), .int (iI ((g : Nat) : Int)), .ref b])), (b, .inr (3, [.ref v, .int (iI ((un P : Nat) : Int)), .int (zI false)])), (v, .inl (D.2 2, n, .inr (.inl (wd P)))), (c, .inr (3, [.ref v3, .int (iI ((un S : Nat) : Int)), .int (zI false)])), (v3, .inl (D.2 2, n2, .inr (.inl (wd S))))]) := by
  refine tu_met (by decide +kernel) (Nat.le_of_ble_eq_true rfl) ?_
  intro p0 e0 s0 m0 below meth c0 A ls args Q hag hQ C hK hX hY hP hD hA hAe hl
  obtain ⟨kx, kb, hml, hown, hts, -⟩ := id C
  have hS : va_S A s0.heap s0.heap [] := va_S.rf
  have hl : lv_has ls 1 [(0, .ref t)] := hl
  have hwg := wg_le hw hg
  have hBn := hB.1
  have hBm := hB.2.1
  have hul := un_le hB
  have hul2 := un_le hB2
  refine lv_aload_n kx kb dX1_parts_0 rfl (lv_at hl 0 rfl) ?_
  refine va_get (D := D.1) (ci := 1) (v := .ref a) (C := RX1) (T := TX1) (N := 2) kx kb hts in_X1 hown hK hP 0 rfl rfl 0 (by decide) (hts _ q152) (fun _ h9 => h9) rfl dX1_parts_1 ?_
  refine t_callV (wr := [(t, .inr (1, [.ref a, .ref c])), (c, .inr (3, [.ref v3, .int (iI ((un S : Nat) : Int)), .int (zI false)])), (v3, .inl (D.2 2, n2, .inr (.inl (wd S))))]) C (met_X2_parts l D E a b v n w g P (by first | assumption | omega) (by first | assumption | omega) (by first | assumption | omega) (by first | assumption | omega)) (cwV 0 hts (lw_V q814 q815 q816 q60 q817) rfl rfl rfl (by decide +kernel) ⟨Nat.le_of_ble_eq_true rfl, Nat.le_of_ble_eq_true rfl⟩) (va_recv hK hP (ci := 2) (q0 := 1) rfl rfl) hK hX hP hD hS hA [1, 2, 3] [0, 4, 5] rfl rfl (by decide) (by decide) (by decide) tYb_0 (fun _ _ _ => trivial) rfl hl.1 rfl (Nat.le_of_ble_eq_true rfl) dX1_parts_4 ⟨(show 0 + (31 + 7 * fb_ct (fun j_ => P j_ == true) (w * g)) ≤ 31 + 7 * fb_ct (fun j_ => P j_ == true) (w * g) from by omega), (show 0 + (62 + 64 * fb_ct (fun j_ => P j_ == true) (w * g)) ≤ 62 + 64 * fb_ct (fun j_ => P j_ == true) (w * g) from by omega)⟩ (fun u_ H locs hp hP hD hS => ?_)
  have hP : va_P D.1 clAll [(t, .inr (1, [.ref a, .ref c])), (c, .inr (3, [.ref v3, .int (iI ((un S : Nat) : Int)), .int (zI false)])), (v3, .inl (D.2 2, n2, .inr (.inl (wd S)))), (a, .inr (2, [.int (iI ((w : Nat) : Int)), .int (iI ((g : Nat) : Int)), .ref b])), (b, .inr (3, [.ref v, .int (iI ((un P : Nat) : Int)), .int (zI false)])), (v, .inl (D.2 2, n, .inr (.inl (wd P))))] H := hP
  have hD : va_D A [(t, .inr (1, [.ref a, .ref c])), (c, .inr (3, [.ref v3, .int (iI ((un S : Nat) : Int)), .int (zI false)])), (v3, .inl (D.2 2, n2, .inr (.inl (wd S)))), (a, .inr (2, [.int (iI ((w : Nat) : Int)), .int (iI ((g : Nat) : Int)), .ref b])), (b, .inr (3, [.ref v, .int (iI ((un P : Nat) : Int)), .int (zI false)])), (v, .inl (D.2 2, n, .inr (.inl (wd P))))] := hD
  refine W.eq (g2 := F0 m0 7 ls [.int (iI ((prtN w g P : Nat) : Int))]) rfl ?_
  refine W.widen (k := 0 + (31 + 7 * fb_ct (fun j_ => P j_ == true) (w * g))) (n := 0 + (62 + 64 * fb_ct (fun j_ => P j_ == true) (w * g))) (Nat.le_refl _) (Nat.le_refl _) ?_
  subst hQ
  exact tm_iret C () trivial (hP.sub [0, 3, 4, 5, 1, 2] rfl) (hD.sub [0, 3, 4, 5, 1, 2] (by decide) rfl) hS (show 0 + (31 + 7 * fb_ct (fun j_ => P j_ == true) (w * g)) ≤ 31 + 7 * fb_ct (fun j_ => P j_ == true) (w * g) from by omega) (show 0 + (62 + 64 * fb_ct (fun j_ => P j_ == true) (w * g)) ≤ 62 + 64 * fb_ct (fun j_ => P j_ == true) (w * g) from by omega) rfl rfl dX1_parts_7
set_option maxHeartbeats 4000000 in
set_option maxRecDepth 100000 in
theorem met_X1_holes (l : Launch) (D : TG) (E : TE) (t : Nat) (a : Nat) (b : Nat) (v : Nat) (n : Nat) (w : Nat) (g : Nat) (P : Nat → Bool) (c : Nat) (v3 : Nat) (n2 : Nat) (S : Nat → Bool) (hw : 1 ≤ w ∧ w ≤ 32) (hg : 1 ≤ g ∧ g ≤ 32) (hB : BB P n) (hB2 : BB S n2) (hPz : ∀ j_, w * g ≤ j_ → P j_ = false) (hSz : ∀ j_, w * g ≤ j_ → S j_ = false) : tMet l yX1_holes cX1_holes 1 (some .int) 8 206 (31 + 7 * fb_ct (fun j_ => P j_ == false) (w * g)) (62 + 64 * fb_ct (fun j_ => P j_ == false) (w * g)) [.ref t] D E [(t, .inr (1, [.ref a, .ref c])), (a, .inr (2, [.int (iI ((w : Nat) : Int)), .int (iI ((g : Nat) : Int)), .ref b])), (b, .inr (3, [.ref v, .int (iI ((un P : Nat) : Int)), .int (zI false)])), (v, .inl (D.2 2, n, .inr (.inl (wd P)))), (c, .inr (3, [.ref v3, .int (iI ((un S : Nat) : Int)), .int (zI false)])), (v3, .inl (D.2 2, n2, .inr (.inl (wd S))))] tY0 (S := Unit) (fun u_ => True) (fun u_ => some (.int (iI ((holN w g P : Nat) : Int)))) (fun u_ => [(t, .inr (1, [.ref a, .ref c])), (a, .inr (2, [.int (iI ((w : Nat) : Int)), .int (iI ((g : Nat) : Int)), .ref b])), (b, .inr (3, [.ref v, .int (iI ((un P : Nat) : Int)), .int (zI false)])), (v, .inl (D.2 2, n, .inr (.inl (wd P)))), (c, .inr (3, [.ref v3, .int (iI ((un S : Nat) : Int)), .int (zI false)])), (v3, .inl (D.2 2, n2, .inr (.inl (wd S))))]) := by
  refine tu_met (by decide +kernel) (Nat.le_of_ble_eq_true rfl) ?_
  intro p0 e0 s0 m0 below meth c0 A ls args Q hag hQ C hK hX hY hP hD hA hAe hl
  obtain ⟨kx, kb, hml, hown, hts, -⟩ := id C
  have hS : va_S A s0.heap s0.heap [] := va_S.rf
  have hl : lv_has ls 1 [(0, .ref t)] := hl
  have hwg := wg_le hw hg
  have hBn := hB.1
  have hBm := hB.2.1
  have hul := un_le hB
  have hul2 := un_le hB2
  refine lv_aload_n kx kb dX1_holes_0 rfl (lv_at hl 0 rfl) ?_
  refine va_get (D := D.1) (ci := 1) (v := .ref a) (C := RX1) (T := TX1) (N := 2) kx kb hts in_X1 hown hK hP 0 rfl rfl 0 (by decide) (hts _ q152) (fun _ h9 => h9) rfl dX1_holes_1 ?_
  refine t_callV (wr := [(t, .inr (1, [.ref a, .ref c])), (c, .inr (3, [.ref v3, .int (iI ((un S : Nat) : Int)), .int (zI false)])), (v3, .inl (D.2 2, n2, .inr (.inl (wd S))))]) C (met_X2_holes l D E a b v n w g P (by first | assumption | omega) (by first | assumption | omega) (by first | assumption | omega)) (cwV 0 hts (lw_V q951 q952 q953 q60 q954) rfl rfl rfl (by decide +kernel) ⟨Nat.le_of_ble_eq_true rfl, Nat.le_of_ble_eq_true rfl⟩) (va_recv hK hP (ci := 2) (q0 := 1) rfl rfl) hK hX hP hD hS hA [1, 2, 3] [0, 4, 5] rfl rfl (by decide) (by decide) (by decide) tYb_0 (fun _ _ _ => trivial) rfl hl.1 rfl (Nat.le_of_ble_eq_true rfl) dX1_holes_4 ⟨(show 0 + (31 + 7 * fb_ct (fun j_ => P j_ == false) (w * g)) ≤ 31 + 7 * fb_ct (fun j_ => P j_ == false) (w * g) from by omega), (show 0 + (62 + 64 * fb_ct (fun j_ => P j_ == false) (w * g)) ≤ 62 + 64 * fb_ct (fun j_ => P j_ == false) (w * g) from by omega)⟩ (fun u_ H locs hp hP hD hS => ?_)
  have hP : va_P D.1 clAll [(t, .inr (1, [.ref a, .ref c])), (c, .inr (3, [.ref v3, .int (iI ((un S : Nat) : Int)), .int (zI false)])), (v3, .inl (D.2 2, n2, .inr (.inl (wd S)))), (a, .inr (2, [.int (iI ((w : Nat) : Int)), .int (iI ((g : Nat) : Int)), .ref b])), (b, .inr (3, [.ref v, .int (iI ((un P : Nat) : Int)), .int (zI false)])), (v, .inl (D.2 2, n, .inr (.inl (wd P))))] H := hP
  have hD : va_D A [(t, .inr (1, [.ref a, .ref c])), (c, .inr (3, [.ref v3, .int (iI ((un S : Nat) : Int)), .int (zI false)])), (v3, .inl (D.2 2, n2, .inr (.inl (wd S)))), (a, .inr (2, [.int (iI ((w : Nat) : Int)), .int (iI ((g : Nat) : Int)), .ref b])), (b, .inr (3, [.ref v, .int (iI ((un P : Nat) : Int)), .int (zI false)])), (v, .inl (D.2 2, n, .inr (.inl (wd P))))] := hD
  refine W.eq (g2 := F0 m0 7 ls [.int (iI ((holN w g P : Nat) : Int))]) rfl ?_
  refine W.widen (k := 0 + (31 + 7 * fb_ct (fun j_ => P j_ == false) (w * g))) (n := 0 + (62 + 64 * fb_ct (fun j_ => P j_ == false) (w * g))) (Nat.le_refl _) (Nat.le_refl _) ?_
  subst hQ
  exact tm_iret C () trivial (hP.sub [0, 3, 4, 5, 1, 2] rfl) (hD.sub [0, 3, 4, 5, 1, 2] (by decide) rfl) hS (show 0 + (31 + 7 * fb_ct (fun j_ => P j_ == false) (w * g)) ≤ 31 + 7 * fb_ct (fun j_ => P j_ == false) (w * g) from by omega) (show 0 + (62 + 64 * fb_ct (fun j_ => P j_ == false) (w * g)) ≤ 62 + 64 * fb_ct (fun j_ => P j_ == false) (w * g) from by omega) rfl rfl dX1_holes_7
set_option maxHeartbeats 4000000 in
set_option maxRecDepth 100000 in
theorem met_X1_partOf_ok (l : Launch) (D : TG) (E : TE) (t : Nat) (a : Nat) (b : Nat) (v : Nat) (n : Nat) (w : Nat) (g : Nat) (P : Nat → Bool) (c : Nat) (v3 : Nat) (n2 : Nat) (S : Nat → Bool) (x : Int) (y : Int) (hw : 1 ≤ w ∧ w ≤ 32) (hg : 1 ≤ g ∧ g ≤ 32) (hB : BB P n) (hB2 : BB S n2) (hPz : ∀ j_, w * g ≤ j_ → P j_ = false) (hSz : ∀ j_, w * g ≤ j_ → S j_ = false) (hv : 0 ≤ x ∧ x < w ∧ 0 ≤ y ∧ y < g) : tMet l yX1_partOf cX1_partOf 4 (some .int) 7 182 (4 + 3 * (w * g)) (24 + 40 * (w * g)) [.ref t, .int (iI x), .int (iI y)] D E [(t, .inr (1, [.ref a, .ref c])), (a, .inr (2, [.int (iI ((w : Nat) : Int)), .int (iI ((g : Nat) : Int)), .ref b])), (b, .inr (3, [.ref v, .int (iI ((un P : Nat) : Int)), .int (zI false)])), (v, .inl (D.2 2, n, .inr (.inl (wd P)))), (c, .inr (3, [.ref v3, .int (iI ((un S : Nat) : Int)), .int (zI false)])), (v3, .inl (D.2 2, n2, .inr (.inl (wd S))))] tY0 (S := Unit) (fun u_ => True) (fun u_ => some (.int (iI (lbI w g P true (cel w x y))))) (fun u_ => [(t, .inr (1, [.ref a, .ref c])), (a, .inr (2, [.int (iI ((w : Nat) : Int)), .int (iI ((g : Nat) : Int)), .ref b])), (b, .inr (3, [.ref v, .int (iI ((un P : Nat) : Int)), .int (zI false)])), (v, .inl (D.2 2, n, .inr (.inl (wd P)))), (c, .inr (3, [.ref v3, .int (iI ((un S : Nat) : Int)), .int (zI false)])), (v3, .inl (D.2 2, n2, .inr (.inl (wd S))))]) := by
  refine tu_met (by decide +kernel) (Nat.le_of_ble_eq_true rfl) ?_
  intro p0 e0 s0 m0 below meth c0 A ls args Q hag hQ C hK hX hY hP hD hA hAe hl
  obtain ⟨kx, kb, hml, hown, hts, -⟩ := id C
  have hS : va_S A s0.heap s0.heap [] := va_S.rf
  have hl : lv_has ls 4 [(0, .ref t), (1, .int (iI x)), (2, .int (iI y))] := hl
  have hwg := wg_le hw hg
  have hBn := hB.1
  have hBm := hB.2.1
  have hul := un_le hB
  have hul2 := un_le hB2
  have hq := cel_int hv
  have hrl := fun b_ => rc_le (w := w) (g := g) (P := P) (b := b_) (c := cel w x y)
  have hrt := hrl true
  have hrf := hrl false
  refine lv_aload_n kx kb dX1_partOf_0 rfl (lv_at hl 0 rfl) ?_
  refine lv_iload_n kx kb dX1_partOf_1 rfl (lv_at hl 1 rfl) ?_
  refine lv_iload_n kx kb dX1_partOf_2 rfl (lv_at hl 2 rfl) ?_
  refine t_callRV C (met_X1_cellAt_ok l D E t a b v n w g P c v3 n2 S x y (by first | assumption | omega) (by first | assumption | omega) (by first | assumption | omega) (by first | assumption | omega) (by first | assumption | omega) (by first | assumption | omega) (by first | assumption | omega)) (cwV 2 hts (lw_V q1218 q1220 qs18 q59 q1221) rfl rfl rfl (by decide +kernel) ⟨Nat.le_of_ble_eq_true rfl, Nat.le_of_ble_eq_true rfl⟩) (va_recv hK hP (ci := 1) (q0 := 0) rfl rfl) hK hX hP hD hS hA [0, 1, 2, 3, 4, 5] rfl (by decide) tYb_0 (fun _ _ _ => trivial) rfl hl.1 rfl (Nat.le_of_ble_eq_true rfl) dX1_partOf_3 ⟨(show 0 ≤ 4 + 3 * (w * g) from by omega), (show 0 ≤ 24 + 40 * (w * g) from by omega)⟩ ?_
  refine W.eq (g2 := F0 m0 6 ls [.int (iI ((cel w x y : Nat) : Int))]) rfl ?_
  refine lv_istore_n (lv' := [(3, .int (iI ((cel w x y : Nat) : Int))), (0, .ref t), (1, .int (iI x)), (2, .int (iI y))]) kx kb dX1_partOf_6 rfl hl (by decide) rfl (fun ls hl => ?_)
  refine lv_aload_n kx kb dX1_partOf_7 rfl (lv_at hl 1 rfl) ?_
  refine va_get (D := D.1) (ci := 1) (v := .ref a) (C := RX1) (T := TX1) (N := 2) kx kb hts in_X1 hown hK hP 0 rfl rfl 0 (by decide) (hts _ q152) (fun _ h9 => h9) rfl dX1_partOf_8 ?_
  refine va_getN (D := D.1) (ci := 2) (v := .ref b) (C := RX2) (T := TX2) (N := 3) kx kb hts in_X2 hown hK hP 1 rfl rfl 2 (by decide) (va_Nw.use rfl (hX.1 _ q142 rfl)) (fun _ h9 => h9) rfl dX1_partOf_11 ?_
  refine lv_iload_n kx kb dX1_partOf_14 rfl (lv_at hl 0 rfl) ?_
  refine t_callRV C (met_J0_get l D E b v n P (cel w x y) (by first | assumption | omega) (by first | assumption | omega)) (cwV 1 hts (lw_V q1178 q620 q621 q61 q622) rfl rfl rfl (by decide +kernel) ⟨Nat.le_of_ble_eq_true rfl, Nat.le_of_ble_eq_true rfl⟩) (va_recv hK hP (ci := 3) (q0 := 2) rfl rfl) hK hX hP hD hS hA [2, 3] rfl (by decide) tYb_0 (fun _ _ _ => trivial) rfl hl.1 rfl (Nat.le_of_ble_eq_true rfl) dX1_partOf_15 ⟨(show 0 ≤ 4 + 3 * (w * g) from by omega), (show 0 ≤ 24 + 40 * (w * g) from by omega)⟩ ?_
  refine W.eq (g2 := F0 m0 18 ls [.int (zI (P (cel w x y)))]) rfl ?_
  refine tz_if_eq (tgt := 37) kx kb dX1_partOf_18 (by decide) (fun h18 => ?_) (fun h18 => ?_)
  · refine lv_iconst (v := iI (-1)) kx kb dX1_partOf_37 rfl ?_
    subst hQ
    exact tm_iret C () trivial hP hD hS (show 0 ≤ 4 + 3 * (w * g) from by omega) (show 0 ≤ 24 + 40 * (w * g) from by omega) (by rw [lbI_kd.mpr (show P (cel w x y) ≠ true by rw [h18]; decide)]) rfl dX1_partOf_38
  · refine lv_aload_n kx kb dX1_partOf_21 rfl (lv_at hl 1 rfl) ?_
    refine va_get (D := D.1) (ci := 1) (v := .ref a) (C := RX1) (T := TX1) (N := 2) kx kb hts in_X1 hown hK hP 0 rfl rfl 0 (by decide) (hts _ q152) (fun _ h9 => h9) rfl dX1_partOf_22 ?_
    refine lv_iload_n kx kb dX1_partOf_25 rfl (lv_at hl 0 rfl) ?_
    refine lv_iconst (v := iI 1) kx kb dX1_partOf_26 rfl ?_
    refine t_callV (wr := [(t, .inr (1, [.ref a, .ref c])), (c, .inr (3, [.ref v3, .int (iI ((un S : Nat) : Int)), .int (zI false)])), (v3, .inl (D.2 2, n2, .inr (.inl (wd S))))]) C (met_X2_reached l D E a b v n w g P (cel w x y) 1 true (by first | assumption | omega) (by first | assumption | omega) (by first | assumption | omega) (hq.2) (h18) (rfl)) (cwV 2 hts (lw_V q1271 q819 q820 q60 q821) rfl rfl rfl (by decide +kernel) ⟨Nat.le_of_ble_eq_true rfl, Nat.le_of_ble_eq_true rfl⟩) (va_recv hK hP (ci := 2) (q0 := 1) rfl rfl) hK hX hP hD hS hA [1, 2, 3] [0, 4, 5] rfl rfl (by decide) (by decide) (by decide) tYb_0 (fun _ _ _ => trivial) rfl hl.1 rfl (Nat.le_of_ble_eq_true rfl) dX1_partOf_27 ⟨(show 0 + (4 + 3 * fb_ct (rcS w g P true (cel w x y)) (w * g)) ≤ 4 + 3 * (w * g) from by omega), (show 0 + (24 + 40 * fb_ct (rcS w g P true (cel w x y)) (w * g)) ≤ 24 + 40 * (w * g) from by omega)⟩ (fun u_ H locs hp hP hD hS => ?_)
    obtain ⟨q_1, v2_2, n2_3⟩ := u_
    have hc27_1 : BB (rcS w g P true (cel w x y)) n2_3 := hp
    have hP : va_P D.1 clAll [(t, .inr (1, [.ref a, .ref c])), (c, .inr (3, [.ref v3, .int (iI ((un S : Nat) : Int)), .int (zI false)])), (v3, .inl (D.2 2, n2, .inr (.inl (wd S)))), (a, .inr (2, [.int (iI ((w : Nat) : Int)), .int (iI ((g : Nat) : Int)), .ref b])), (b, .inr (3, [.ref v, .int (iI ((un P : Nat) : Int)), .int (zI false)])), (v, .inl (D.2 2, n, .inr (.inl (wd P)))), (q_1, .inr (3, [.ref v2_2, .int (iI ((un (rcS w g P true (cel w x y)) : Nat) : Int)), .int (zI false)])), (v2_2, .inl (D.2 2, n2_3, .inr (.inl (wd (rcS w g P true (cel w x y))))))] H := hP
    have hD : va_D A [(t, .inr (1, [.ref a, .ref c])), (c, .inr (3, [.ref v3, .int (iI ((un S : Nat) : Int)), .int (zI false)])), (v3, .inl (D.2 2, n2, .inr (.inl (wd S)))), (a, .inr (2, [.int (iI ((w : Nat) : Int)), .int (iI ((g : Nat) : Int)), .ref b])), (b, .inr (3, [.ref v, .int (iI ((un P : Nat) : Int)), .int (zI false)])), (v, .inl (D.2 2, n, .inr (.inl (wd P)))), (q_1, .inr (3, [.ref v2_2, .int (iI ((un (rcS w g P true (cel w x y)) : Nat) : Int)), .int (zI false)])), (v2_2, .inl (D.2 2, n2_3, .inr (.inl (wd (rcS w g P true (cel w x y))))))] := hD
    refine W.eq (g2 := F0 m0 30 ls [.ref q_1]) rfl ?_
    refine W.widen (k := 0 + (4 + 3 * fb_ct (rcS w g P true (cel w x y)) (w * g))) (n := 0 + (24 + 40 * fb_ct (rcS w g P true (cel w x y)) (w * g))) (Nat.le_refl _) (Nat.le_refl _) ?_
    refine lv_iconst (v := iI 0) kx kb dX1_partOf_30 rfl ?_
    refine t_callRV C (met_J0_nextSetBit l D E q_1 v2_2 n2_3 (rcS w g P true (cel w x y)) 0 (hc27_1) (by first | assumption | omega)) (cwV 1 hts (lw_V q1352 q583 q584 q61 q585) rfl rfl rfl (by decide +kernel) ⟨Nat.le_of_ble_eq_true rfl, Nat.le_of_ble_eq_true rfl⟩) (va_recv hK hP (ci := 3) (q0 := 6) rfl rfl) hK hX hP hD hS hA [6, 7] rfl (by decide) tYb_0 (fun _ _ _ => trivial) rfl hl.1 rfl (Nat.le_of_ble_eq_true rfl) dX1_partOf_31 ⟨(show 0 + (4 + 3 * fb_ct (rcS w g P true (cel w x y)) (w * g)) ≤ 4 + 3 * (w * g) from by omega), (show 0 + (24 + 40 * fb_ct (rcS w g P true (cel w x y)) (w * g)) ≤ 24 + 40 * (w * g) from by omega)⟩ ?_
    refine W.eq (g2 := F0 m0 34 ls [.int (iI (nxt (rcS w g P true (cel w x y)) 0))]) rfl ?_
    refine lv_goto (tgt := 38) kx kb dX1_partOf_34 (by decide) ?_
    subst hQ
    exact tm_iret C () trivial (hP.sub [0, 3, 4, 5, 1, 2] rfl) (hD.sub [0, 3, 4, 5, 1, 2] (by decide) rfl) hS (show 0 + (4 + 3 * fb_ct (rcS w g P true (cel w x y)) (w * g)) ≤ 4 + 3 * (w * g) from by omega) (show 0 + (24 + 40 * fb_ct (rcS w g P true (cel w x y)) (w * g)) ≤ 24 + 40 * (w * g) from by omega) (by rw [nxt_rc hwg hq.2 h18]) rfl dX1_partOf_38
set_option maxHeartbeats 4000000 in
set_option maxRecDepth 100000 in
theorem met_X1_partSize_ok (l : Launch) (D : TG) (E : TE) (t : Nat) (a : Nat) (b : Nat) (v : Nat) (n : Nat) (w : Nat) (g : Nat) (P : Nat → Bool) (c : Nat) (v3 : Nat) (n2 : Nat) (S : Nat → Bool) (x : Int) (y : Int) (hw : 1 ≤ w ∧ w ≤ 32) (hg : 1 ≤ g ∧ g ≤ 32) (hB : BB P n) (hB2 : BB S n2) (hPz : ∀ j_, w * g ≤ j_ → P j_ = false) (hSz : ∀ j_, w * g ≤ j_ → S j_ = false) (hv : 0 ≤ x ∧ x < w ∧ 0 ≤ y ∧ y < g) : tMet l yX1_partSize cX1_partSize 4 (some .int) 7 182 (4 + 3 * (w * g)) (24 + 40 * (w * g)) [.ref t, .int (iI x), .int (iI y)] D E [(t, .inr (1, [.ref a, .ref c])), (a, .inr (2, [.int (iI ((w : Nat) : Int)), .int (iI ((g : Nat) : Int)), .ref b])), (b, .inr (3, [.ref v, .int (iI ((un P : Nat) : Int)), .int (zI false)])), (v, .inl (D.2 2, n, .inr (.inl (wd P)))), (c, .inr (3, [.ref v3, .int (iI ((un S : Nat) : Int)), .int (zI false)])), (v3, .inl (D.2 2, n2, .inr (.inl (wd S))))] tY0 (S := Unit) (fun u_ => True) (fun u_ => some (.int (iI (if lbI w g P true (cel w x y) = -1 then 0 else ((sizN w g P true (lbI w g P true (cel w x y)) : Nat) : Int))))) (fun u_ => [(t, .inr (1, [.ref a, .ref c])), (a, .inr (2, [.int (iI ((w : Nat) : Int)), .int (iI ((g : Nat) : Int)), .ref b])), (b, .inr (3, [.ref v, .int (iI ((un P : Nat) : Int)), .int (zI false)])), (v, .inl (D.2 2, n, .inr (.inl (wd P)))), (c, .inr (3, [.ref v3, .int (iI ((un S : Nat) : Int)), .int (zI false)])), (v3, .inl (D.2 2, n2, .inr (.inl (wd S))))]) := by
  refine tu_met (by decide +kernel) (Nat.le_of_ble_eq_true rfl) ?_
  intro p0 e0 s0 m0 below meth c0 A ls args Q hag hQ C hK hX hY hP hD hA hAe hl
  obtain ⟨kx, kb, hml, hown, hts, -⟩ := id C
  have hS : va_S A s0.heap s0.heap [] := va_S.rf
  have hl : lv_has ls 4 [(0, .ref t), (1, .int (iI x)), (2, .int (iI y))] := hl
  have hwg := wg_le hw hg
  have hBn := hB.1
  have hBm := hB.2.1
  have hul := un_le hB
  have hul2 := un_le hB2
  have hq := cel_int hv
  have hrl := fun b_ => rc_le (w := w) (g := g) (P := P) (b := b_) (c := cel w x y)
  have hrt := hrl true
  have hrf := hrl false
  refine lv_aload_n kx kb dX1_partSize_0 rfl (lv_at hl 0 rfl) ?_
  refine lv_iload_n kx kb dX1_partSize_1 rfl (lv_at hl 1 rfl) ?_
  refine lv_iload_n kx kb dX1_partSize_2 rfl (lv_at hl 2 rfl) ?_
  refine t_callRV C (met_X1_cellAt_ok l D E t a b v n w g P c v3 n2 S x y (by first | assumption | omega) (by first | assumption | omega) (by first | assumption | omega) (by first | assumption | omega) (by first | assumption | omega) (by first | assumption | omega) (by first | assumption | omega)) (cwV 2 hts (lw_V q1218 q1220 qs18 q59 q1221) rfl rfl rfl (by decide +kernel) ⟨Nat.le_of_ble_eq_true rfl, Nat.le_of_ble_eq_true rfl⟩) (va_recv hK hP (ci := 1) (q0 := 0) rfl rfl) hK hX hP hD hS hA [0, 1, 2, 3, 4, 5] rfl (by decide) tYb_0 (fun _ _ _ => trivial) rfl hl.1 rfl (Nat.le_of_ble_eq_true rfl) dX1_partSize_3 ⟨(show 0 ≤ 4 + 3 * (w * g) from by omega), (show 0 ≤ 24 + 40 * (w * g) from by omega)⟩ ?_
  refine W.eq (g2 := F0 m0 6 ls [.int (iI ((cel w x y : Nat) : Int))]) rfl ?_
  refine lv_istore_n (lv' := [(3, .int (iI ((cel w x y : Nat) : Int))), (0, .ref t), (1, .int (iI x)), (2, .int (iI y))]) kx kb dX1_partSize_6 rfl hl (by decide) rfl (fun ls hl => ?_)
  refine lv_aload_n kx kb dX1_partSize_7 rfl (lv_at hl 1 rfl) ?_
  refine va_get (D := D.1) (ci := 1) (v := .ref a) (C := RX1) (T := TX1) (N := 2) kx kb hts in_X1 hown hK hP 0 rfl rfl 0 (by decide) (hts _ q152) (fun _ h9 => h9) rfl dX1_partSize_8 ?_
  refine va_getN (D := D.1) (ci := 2) (v := .ref b) (C := RX2) (T := TX2) (N := 3) kx kb hts in_X2 hown hK hP 1 rfl rfl 2 (by decide) (va_Nw.use rfl (hX.1 _ q142 rfl)) (fun _ h9 => h9) rfl dX1_partSize_11 ?_
  refine lv_iload_n kx kb dX1_partSize_14 rfl (lv_at hl 0 rfl) ?_
  refine t_callRV C (met_J0_get l D E b v n P (cel w x y) (by first | assumption | omega) (by first | assumption | omega)) (cwV 1 hts (lw_V q1178 q620 q621 q61 q622) rfl rfl rfl (by decide +kernel) ⟨Nat.le_of_ble_eq_true rfl, Nat.le_of_ble_eq_true rfl⟩) (va_recv hK hP (ci := 3) (q0 := 2) rfl rfl) hK hX hP hD hS hA [2, 3] rfl (by decide) tYb_0 (fun _ _ _ => trivial) rfl hl.1 rfl (Nat.le_of_ble_eq_true rfl) dX1_partSize_15 ⟨(show 0 ≤ 4 + 3 * (w * g) from by omega), (show 0 ≤ 24 + 40 * (w * g) from by omega)⟩ ?_
  refine W.eq (g2 := F0 m0 18 ls [.int (zI (P (cel w x y)))]) rfl ?_
  refine tz_if_eq (tgt := 36) kx kb dX1_partSize_18 (by decide) (fun h18 => ?_) (fun h18 => ?_)
  · refine lv_iconst (v := iI 0) kx kb dX1_partSize_36 rfl ?_
    subst hQ
    exact tm_iret C () trivial hP hD hS (show 0 ≤ 4 + 3 * (w * g) from by omega) (show 0 ≤ 24 + 40 * (w * g) from by omega) (by rw [if_pos (lbI_kd.mpr (show P (cel w x y) ≠ true by rw [h18]; decide))]) rfl dX1_partSize_37
  · refine lv_aload_n kx kb dX1_partSize_21 rfl (lv_at hl 1 rfl) ?_
    refine va_get (D := D.1) (ci := 1) (v := .ref a) (C := RX1) (T := TX1) (N := 2) kx kb hts in_X1 hown hK hP 0 rfl rfl 0 (by decide) (hts _ q152) (fun _ h9 => h9) rfl dX1_partSize_22 ?_
    refine lv_iload_n kx kb dX1_partSize_25 rfl (lv_at hl 0 rfl) ?_
    refine lv_iconst (v := iI 1) kx kb dX1_partSize_26 rfl ?_
    refine t_callV (wr := [(t, .inr (1, [.ref a, .ref c])), (c, .inr (3, [.ref v3, .int (iI ((un S : Nat) : Int)), .int (zI false)])), (v3, .inl (D.2 2, n2, .inr (.inl (wd S))))]) C (met_X2_reached l D E a b v n w g P (cel w x y) 1 true (by first | assumption | omega) (by first | assumption | omega) (by first | assumption | omega) (hq.2) (h18) (rfl)) (cwV 2 hts (lw_V q1271 q819 q820 q60 q821) rfl rfl rfl (by decide +kernel) ⟨Nat.le_of_ble_eq_true rfl, Nat.le_of_ble_eq_true rfl⟩) (va_recv hK hP (ci := 2) (q0 := 1) rfl rfl) hK hX hP hD hS hA [1, 2, 3] [0, 4, 5] rfl rfl (by decide) (by decide) (by decide) tYb_0 (fun _ _ _ => trivial) rfl hl.1 rfl (Nat.le_of_ble_eq_true rfl) dX1_partSize_27 ⟨(show 0 + (4 + 3 * fb_ct (rcS w g P true (cel w x y)) (w * g)) ≤ 4 + 3 * (w * g) from by omega), (show 0 + (24 + 40 * fb_ct (rcS w g P true (cel w x y)) (w * g)) ≤ 24 + 40 * (w * g) from by omega)⟩ (fun u_ H locs hp hP hD hS => ?_)
    obtain ⟨q_1, v2_2, n2_3⟩ := u_
    have hc27_1 : BB (rcS w g P true (cel w x y)) n2_3 := hp
    have hP : va_P D.1 clAll [(t, .inr (1, [.ref a, .ref c])), (c, .inr (3, [.ref v3, .int (iI ((un S : Nat) : Int)), .int (zI false)])), (v3, .inl (D.2 2, n2, .inr (.inl (wd S)))), (a, .inr (2, [.int (iI ((w : Nat) : Int)), .int (iI ((g : Nat) : Int)), .ref b])), (b, .inr (3, [.ref v, .int (iI ((un P : Nat) : Int)), .int (zI false)])), (v, .inl (D.2 2, n, .inr (.inl (wd P)))), (q_1, .inr (3, [.ref v2_2, .int (iI ((un (rcS w g P true (cel w x y)) : Nat) : Int)), .int (zI false)])), (v2_2, .inl (D.2 2, n2_3, .inr (.inl (wd (rcS w g P true (cel w x y))))))] H := hP
    have hD : va_D A [(t, .inr (1, [.ref a, .ref c])), (c, .inr (3, [.ref v3, .int (iI ((un S : Nat) : Int)), .int (zI false)])), (v3, .inl (D.2 2, n2, .inr (.inl (wd S)))), (a, .inr (2, [.int (iI ((w : Nat) : Int)), .int (iI ((g : Nat) : Int)), .ref b])), (b, .inr (3, [.ref v, .int (iI ((un P : Nat) : Int)), .int (zI false)])), (v, .inl (D.2 2, n, .inr (.inl (wd P)))), (q_1, .inr (3, [.ref v2_2, .int (iI ((un (rcS w g P true (cel w x y)) : Nat) : Int)), .int (zI false)])), (v2_2, .inl (D.2 2, n2_3, .inr (.inl (wd (rcS w g P true (cel w x y))))))] := hD
    refine W.eq (g2 := F0 m0 30 ls [.ref q_1]) rfl ?_
    refine W.widen (k := 0 + (4 + 3 * fb_ct (rcS w g P true (cel w x y)) (w * g))) (n := 0 + (24 + 40 * fb_ct (rcS w g P true (cel w x y)) (w * g))) (Nat.le_refl _) (Nat.le_refl _) ?_
    refine t_callRV C (met_J0_cardinality l D E q_1 v2_2 n2_3 (rcS w g P true (cel w x y)) (hc27_1)) (cwV 0 hts (lw_V q535 q536 q537 q61 q538) rfl rfl rfl (by decide +kernel) ⟨Nat.le_of_ble_eq_true rfl, Nat.le_of_ble_eq_true rfl⟩) (va_recv hK hP (ci := 3) (q0 := 6) rfl rfl) hK hX hP hD hS hA [6, 7] rfl (by decide) tYb_0 (fun _ _ _ => trivial) rfl hl.1 rfl (Nat.le_of_ble_eq_true rfl) dX1_partSize_30 ⟨(show 0 + (4 + 3 * fb_ct (rcS w g P true (cel w x y)) (w * g)) ≤ 4 + 3 * (w * g) from by omega), (show 0 + (24 + 40 * fb_ct (rcS w g P true (cel w x y)) (w * g)) ≤ 24 + 40 * (w * g) from by omega)⟩ ?_
    refine W.eq (g2 := F0 m0 33 ls [.int (iI ((fb_ct (rcS w g P true (cel w x y)) 1024 : Nat) : Int))]) rfl ?_
    refine lv_goto (tgt := 37) kx kb dX1_partSize_33 (by decide) ?_
    subst hQ
    exact tm_iret C () trivial (hP.sub [0, 3, 4, 5, 1, 2] rfl) (hD.sub [0, 3, 4, 5, 1, 2] (by decide) rfl) hS (show 0 + (4 + 3 * fb_ct (rcS w g P true (cel w x y)) (w * g)) ≤ 4 + 3 * (w * g) from by omega) (show 0 + (24 + 40 * fb_ct (rcS w g P true (cel w x y)) (w * g)) ≤ 24 + 40 * (w * g) from by omega) (by rw [if_neg (fun q_ => lbI_kd.mp q_ h18), rc_siz hwg]) rfl dX1_partSize_37
set_option maxHeartbeats 4000000 in
set_option maxRecDepth 100000 in
theorem met_X1_fill_ok (l : Launch) (D : TG) (E : TE) (t : Nat) (a : Nat) (b : Nat) (v : Nat) (n : Nat) (w : Nat) (g : Nat) (P : Nat → Bool) (c : Nat) (v3 : Nat) (n2 : Nat) (S : Nat → Bool) (x : Int) (y : Int) (hw : 1 ≤ w ∧ w ≤ 32) (hg : 1 ≤ g ∧ g ≤ 32) (hB : BB P n) (hB2 : BB S n2) (hPz : ∀ j_, w * g ≤ j_ → P j_ = false) (hSz : ∀ j_, w * g ≤ j_ → S j_ = false) (hv : 0 ≤ x ∧ x < w ∧ 0 ≤ y ∧ y < g) : tMet l yX1_fill cX1_fill 5 (some .int) 7 182 (5 + 3 * (w * g)) (54 + 40 * (w * g)) [.ref t, .int (iI x), .int (iI y)] D E [(t, .inr (1, [.ref a, .ref c])), (a, .inr (2, [.int (iI ((w : Nat) : Int)), .int (iI ((g : Nat) : Int)), .ref b])), (b, .inr (3, [.ref v, .int (iI ((un P : Nat) : Int)), .int (zI false)])), (v, .inl (D.2 2, n, .inr (.inl (wd P)))), (c, .inr (3, [.ref v3, .int (iI ((un S : Nat) : Int)), .int (zI false)])), (v3, .inl (D.2 2, n2, .inr (.inl (wd S))))] tY0 (S := Nat × Nat) (fun u_ => BB (if P (cel w x y) then P else filF w g P (cel w x y)) u_.2) (fun u_ => some (.int (iI (if P (cel w x y) then 0 else ((sizN w g P false (lbI w g P false (cel w x y)) : Nat) : Int))))) (fun u_ => [(t, .inr (1, [.ref a, .ref c])), (a, .inr (2, [.int (iI ((w : Nat) : Int)), .int (iI ((g : Nat) : Int)), .ref b])), (b, .inr (3, [.ref u_.1, .int (iI ((un (if P (cel w x y) then P else filF w g P (cel w x y)) : Nat) : Int)), .int (zI false)])), (u_.1, .inl (D.2 2, u_.2, .inr (.inl (wd (if P (cel w x y) then P else filF w g P (cel w x y)))))), (c, .inr (3, [.ref v3, .int (iI ((un S : Nat) : Int)), .int (zI false)])), (v3, .inl (D.2 2, n2, .inr (.inl (wd S))))]) := by
  refine tu_met (by decide +kernel) (Nat.le_of_ble_eq_true rfl) ?_
  intro p0 e0 s0 m0 below meth c0 A ls args Q hag hQ C hK hX hY hP hD hA hAe hl
  obtain ⟨kx, kb, hml, hown, hts, -⟩ := id C
  have hS : va_S A s0.heap s0.heap [] := va_S.rf
  have hl : lv_has ls 5 [(0, .ref t), (1, .int (iI x)), (2, .int (iI y))] := hl
  have hwg := wg_le hw hg
  have hBn := hB.1
  have hBm := hB.2.1
  have hul := un_le hB
  have hul2 := un_le hB2
  have hq := cel_int hv
  have hrl := fun b_ => rc_le (w := w) (g := g) (P := P) (b := b_) (c := cel w x y)
  have hrt := hrl true
  have hrf := hrl false
  have hgc := gC_le n (un (rcS w g P false (cel w x y)))
  refine lv_aload_n kx kb dX1_fill_0 rfl (lv_at hl 0 rfl) ?_
  refine lv_iload_n kx kb dX1_fill_1 rfl (lv_at hl 1 rfl) ?_
  refine lv_iload_n kx kb dX1_fill_2 rfl (lv_at hl 2 rfl) ?_
  refine t_callRV C (met_X1_cellAt_ok l D E t a b v n w g P c v3 n2 S x y (by first | assumption | omega) (by first | assumption | omega) (by first | assumption | omega) (by first | assumption | omega) (by first | assumption | omega) (by first | assumption | omega) (by first | assumption | omega)) (cwV 2 hts (lw_V q1218 q1220 qs18 q59 q1221) rfl rfl rfl (by decide +kernel) ⟨Nat.le_of_ble_eq_true rfl, Nat.le_of_ble_eq_true rfl⟩) (va_recv hK hP (ci := 1) (q0 := 0) rfl rfl) hK hX hP hD hS hA [0, 1, 2, 3, 4, 5] rfl (by decide) tYb_0 (fun _ _ _ => trivial) rfl hl.1 rfl (Nat.le_of_ble_eq_true rfl) dX1_fill_3 ⟨(show 0 ≤ 5 + 3 * (w * g) from by omega), (show 0 ≤ 54 + 40 * (w * g) from by omega)⟩ ?_
  refine W.eq (g2 := F0 m0 6 ls [.int (iI ((cel w x y : Nat) : Int))]) rfl ?_
  refine lv_istore_n (lv' := [(3, .int (iI ((cel w x y : Nat) : Int))), (0, .ref t), (1, .int (iI x)), (2, .int (iI y))]) kx kb dX1_fill_6 rfl hl (by decide) rfl (fun ls hl => ?_)
  refine lv_aload_n kx kb dX1_fill_7 rfl (lv_at hl 1 rfl) ?_
  refine va_get (D := D.1) (ci := 1) (v := .ref a) (C := RX1) (T := TX1) (N := 2) kx kb hts in_X1 hown hK hP 0 rfl rfl 0 (by decide) (hts _ q152) (fun _ h9 => h9) rfl dX1_fill_8 ?_
  refine va_getN (D := D.1) (ci := 2) (v := .ref b) (C := RX2) (T := TX2) (N := 3) kx kb hts in_X2 hown hK hP 1 rfl rfl 2 (by decide) (va_Nw.use rfl (hX.1 _ q142 rfl)) (fun _ h9 => h9) rfl dX1_fill_11 ?_
  refine lv_iload_n kx kb dX1_fill_14 rfl (lv_at hl 0 rfl) ?_
  refine t_callRV C (met_J0_get l D E b v n P (cel w x y) (by first | assumption | omega) (by first | assumption | omega)) (cwV 1 hts (lw_V q1178 q620 q621 q61 q622) rfl rfl rfl (by decide +kernel) ⟨Nat.le_of_ble_eq_true rfl, Nat.le_of_ble_eq_true rfl⟩) (va_recv hK hP (ci := 3) (q0 := 2) rfl rfl) hK hX hP hD hS hA [2, 3] rfl (by decide) tYb_0 (fun _ _ _ => trivial) rfl hl.1 rfl (Nat.le_of_ble_eq_true rfl) dX1_fill_15 ⟨(show 0 ≤ 5 + 3 * (w * g) from by omega), (show 0 ≤ 54 + 40 * (w * g) from by omega)⟩ ?_
  refine W.eq (g2 := F0 m0 18 ls [.int (zI (P (cel w x y)))]) rfl ?_
  refine tz_if_eq (tgt := 23) kx kb dX1_fill_18 (by decide) (fun h18 => ?_) (fun h18 => ?_)
  · refine lv_aload_n kx kb dX1_fill_23 rfl (lv_at hl 1 rfl) ?_
    refine va_get (D := D.1) (ci := 1) (v := .ref a) (C := RX1) (T := TX1) (N := 2) kx kb hts in_X1 hown hK hP 0 rfl rfl 0 (by decide) (hts _ q152) (fun _ h9 => h9) rfl dX1_fill_24 ?_
    refine lv_iload_n kx kb dX1_fill_27 rfl (lv_at hl 0 rfl) ?_
    refine lv_iconst (v := iI 2) kx kb dX1_fill_28 rfl ?_
    refine t_callV (wr := [(t, .inr (1, [.ref a, .ref c])), (c, .inr (3, [.ref v3, .int (iI ((un S : Nat) : Int)), .int (zI false)])), (v3, .inl (D.2 2, n2, .inr (.inl (wd S))))]) C (met_X2_reached l D E a b v n w g P (cel w x y) 2 false (by first | assumption | omega) (by first | assumption | omega) (by first | assumption | omega) (hq.2) (h18) (rfl)) (cwV 2 hts (lw_V q1271 q819 q820 q60 q821) rfl rfl rfl (by decide +kernel) ⟨Nat.le_of_ble_eq_true rfl, Nat.le_of_ble_eq_true rfl⟩) (va_recv hK hP (ci := 2) (q0 := 1) rfl rfl) hK hX hP hD hS hA [1, 2, 3] [0, 4, 5] rfl rfl (by decide) (by decide) (by decide) tYb_0 (fun _ _ _ => trivial) rfl hl.1 rfl (Nat.le_of_ble_eq_true rfl) dX1_fill_29 ⟨(show 0 + (4 + 3 * fb_ct (rcS w g P false (cel w x y)) (w * g)) ≤ 5 + 3 * (w * g) from by omega), (show 0 + (24 + 40 * fb_ct (rcS w g P false (cel w x y)) (w * g)) ≤ 54 + 40 * (w * g) from by omega)⟩ (fun u_ H locs hp hP hD hS => ?_)
    obtain ⟨q_1, v2_2, n2_3⟩ := u_
    have hc29_1 : BB (rcS w g P false (cel w x y)) n2_3 := hp
    have hP : va_P D.1 clAll [(t, .inr (1, [.ref a, .ref c])), (c, .inr (3, [.ref v3, .int (iI ((un S : Nat) : Int)), .int (zI false)])), (v3, .inl (D.2 2, n2, .inr (.inl (wd S)))), (a, .inr (2, [.int (iI ((w : Nat) : Int)), .int (iI ((g : Nat) : Int)), .ref b])), (b, .inr (3, [.ref v, .int (iI ((un P : Nat) : Int)), .int (zI false)])), (v, .inl (D.2 2, n, .inr (.inl (wd P)))), (q_1, .inr (3, [.ref v2_2, .int (iI ((un (rcS w g P false (cel w x y)) : Nat) : Int)), .int (zI false)])), (v2_2, .inl (D.2 2, n2_3, .inr (.inl (wd (rcS w g P false (cel w x y))))))] H := hP
    have hD : va_D A [(t, .inr (1, [.ref a, .ref c])), (c, .inr (3, [.ref v3, .int (iI ((un S : Nat) : Int)), .int (zI false)])), (v3, .inl (D.2 2, n2, .inr (.inl (wd S)))), (a, .inr (2, [.int (iI ((w : Nat) : Int)), .int (iI ((g : Nat) : Int)), .ref b])), (b, .inr (3, [.ref v, .int (iI ((un P : Nat) : Int)), .int (zI false)])), (v, .inl (D.2 2, n, .inr (.inl (wd P)))), (q_1, .inr (3, [.ref v2_2, .int (iI ((un (rcS w g P false (cel w x y)) : Nat) : Int)), .int (zI false)])), (v2_2, .inl (D.2 2, n2_3, .inr (.inl (wd (rcS w g P false (cel w x y))))))] := hD
    refine W.eq (g2 := F0 m0 32 ls [.ref q_1]) rfl ?_
    refine W.widen (k := 0 + (4 + 3 * fb_ct (rcS w g P false (cel w x y)) (w * g))) (n := 0 + (24 + 40 * fb_ct (rcS w g P false (cel w x y)) (w * g))) (Nat.le_refl _) (Nat.le_refl _) ?_
    have hgs := gS_le (n := n) (un_le hc29_1).2
    refine lv_astore (lv' := [(4, .ref q_1), (3, .int (iI ((cel w x y : Nat) : Int))), (0, .ref t), (1, .int (iI x)), (2, .int (iI y))]) kx kb dX1_fill_32 hl (by decide) rfl (fun ls hl => ?_)
    refine lv_aload_n kx kb dX1_fill_34 rfl (lv_at hl 2 rfl) ?_
    refine va_get (D := D.1) (ci := 1) (v := .ref a) (C := RX1) (T := TX1) (N := 2) kx kb hts in_X1 hown hK hP 0 rfl rfl 0 (by decide) (hts _ q152) (fun _ h9 => h9) rfl dX1_fill_35 ?_
    refine va_getN (D := D.1) (ci := 2) (v := .ref b) (C := RX2) (T := TX2) (N := 3) kx kb hts in_X2 hown hK hP 3 rfl rfl 2 (by decide) (va_Nw.use rfl (hX.1 _ q142 rfl)) (fun _ h9 => h9) rfl dX1_fill_38 ?_
    refine lv_aload kx kb dX1_fill_41 (lv_at hl 0 rfl) ?_
    refine t_callV (wr := [(t, .inr (1, [.ref a, .ref c])), (c, .inr (3, [.ref v3, .int (iI ((un S : Nat) : Int)), .int (zI false)])), (v3, .inl (D.2 2, n2, .inr (.inl (wd S)))), (a, .inr (2, [.int (iI ((w : Nat) : Int)), .int (iI ((g : Nat) : Int)), .ref b]))]) C (met_J0_or l D E b v n P q_1 v2_2 n2_3 (rcS w g P false (cel w x y)) (by first | assumption | omega) (hc29_1)) (cwV 1 hts (lw_V q1272 q558 q559 q61 q560) rfl rfl rfl (by decide +kernel) ⟨Nat.le_of_ble_eq_true rfl, Nat.le_of_ble_eq_true rfl⟩) (va_recv hK hP (ci := 3) (q0 := 4) rfl rfl) hK hX hP hD hS hA [4, 5, 6, 7] [0, 1, 2, 3] rfl rfl (by decide) (by decide) (by decide) tYb_0 (fun _ _ _ => trivial) rfl hl.1 rfl (Nat.le_of_ble_eq_true rfl) dX1_fill_43 ⟨(show 0 + (4 + 3 * fb_ct (rcS w g P false (cel w x y)) (w * g)) + (gC n (un (rcS w g P false (cel w x y)))) ≤ 5 + 3 * (w * g) from by omega), (show 0 + (24 + 40 * fb_ct (rcS w g P false (cel w x y)) (w * g)) + (gS n (un (rcS w g P false (cel w x y)))) ≤ 54 + 40 * (w * g) from by omega)⟩ (fun u_ H locs hp hP hD hS => ?_)
    obtain ⟨w2_4, rfl⟩ : ∃ z, z = u_ := ⟨_, rfl⟩
    have hP : va_P D.1 clAll [(t, .inr (1, [.ref a, .ref c])), (c, .inr (3, [.ref v3, .int (iI ((un S : Nat) : Int)), .int (zI false)])), (v3, .inl (D.2 2, n2, .inr (.inl (wd S)))), (a, .inr (2, [.int (iI ((w : Nat) : Int)), .int (iI ((g : Nat) : Int)), .ref b])), (b, .inr (3, [.ref w2_4, .int (iI ((un (orB P (rcS w g P false (cel w x y))) : Nat) : Int)), .int (zI false)])), (w2_4, .inl (D.2 2, gN n (un (rcS w g P false (cel w x y))), .inr (.inl (wd (orB P (rcS w g P false (cel w x y))))))), (q_1, .inr (3, [.ref v2_2, .int (iI ((un (rcS w g P false (cel w x y)) : Nat) : Int)), .int (zI false)])), (v2_2, .inl (D.2 2, n2_3, .inr (.inl (wd (rcS w g P false (cel w x y))))))] H := hP
    have hD : va_D A [(t, .inr (1, [.ref a, .ref c])), (c, .inr (3, [.ref v3, .int (iI ((un S : Nat) : Int)), .int (zI false)])), (v3, .inl (D.2 2, n2, .inr (.inl (wd S)))), (a, .inr (2, [.int (iI ((w : Nat) : Int)), .int (iI ((g : Nat) : Int)), .ref b])), (b, .inr (3, [.ref w2_4, .int (iI ((un (orB P (rcS w g P false (cel w x y))) : Nat) : Int)), .int (zI false)])), (w2_4, .inl (D.2 2, gN n (un (rcS w g P false (cel w x y))), .inr (.inl (wd (orB P (rcS w g P false (cel w x y))))))), (q_1, .inr (3, [.ref v2_2, .int (iI ((un (rcS w g P false (cel w x y)) : Nat) : Int)), .int (zI false)])), (v2_2, .inl (D.2 2, n2_3, .inr (.inl (wd (rcS w g P false (cel w x y))))))] := hD
    refine W.eq (g2 := F0 m0 46 ls []) rfl ?_
    refine W.widen (k := 0 + (4 + 3 * fb_ct (rcS w g P false (cel w x y)) (w * g)) + (gC n (un (rcS w g P false (cel w x y))))) (n := 0 + (24 + 40 * fb_ct (rcS w g P false (cel w x y)) (w * g)) + (gS n (un (rcS w g P false (cel w x y))))) (Nat.le_refl _) (Nat.le_refl _) ?_
    have hP : va_P D.1 clAll [(t, .inr (1, [.ref a, .ref c])), (c, .inr (3, [.ref v3, .int (iI ((un S : Nat) : Int)), .int (zI false)])), (v3, .inl (D.2 2, n2, .inr (.inl (wd S)))), (a, .inr (2, [.int (iI ((w : Nat) : Int)), .int (iI ((g : Nat) : Int)), .ref b])), (b, .inr (3, [.ref w2_4, .int (iI ((un (if P (cel w x y) then P else filF w g P (cel w x y)) : Nat) : Int)), .int (zI false)])), (w2_4, .inl (D.2 2, gN n (un (rcS w g P false (cel w x y))), .inr (.inl (wd (if P (cel w x y) then P else filF w g P (cel w x y)))))), (q_1, .inr (3, [.ref v2_2, .int (iI ((un (rcS w g P false (cel w x y)) : Nat) : Int)), .int (zI false)])), (v2_2, .inl (D.2 2, n2_3, .inr (.inl (wd (rcS w g P false (cel w x y))))))] H := by rw [if_neg (by rw [h18]; decide), ← or_fil hPz]; exact hP
    have hD : va_D A [(t, .inr (1, [.ref a, .ref c])), (c, .inr (3, [.ref v3, .int (iI ((un S : Nat) : Int)), .int (zI false)])), (v3, .inl (D.2 2, n2, .inr (.inl (wd S)))), (a, .inr (2, [.int (iI ((w : Nat) : Int)), .int (iI ((g : Nat) : Int)), .ref b])), (b, .inr (3, [.ref w2_4, .int (iI ((un (if P (cel w x y) then P else filF w g P (cel w x y)) : Nat) : Int)), .int (zI false)])), (w2_4, .inl (D.2 2, gN n (un (rcS w g P false (cel w x y))), .inr (.inl (wd (if P (cel w x y) then P else filF w g P (cel w x y)))))), (q_1, .inr (3, [.ref v2_2, .int (iI ((un (rcS w g P false (cel w x y)) : Nat) : Int)), .int (zI false)])), (v2_2, .inl (D.2 2, n2_3, .inr (.inl (wd (rcS w g P false (cel w x y))))))] := by rw [if_neg (by rw [h18]; decide), ← or_fil hPz]; exact hD
    refine lv_aload kx kb dX1_fill_46 (lv_at hl 0 rfl) ?_
    refine t_callRV C (met_J0_cardinality l D E q_1 v2_2 n2_3 (rcS w g P false (cel w x y)) (hc29_1)) (cwV 0 hts (lw_V q535 q536 q537 q61 q538) rfl rfl rfl (by decide +kernel) ⟨Nat.le_of_ble_eq_true rfl, Nat.le_of_ble_eq_true rfl⟩) (va_recv hK hP (ci := 3) (q0 := 6) rfl rfl) hK hX hP hD hS hA [6, 7] rfl (by decide) tYb_0 (fun _ _ _ => trivial) rfl hl.1 rfl (Nat.le_of_ble_eq_true rfl) dX1_fill_48 ⟨(show 0 + (4 + 3 * fb_ct (rcS w g P false (cel w x y)) (w * g)) + (gC n (un (rcS w g P false (cel w x y)))) ≤ 5 + 3 * (w * g) from by omega), (show 0 + (24 + 40 * fb_ct (rcS w g P false (cel w x y)) (w * g)) + (gS n (un (rcS w g P false (cel w x y)))) ≤ 54 + 40 * (w * g) from by omega)⟩ ?_
    refine W.eq (g2 := F0 m0 51 ls [.int (iI ((fb_ct (rcS w g P false (cel w x y)) 1024 : Nat) : Int))]) rfl ?_
    subst hQ
    exact tm_iret C (w2_4, gN n (un (rcS w g P false (cel w x y)))) (by rw [if_neg (by rw [h18]; decide), ← or_fil hPz]; exact BB_or hB hc29_1) (hP.sub [0, 3, 4, 5, 1, 2] rfl) (hD.sub [0, 3, 4, 5, 1, 2] (by decide) rfl) hS (show 0 + (4 + 3 * fb_ct (rcS w g P false (cel w x y)) (w * g)) + (gC n (un (rcS w g P false (cel w x y)))) ≤ 5 + 3 * (w * g) from by omega) (show 0 + (24 + 40 * fb_ct (rcS w g P false (cel w x y)) (w * g)) + (gS n (un (rcS w g P false (cel w x y)))) ≤ 54 + 40 * (w * g) from by omega) (by rw [if_neg (by rw [h18]; decide), rc_siz hwg]) rfl dX1_fill_51
  · have hP : va_P D.1 clAll [(t, .inr (1, [.ref a, .ref c])), (a, .inr (2, [.int (iI ((w : Nat) : Int)), .int (iI ((g : Nat) : Int)), .ref b])), (b, .inr (3, [.ref v, .int (iI ((un (if P (cel w x y) then P else filF w g P (cel w x y)) : Nat) : Int)), .int (zI false)])), (v, .inl (D.2 2, n, .inr (.inl (wd (if P (cel w x y) then P else filF w g P (cel w x y)))))), (c, .inr (3, [.ref v3, .int (iI ((un S : Nat) : Int)), .int (zI false)])), (v3, .inl (D.2 2, n2, .inr (.inl (wd S))))] s0.heap := by rw [if_pos h18]; exact hP
    have hD : va_D A [(t, .inr (1, [.ref a, .ref c])), (a, .inr (2, [.int (iI ((w : Nat) : Int)), .int (iI ((g : Nat) : Int)), .ref b])), (b, .inr (3, [.ref v, .int (iI ((un (if P (cel w x y) then P else filF w g P (cel w x y)) : Nat) : Int)), .int (zI false)])), (v, .inl (D.2 2, n, .inr (.inl (wd (if P (cel w x y) then P else filF w g P (cel w x y)))))), (c, .inr (3, [.ref v3, .int (iI ((un S : Nat) : Int)), .int (zI false)])), (v3, .inl (D.2 2, n2, .inr (.inl (wd S))))] := by rw [if_pos h18]; exact hD
    refine lv_iconst (v := iI 0) kx kb dX1_fill_21 rfl ?_
    subst hQ
    exact tm_iret C (v, n) (by rw [if_pos h18]; exact hB) hP hD hS (show 0 ≤ 5 + 3 * (w * g) from by omega) (show 0 ≤ 54 + 40 * (w * g) from by omega) (by rw [if_pos h18]) rfl dX1_fill_22
