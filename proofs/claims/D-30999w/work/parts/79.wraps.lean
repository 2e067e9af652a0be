set_option maxRecDepth 100000
set_option maxHeartbeats 4000000 in
set_option maxRecDepth 100000 in
theorem met_X0_open_ok (l : Launch) (D : TG) (E : TE) (t : Nat) (a : Nat) (b : Nat) (v : Nat) (n : Nat) (w : Nat) (g : Nat) (P : Nat → Bool) (c : Nat) (v3 : Nat) (n2 : Nat) (S : Nat → Bool) (w2 : Nat) (g2 : Nat) (ou : Nat) (fo : Nat → Int64) (hw : 1 ≤ w ∧ w ≤ 32) (hg : 1 ≤ g ∧ g ≤ 32) (hB : BB P n) (hB2 : BB S n2) (hPz : ∀ j_, w * g ≤ j_ → P j_ = false) (hSz : ∀ j_, w * g ≤ j_ → S j_ = false) (hv : 1 ≤ w2 ∧ w2 ≤ 32 ∧ 1 ≤ g2 ∧ g2 ≤ 32) : tMetH l yX0_open cX0_open 5 (some .int) [(0, 10, 13, 13)] 5 108 (5) (11) [.ref t, .int (iI ((w2 : Nat) : Int)), .int (iI ((g2 : Nat) : Int)), .ref ou] D E [(t, .inr (1, [.ref a, .ref c])), (a, .inr (2, [.int (iI ((w : Nat) : Int)), .int (iI ((g : Nat) : Int)), .ref b])), (b, .inr (3, [.ref v, .int (iI ((un P : Nat) : Int)), .int (zI false)])), (v, .inl (D.2 2, n, .inr (.inl (wd P)))), (c, .inr (3, [.ref v3, .int (iI ((un S : Nat) : Int)), .int (zI false)])), (v3, .inl (D.2 2, n2, .inr (.inl (wd S)))), (ou, .inl (D.2 2, 1, .inr (.inl fo)))] tY0 (S := Nat × Nat × Nat × Nat × Nat) (fun u_ => True) (fun u_ => some (.int (iI 0))) (fun u_ => [(t, .inr (1, [.ref u_.1, .ref u_.2.2.2.1])), (u_.1, .inr (2, [.int (iI ((w2 : Nat) : Int)), .int (iI ((g2 : Nat) : Int)), .ref u_.2.1])), (u_.2.1, .inr (3, [.ref u_.2.2.1, .int (iI ((un (fun _ => false) : Nat) : Int)), .int (zI false)])), (u_.2.2.1, .inl (D.2 2, 1, .inr (.inl (wd (fun _ => false))))), (u_.2.2.2.1, .inr (3, [.ref u_.2.2.2.2, .int (iI ((un (fun _ => false) : Nat) : Int)), .int (zI false)])), (u_.2.2.2.2, .inl (D.2 2, 1, .inr (.inl (wd (fun _ => false))))), (ou, .inl (D.2 2, 1, .inr (.inl (va_up fo 0 (iI (100 * ((w : Nat) : Int) + ((g : Nat) : Int))).toInt64))))]) := by
  refine tu_metH (by decide +kernel) (Nat.le_of_ble_eq_true rfl) ?_
  intro p0 e0 s0 m0 below meth c0 A ls args Q hag hQ C hT hK hX hY hP hD hA hAe hl
  obtain ⟨kx, kb, hml, hown, hts, -⟩ := id C
  have hS : va_S A s0.heap s0.heap [] := va_S.rf
  have hl : lv_has ls 5 [(0, .ref t), (1, .int (iI ((w2 : Nat) : Int))), (2, .int (iI ((g2 : Nat) : Int))), (3, .ref ou)] := hl
  have hwg := wg_le hw hg
  have hBn := hB.1
  have hBm := hB.2.1
  have hul := un_le hB
  have hul2 := un_le hB2
  refine lv_aload_n kx kb dX0_open_0 rfl (lv_at hl 3 rfl) ?_
  refine lv_iconst (v := iI 0) kx kb dX0_open_1 rfl ?_
  refine lv_aload_n kx kb dX0_open_2 rfl (lv_at hl 0 rfl) ?_
  refine lv_iload_n kx kb dX0_open_3 rfl (lv_at hl 1 rfl) ?_
  refine lv_iload_n kx kb dX0_open_4 rfl (lv_at hl 2 rfl) ?_
  refine t_callV (wr := [(ou, .inl (D.2 2, 1, .inr (.inl fo)))]) C (met_X1_open_ok l D E t a b v n w g P c v3 n2 S w2 g2 (hw) (hg) (hB) (hB2) (hPz) (hSz) (hv)) (cwV 2 hts (lw_V q1183 q1184 q1185 q59 q1186) rfl rfl rfl (by decide +kernel) ⟨Nat.le_of_ble_eq_true rfl, Nat.le_of_ble_eq_true rfl⟩) (va_recv hK hP (ci := 1) (q0 := 0) rfl rfl) hK hX hP hD hS hA [0, 1, 2, 3, 4, 5] [6] rfl rfl (by decide) (by decide) (by decide) tYb_0 (fun _ _ _ => trivial) rfl hl.1 rfl (Nat.le_of_ble_eq_true rfl) dX0_open_5 ⟨(show 5 ≤ 5 from by omega), (show 11 ≤ 11 from by omega)⟩ (fun u_ H locs hp hP hD hS => ?_)
  obtain ⟨a2_1, b2_2, v2_3, c2_4, v4_5⟩ := u_
  have hP : va_P D.1 clAll [(ou, .inl (D.2 2, 1, .inr (.inl fo))), (t, .inr (1, [.ref a2_1, .ref c2_4])), (a2_1, .inr (2, [.int (iI ((w2 : Nat) : Int)), .int (iI ((g2 : Nat) : Int)), .ref b2_2])), (b2_2, .inr (3, [.ref v2_3, .int (iI ((un (fun _ => false) : Nat) : Int)), .int (zI false)])), (v2_3, .inl (D.2 2, 1, .inr (.inl (wd (fun _ => false))))), (c2_4, .inr (3, [.ref v4_5, .int (iI ((un (fun _ => false) : Nat) : Int)), .int (zI false)])), (v4_5, .inl (D.2 2, 1, .inr (.inl (wd (fun _ => false)))))] H := hP
  have hD : va_D A [(ou, .inl (D.2 2, 1, .inr (.inl fo))), (t, .inr (1, [.ref a2_1, .ref c2_4])), (a2_1, .inr (2, [.int (iI ((w2 : Nat) : Int)), .int (iI ((g2 : Nat) : Int)), .ref b2_2])), (b2_2, .inr (3, [.ref v2_3, .int (iI ((un (fun _ => false) : Nat) : Int)), .int (zI false)])), (v2_3, .inl (D.2 2, 1, .inr (.inl (wd (fun _ => false))))), (c2_4, .inr (3, [.ref v4_5, .int (iI ((un (fun _ => false) : Nat) : Int)), .int (zI false)])), (v4_5, .inl (D.2 2, 1, .inr (.inl (wd (fun _ => false)))))] := hD
  refine W.eq (g2 := F0 m0 8 ls [.int (iI (100 * ((w : Nat) : Int) + ((g : Nat) : Int))), .int (iI 0), .ref ou]) rfl ?_
  refine W.widen (k := 5) (n := 11) (Nat.le_refl _) (Nat.le_refl _) ?_
  refine lv_i2l kx kb dX0_open_8 rfl ?_
  refine ta_last C hK hP hD hS 0 rfl 0 (by omega) dX0_open_9 (fun H locs hP hD hS => ?_)
  have hP : va_P D.1 clAll [(ou, .inl (D.2 2, 1, .inr (.inl (va_up fo 0 ((iI (100 * ((w : Nat) : Int) + ((g : Nat) : Int))).toInt64))))), (t, .inr (1, [.ref a2_1, .ref c2_4])), (a2_1, .inr (2, [.int (iI ((w2 : Nat) : Int)), .int (iI ((g2 : Nat) : Int)), .ref b2_2])), (b2_2, .inr (3, [.ref v2_3, .int (iI ((un (fun _ => false) : Nat) : Int)), .int (zI false)])), (v2_3, .inl (D.2 2, 1, .inr (.inl (wd (fun _ => false))))), (c2_4, .inr (3, [.ref v4_5, .int (iI ((un (fun _ => false) : Nat) : Int)), .int (zI false)])), (v4_5, .inl (D.2 2, 1, .inr (.inl (wd (fun _ => false)))))] H := hP
  have hD : va_D A [(ou, .inl (D.2 2, 1, .inr (.inl (va_up fo 0 ((iI (100 * ((w : Nat) : Int) + ((g : Nat) : Int))).toInt64))))), (t, .inr (1, [.ref a2_1, .ref c2_4])), (a2_1, .inr (2, [.int (iI ((w2 : Nat) : Int)), .int (iI ((g2 : Nat) : Int)), .ref b2_2])), (b2_2, .inr (3, [.ref v2_3, .int (iI ((un (fun _ => false) : Nat) : Int)), .int (zI false)])), (v2_3, .inl (D.2 2, 1, .inr (.inl (wd (fun _ => false))))), (c2_4, .inr (3, [.ref v4_5, .int (iI ((un (fun _ => false) : Nat) : Int)), .int (zI false)])), (v4_5, .inl (D.2 2, 1, .inr (.inl (wd (fun _ => false)))))] := hD
  refine lv_goto (tgt := 17) kx kb dX0_open_10 (by decide) ?_
  refine lv_iconst (v := iI 0) kx kb dX0_open_17 rfl ?_
  subst hQ
  exact tm_iret C (a2_1, b2_2, v2_3, c2_4, v4_5) trivial (hP.sub [1, 2, 3, 4, 5, 6, 0] rfl) (hD.sub [1, 2, 3, 4, 5, 6, 0] (by decide) rfl) hS (show 5 ≤ 5 from by omega) (show 11 ≤ 11 from by omega) rfl rfl dX0_open_18
set_option maxHeartbeats 4000000 in
set_option maxRecDepth 100000 in
theorem met_X0_open_no (l : Launch) (hfl : l.stackTraces = false) (D : TG) (E : TE) (t : Nat) (a : Nat) (b : Nat) (v : Nat) (n : Nat) (w : Nat) (g : Nat) (P : Nat → Bool) (c : Nat) (v3 : Nat) (n2 : Nat) (S : Nat → Bool) (x : Int) (y : Int) (ou : Nat) (fo : Nat → Int64) (hw : 1 ≤ w ∧ w ≤ 32) (hg : 1 ≤ g ∧ g ≤ 32) (hB : BB P n) (hB2 : BB S n2) (hPz : ∀ j_, w * g ≤ j_ → P j_ = false) (hSz : ∀ j_, w * g ≤ j_ → S j_ = false) (rx : -2147483648 ≤ x ∧ x < 2147483648) (ry : -2147483648 ≤ y ∧ y < 2147483648) (hv : ¬ (1 ≤ x ∧ x ≤ 32 ∧ 1 ≤ y ∧ y ≤ 32)) : tMetH l yX0_open cX0_open 5 (some .int) [(0, 10, 13, 13)] 10 163 (1) (6) [.ref t, .int (iI x), .int (iI y), .ref ou] D E [(t, .inr (1, [.ref a, .ref c])), (a, .inr (2, [.int (iI ((w : Nat) : Int)), .int (iI ((g : Nat) : Int)), .ref b])), (b, .inr (3, [.ref v, .int (iI ((un P : Nat) : Int)), .int (zI false)])), (v, .inl (D.2 2, n, .inr (.inl (wd P)))), (c, .inr (3, [.ref v3, .int (iI ((un S : Nat) : Int)), .int (zI false)])), (v3, .inl (D.2 2, n2, .inr (.inl (wd S)))), (ou, .inl (D.2 2, 1, .inr (.inl fo)))] tY0 (S := Unit) (fun u_ => True) (fun u_ => some (.int (iI 1))) (fun u_ => [(t, .inr (1, [.ref a, .ref c])), (a, .inr (2, [.int (iI ((w : Nat) : Int)), .int (iI ((g : Nat) : Int)), .ref b])), (b, .inr (3, [.ref v, .int (iI ((un P : Nat) : Int)), .int (zI false)])), (v, .inl (D.2 2, n, .inr (.inl (wd P)))), (c, .inr (3, [.ref v3, .int (iI ((un S : Nat) : Int)), .int (zI false)])), (v3, .inl (D.2 2, n2, .inr (.inl (wd S)))), (ou, .inl (D.2 2, 1, .inr (.inl fo)))]) := by
  refine tu_metH (by decide +kernel) (Nat.le_of_ble_eq_true rfl) ?_
  intro p0 e0 s0 m0 below meth c0 A ls args Q hag hQ C hT hK hX hY hP hD hA hAe hl
  obtain ⟨kx, kb, hml, hown, hts, -⟩ := id C
  have hS : va_S A s0.heap s0.heap [] := va_S.rf
  have hl : lv_has ls 5 [(0, .ref t), (1, .int (iI x)), (2, .int (iI y)), (3, .ref ou)] := hl
  have hwg := wg_le hw hg
  have hBn := hB.1
  have hBm := hB.2.1
  have hul := un_le hB
  have hul2 := un_le hB2
  refine lv_aload_n kx kb dX0_open_0 rfl (lv_at hl 3 rfl) ?_
  refine lv_iconst (v := iI 0) kx kb dX0_open_1 rfl ?_
  refine lv_aload_n kx kb dX0_open_2 rfl (lv_at hl 0 rfl) ?_
  refine lv_iload_n kx kb dX0_open_3 rfl (lv_at hl 1 rfl) ?_
  refine lv_iload_n kx kb dX0_open_4 rfl (lv_at hl 2 rfl) ?_
  refine u_tryV (wr := [(ou, .inl (D.2 2, 1, .inr (.inl fo)))]) (nm := "java/lang/IllegalArgumentException") C [] (⟨0, 10, 13, 13⟩ : ExceptionTableEntry) [] hT (fun _ h_ => nomatch h_) (by decide) (by decide) (hts _ q1182) (va_Nw.use rfl (hX.1 _ q432 rfl)) (met_X1_open_no l hfl D E t a b v n w g P c v3 n2 S x y (hw) (hg) (hB) (hB2) (hPz) (hSz) (rx) (ry) (hv)) (cwV 2 hts (lw_V q1183 q1184 q1185 q59 q1186) rfl rfl rfl (by decide +kernel) ⟨Nat.le_of_ble_eq_true rfl, Nat.le_of_ble_eq_true rfl⟩) (va_recv hK hP (ci := 1) (q0 := 0) rfl rfl) hK hX hP hD hS hA [0, 1, 2, 3, 4, 5] [6] rfl rfl (by decide) (by decide) (by decide) rfl hl.1 rfl (Nat.le_of_ble_eq_true rfl) dX0_open_5 ⟨(show 1 ≤ 1 from by omega), (show 6 ≤ 6 from by omega)⟩ (fun q9 H locs hP hD hS => ?_)
  have hP : va_P D.1 clAll [(ou, .inl (D.2 2, 1, .inr (.inl fo))), (t, .inr (1, [.ref a, .ref c])), (a, .inr (2, [.int (iI ((w : Nat) : Int)), .int (iI ((g : Nat) : Int)), .ref b])), (b, .inr (3, [.ref v, .int (iI ((un P : Nat) : Int)), .int (zI false)])), (v, .inl (D.2 2, n, .inr (.inl (wd P)))), (c, .inr (3, [.ref v3, .int (iI ((un S : Nat) : Int)), .int (zI false)])), (v3, .inl (D.2 2, n2, .inr (.inl (wd S))))] H := hP
  have hD : va_D A [(ou, .inl (D.2 2, 1, .inr (.inl fo))), (t, .inr (1, [.ref a, .ref c])), (a, .inr (2, [.int (iI ((w : Nat) : Int)), .int (iI ((g : Nat) : Int)), .ref b])), (b, .inr (3, [.ref v, .int (iI ((un P : Nat) : Int)), .int (zI false)])), (v, .inl (D.2 2, n, .inr (.inl (wd P)))), (c, .inr (3, [.ref v3, .int (iI ((un S : Nat) : Int)), .int (zI false)])), (v3, .inl (D.2 2, n2, .inr (.inl (wd S))))] := hD
  refine W.eq (g2 := F0 m0 13 ls [.ref q9]) rfl ?_
  refine W.widen (k := 1) (n := 6) (Nat.le_refl _) (Nat.le_refl _) ?_
  refine lv_astore (lv' := [(4, .ref q9), (0, .ref t), (1, .int (iI x)), (2, .int (iI y)), (3, .ref ou)]) kx kb dX0_open_13 hl (by decide) rfl (fun ls hl => ?_)
  refine lv_iconst (v := iI 1) kx kb dX0_open_15 rfl ?_
  subst hQ
  exact tm_iret C () trivial (hP.sub [1, 2, 3, 4, 5, 6, 0] rfl) (hD.sub [1, 2, 3, 4, 5, 6, 0] (by decide) rfl) hS (show 1 ≤ 1 from by omega) (show 6 ≤ 6 from by omega) rfl rfl dX0_open_16
set_option maxHeartbeats 4000000 in
set_option maxRecDepth 100000 in
theorem met_X0_set_ok (l : Launch) (D : TG) (E : TE) (t : Nat) (a : Nat) (b : Nat) (v : Nat) (n : Nat) (w : Nat) (g : Nat) (P : Nat → Bool) (c : Nat) (v3 : Nat) (n2 : Nat) (S : Nat → Bool) (x : Int) (y : Int) (z : Bool) (ou : Nat) (fo : Nat → Int64) (hw : 1 ≤ w ∧ w ≤ 32) (hg : 1 ≤ g ∧ g ≤ 32) (hB : BB P n) (hB2 : BB S n2) (hPz : ∀ j_, w * g ≤ j_ → P j_ = false) (hSz : ∀ j_, w * g ≤ j_ → S j_ = false) (hv : 0 ≤ x ∧ x < w ∧ 0 ≤ y ∧ y < g) : tMetH l yX0_set cX0_set 6 (some .int) [(0, 19, 22, 19)] 7 175 (sC n (cel w x y) z) (sS n (cel w x y) z) [.ref t, .int (iI x), .int (iI y), .int (zI z), .ref ou] D E [(t, .inr (1, [.ref a, .ref c])), (a, .inr (2, [.int (iI ((w : Nat) : Int)), .int (iI ((g : Nat) : Int)), .ref b])), (b, .inr (3, [.ref v, .int (iI ((un P : Nat) : Int)), .int (zI false)])), (v, .inl (D.2 2, n, .inr (.inl (wd P)))), (c, .inr (3, [.ref v3, .int (iI ((un S : Nat) : Int)), .int (zI false)])), (v3, .inl (D.2 2, n2, .inr (.inl (wd S)))), (ou, .inl (D.2 2, 1, .inr (.inl fo)))] tY0 (S := Nat) (fun u_ => True) (fun u_ => some (.int (iI 0))) (fun u_ => [(t, .inr (1, [.ref a, .ref c])), (a, .inr (2, [.int (iI ((w : Nat) : Int)), .int (iI ((g : Nat) : Int)), .ref b])), (b, .inr (3, [.ref u_, .int (iI ((un (setB P (cel w x y) z) : Nat) : Int)), .int (zI false)])), (u_, .inl (D.2 2, sN n (cel w x y) z, .inr (.inl (wd (setB P (cel w x y) z))))), (c, .inr (3, [.ref v3, .int (iI ((un S : Nat) : Int)), .int (zI false)])), (v3, .inl (D.2 2, n2, .inr (.inl (wd S)))), (ou, .inl (D.2 2, 1, .inr (.inl (va_up fo 0 (if P (cel w x y) then 1 else 0 : Int64)))))]) := by
  refine tu_metH (by decide +kernel) (Nat.le_of_ble_eq_true rfl) ?_
  intro p0 e0 s0 m0 below meth c0 A ls args Q hag hQ C hT hK hX hY hP hD hA hAe hl
  obtain ⟨kx, kb, hml, hown, hts, -⟩ := id C
  have hS : va_S A s0.heap s0.heap [] := va_S.rf
  have hl : lv_has ls 6 [(0, .ref t), (1, .int (iI x)), (2, .int (iI y)), (3, .int (zI z)), (4, .ref ou)] := hl
  have hwg := wg_le hw hg
  have hBn := hB.1
  have hBm := hB.2.1
  have hul := un_le hB
  have hul2 := un_le hB2
  have hq := cel_int hv
  refine lv_aload kx kb dX0_set_0 (lv_at hl 4 rfl) ?_
  refine lv_iconst (v := iI 0) kx kb dX0_set_2 rfl ?_
  refine lv_aload_n kx kb dX0_set_3 rfl (lv_at hl 0 rfl) ?_
  refine lv_iload_n kx kb dX0_set_4 rfl (lv_at hl 1 rfl) ?_
  refine lv_iload_n kx kb dX0_set_5 rfl (lv_at hl 2 rfl) ?_
  refine lv_iload_n kx kb dX0_set_6 rfl (lv_at hl 3 rfl) ?_
  refine t_callV (wr := [(ou, .inl (D.2 2, 1, .inr (.inl fo)))]) C (met_X1_set_ok l D E t a b v n w g P c v3 n2 S x y z (hw) (hg) (hB) (hB2) (hPz) (hSz) (hv)) (cwV 3 hts (lw_V q1214 q1215 q1216 q59 q1217) rfl rfl rfl (by decide +kernel) ⟨Nat.le_of_ble_eq_true rfl, Nat.le_of_ble_eq_true rfl⟩) (va_recv hK hP (ci := 1) (q0 := 0) rfl rfl) hK hX hP hD hS hA [0, 1, 2, 3, 4, 5] [6] rfl rfl (by decide) (by decide) (by decide) tYb_0 (fun _ _ _ => trivial) rfl hl.1 rfl (Nat.le_of_ble_eq_true rfl) dX0_set_7 ⟨(show 0 + (sC n (cel w x y) z) ≤ sC n (cel w x y) z from by omega), (show 0 + (sS n (cel w x y) z) ≤ sS n (cel w x y) z from by omega)⟩ (fun u_ H locs hp hP hD hS => ?_)
  obtain ⟨v2_1, rfl⟩ : ∃ z, z = u_ := ⟨_, rfl⟩
  have hP : va_P D.1 clAll [(ou, .inl (D.2 2, 1, .inr (.inl fo))), (t, .inr (1, [.ref a, .ref c])), (a, .inr (2, [.int (iI ((w : Nat) : Int)), .int (iI ((g : Nat) : Int)), .ref b])), (b, .inr (3, [.ref v2_1, .int (iI ((un (setB P (cel w x y) z) : Nat) : Int)), .int (zI false)])), (v2_1, .inl (D.2 2, sN n (cel w x y) z, .inr (.inl (wd (setB P (cel w x y) z))))), (c, .inr (3, [.ref v3, .int (iI ((un S : Nat) : Int)), .int (zI false)])), (v3, .inl (D.2 2, n2, .inr (.inl (wd S))))] H := hP
  have hD : va_D A [(ou, .inl (D.2 2, 1, .inr (.inl fo))), (t, .inr (1, [.ref a, .ref c])), (a, .inr (2, [.int (iI ((w : Nat) : Int)), .int (iI ((g : Nat) : Int)), .ref b])), (b, .inr (3, [.ref v2_1, .int (iI ((un (setB P (cel w x y) z) : Nat) : Int)), .int (zI false)])), (v2_1, .inl (D.2 2, sN n (cel w x y) z, .inr (.inl (wd (setB P (cel w x y) z))))), (c, .inr (3, [.ref v3, .int (iI ((un S : Nat) : Int)), .int (zI false)])), (v3, .inl (D.2 2, n2, .inr (.inl (wd S))))] := hD
  refine W.eq (g2 := F0 m0 10 ls [.int (zI (P (cel w x y))), .int (iI 0), .ref ou]) rfl ?_
  refine W.widen (k := 0 + (sC n (cel w x y) z)) (n := 0 + (sS n (cel w x y) z)) (Nat.le_refl _) (Nat.le_refl _) ?_
  refine tz_if_eq (tgt := 17) kx kb dX0_set_10 (by decide) (fun h10 => ?_) (fun h10 => ?_)
  · refine lv_lconst (v := 0) kx kb dX0_set_17 rfl ?_
    refine ta_last C hK hP hD hS 0 rfl 0 (by omega) dX0_set_18 (fun H locs hP hD hS => ?_)
    have hP : va_P D.1 clAll [(ou, .inl (D.2 2, 1, .inr (.inl (va_up fo 0 (0 : Int64))))), (t, .inr (1, [.ref a, .ref c])), (a, .inr (2, [.int (iI ((w : Nat) : Int)), .int (iI ((g : Nat) : Int)), .ref b])), (b, .inr (3, [.ref v2_1, .int (iI ((un (setB P (cel w x y) z) : Nat) : Int)), .int (zI false)])), (v2_1, .inl (D.2 2, sN n (cel w x y) z, .inr (.inl (wd (setB P (cel w x y) z))))), (c, .inr (3, [.ref v3, .int (iI ((un S : Nat) : Int)), .int (zI false)])), (v3, .inl (D.2 2, n2, .inr (.inl (wd S))))] H := hP
    have hD : va_D A [(ou, .inl (D.2 2, 1, .inr (.inl (va_up fo 0 (0 : Int64))))), (t, .inr (1, [.ref a, .ref c])), (a, .inr (2, [.int (iI ((w : Nat) : Int)), .int (iI ((g : Nat) : Int)), .ref b])), (b, .inr (3, [.ref v2_1, .int (iI ((un (setB P (cel w x y) z) : Nat) : Int)), .int (zI false)])), (v2_1, .inl (D.2 2, sN n (cel w x y) z, .inr (.inl (wd (setB P (cel w x y) z))))), (c, .inr (3, [.ref v3, .int (iI ((un S : Nat) : Int)), .int (zI false)])), (v3, .inl (D.2 2, n2, .inr (.inl (wd S))))] := hD
    refine lv_goto (tgt := 26) kx kb dX0_set_19 (by decide) ?_
    have hP : va_P D.1 clAll [(ou, .inl (D.2 2, 1, .inr (.inl (va_up fo 0 (if P (cel w x y) then 1 else 0 : Int64))))), (t, .inr (1, [.ref a, .ref c])), (a, .inr (2, [.int (iI ((w : Nat) : Int)), .int (iI ((g : Nat) : Int)), .ref b])), (b, .inr (3, [.ref v2_1, .int (iI ((un (setB P (cel w x y) z) : Nat) : Int)), .int (zI false)])), (v2_1, .inl (D.2 2, sN n (cel w x y) z, .inr (.inl (wd (setB P (cel w x y) z))))), (c, .inr (3, [.ref v3, .int (iI ((un S : Nat) : Int)), .int (zI false)])), (v3, .inl (D.2 2, n2, .inr (.inl (wd S))))] H := by rw [show (if P (cel w x y) then 1 else 0 : Int64) = 0 from by rw [h10]; rfl]; exact hP
    have hD : va_D A [(ou, .inl (D.2 2, 1, .inr (.inl (va_up fo 0 (if P (cel w x y) then 1 else 0 : Int64))))), (t, .inr (1, [.ref a, .ref c])), (a, .inr (2, [.int (iI ((w : Nat) : Int)), .int (iI ((g : Nat) : Int)), .ref b])), (b, .inr (3, [.ref v2_1, .int (iI ((un (setB P (cel w x y) z) : Nat) : Int)), .int (zI false)])), (v2_1, .inl (D.2 2, sN n (cel w x y) z, .inr (.inl (wd (setB P (cel w x y) z))))), (c, .inr (3, [.ref v3, .int (iI ((un S : Nat) : Int)), .int (zI false)])), (v3, .inl (D.2 2, n2, .inr (.inl (wd S))))] := by rw [show (if P (cel w x y) then 1 else 0 : Int64) = 0 from by rw [h10]; rfl]; exact hD
    refine lv_iconst (v := iI 0) kx kb dX0_set_26 rfl ?_
    subst hQ
    exact tm_iret C v2_1 trivial (hP.sub [1, 2, 3, 4, 5, 6, 0] rfl) (hD.sub [1, 2, 3, 4, 5, 6, 0] (by decide) rfl) hS (show 0 + (sC n (cel w x y) z) ≤ sC n (cel w x y) z from by omega) (show 0 + (sS n (cel w x y) z) ≤ sS n (cel w x y) z from by omega) rfl rfl dX0_set_27
  · refine lv_lconst (v := 1) kx kb dX0_set_13 rfl ?_
    refine lv_goto (tgt := 18) kx kb dX0_set_14 (by decide) ?_
    refine ta_last C hK hP hD hS 0 rfl 0 (by omega) dX0_set_18 (fun H locs hP hD hS => ?_)
    have hP : va_P D.1 clAll [(ou, .inl (D.2 2, 1, .inr (.inl (va_up fo 0 (1 : Int64))))), (t, .inr (1, [.ref a, .ref c])), (a, .inr (2, [.int (iI ((w : Nat) : Int)), .int (iI ((g : Nat) : Int)), .ref b])), (b, .inr (3, [.ref v2_1, .int (iI ((un (setB P (cel w x y) z) : Nat) : Int)), .int (zI false)])), (v2_1, .inl (D.2 2, sN n (cel w x y) z, .inr (.inl (wd (setB P (cel w x y) z))))), (c, .inr (3, [.ref v3, .int (iI ((un S : Nat) : Int)), .int (zI false)])), (v3, .inl (D.2 2, n2, .inr (.inl (wd S))))] H := hP
    have hD : va_D A [(ou, .inl (D.2 2, 1, .inr (.inl (va_up fo 0 (1 : Int64))))), (t, .inr (1, [.ref a, .ref c])), (a, .inr (2, [.int (iI ((w : Nat) : Int)), .int (iI ((g : Nat) : Int)), .ref b])), (b, .inr (3, [.ref v2_1, .int (iI ((un (setB P (cel w x y) z) : Nat) : Int)), .int (zI false)])), (v2_1, .inl (D.2 2, sN n (cel w x y) z, .inr (.inl (wd (setB P (cel w x y) z))))), (c, .inr (3, [.ref v3, .int (iI ((un S : Nat) : Int)), .int (zI false)])), (v3, .inl (D.2 2, n2, .inr (.inl (wd S))))] := hD
    refine lv_goto (tgt := 26) kx kb dX0_set_19 (by decide) ?_
    have hP : va_P D.1 clAll [(ou, .inl (D.2 2, 1, .inr (.inl (va_up fo 0 (if P (cel w x y) then 1 else 0 : Int64))))), (t, .inr (1, [.ref a, .ref c])), (a, .inr (2, [.int (iI ((w : Nat) : Int)), .int (iI ((g : Nat) : Int)), .ref b])), (b, .inr (3, [.ref v2_1, .int (iI ((un (setB P (cel w x y) z) : Nat) : Int)), .int (zI false)])), (v2_1, .inl (D.2 2, sN n (cel w x y) z, .inr (.inl (wd (setB P (cel w x y) z))))), (c, .inr (3, [.ref v3, .int (iI ((un S : Nat) : Int)), .int (zI false)])), (v3, .inl (D.2 2, n2, .inr (.inl (wd S))))] H := by rw [show (if P (cel w x y) then 1 else 0 : Int64) = 1 from by rw [h10]; rfl]; exact hP
    have hD : va_D A [(ou, .inl (D.2 2, 1, .inr (.inl (va_up fo 0 (if P (cel w x y) then 1 else 0 : Int64))))), (t, .inr (1, [.ref a, .ref c])), (a, .inr (2, [.int (iI ((w : Nat) : Int)), .int (iI ((g : Nat) : Int)), .ref b])), (b, .inr (3, [.ref v2_1, .int (iI ((un (setB P (cel w x y) z) : Nat) : Int)), .int (zI false)])), (v2_1, .inl (D.2 2, sN n (cel w x y) z, .inr (.inl (wd (setB P (cel w x y) z))))), (c, .inr (3, [.ref v3, .int (iI ((un S : Nat) : Int)), .int (zI false)])), (v3, .inl (D.2 2, n2, .inr (.inl (wd S))))] := by rw [show (if P (cel w x y) then 1 else 0 : Int64) = 1 from by rw [h10]; rfl]; exact hD
    refine lv_iconst (v := iI 0) kx kb dX0_set_26 rfl ?_
    subst hQ
    exact tm_iret C v2_1 trivial (hP.sub [1, 2, 3, 4, 5, 6, 0] rfl) (hD.sub [1, 2, 3, 4, 5, 6, 0] (by decide) rfl) hS (show 0 + (sC n (cel w x y) z) ≤ sC n (cel w x y) z from by omega) (show 0 + (sS n (cel w x y) z) ≤ sS n (cel w x y) z from by omega) rfl rfl dX0_set_27
set_option maxHeartbeats 4000000 in
set_option maxRecDepth 100000 in
theorem met_X0_set_no (l : Launch) (hfl : l.stackTraces = false) (D : TG) (E : TE) (t : Nat) (a : Nat) (b : Nat) (v : Nat) (n : Nat) (w : Nat) (g : Nat) (P : Nat → Bool) (c : Nat) (v3 : Nat) (n2 : Nat) (S : Nat → Bool) (x : Int) (y : Int) (z : Bool) (ou : Nat) (fo : Nat → Int64) (hw : 1 ≤ w ∧ w ≤ 32) (hg : 1 ≤ g ∧ g ≤ 32) (hB : BB P n) (hB2 : BB S n2) (hPz : ∀ j_, w * g ≤ j_ → P j_ = false) (hSz : ∀ j_, w * g ≤ j_ → S j_ = false) (rx : -2147483648 ≤ x ∧ x < 2147483648) (ry : -2147483648 ≤ y ∧ y < 2147483648) (hv : ¬ (0 ≤ x ∧ x < w ∧ 0 ≤ y ∧ y < g)) : tMetH l yX0_set cX0_set 6 (some .int) [(0, 19, 22, 19)] 11 187 (1) (6) [.ref t, .int (iI x), .int (iI y), .int (zI z), .ref ou] D E [(t, .inr (1, [.ref a, .ref c])), (a, .inr (2, [.int (iI ((w : Nat) : Int)), .int (iI ((g : Nat) : Int)), .ref b])), (b, .inr (3, [.ref v, .int (iI ((un P : Nat) : Int)), .int (zI false)])), (v, .inl (D.2 2, n, .inr (.inl (wd P)))), (c, .inr (3, [.ref v3, .int (iI ((un S : Nat) : Int)), .int (zI false)])), (v3, .inl (D.2 2, n2, .inr (.inl (wd S)))), (ou, .inl (D.2 2, 1, .inr (.inl fo)))] tY0 (S := Unit) (fun u_ => True) (fun u_ => some (.int (iI 1))) (fun u_ => [(t, .inr (1, [.ref a, .ref c])), (a, .inr (2, [.int (iI ((w : Nat) : Int)), .int (iI ((g : Nat) : Int)), .ref b])), (b, .inr (3, [.ref v, .int (iI ((un P : Nat) : Int)), .int (zI false)])), (v, .inl (D.2 2, n, .inr (.inl (wd P)))), (c, .inr (3, [.ref v3, .int (iI ((un S : Nat) : Int)), .int (zI false)])), (v3, .inl (D.2 2, n2, .inr (.inl (wd S)))), (ou, .inl (D.2 2, 1, .inr (.inl fo)))]) := by
  refine tu_metH (by decide +kernel) (Nat.le_of_ble_eq_true rfl) ?_
  intro p0 e0 s0 m0 below meth c0 A ls args Q hag hQ C hT hK hX hY hP hD hA hAe hl
  obtain ⟨kx, kb, hml, hown, hts, -⟩ := id C
  have hS : va_S A s0.heap s0.heap [] := va_S.rf
  have hl : lv_has ls 6 [(0, .ref t), (1, .int (iI x)), (2, .int (iI y)), (3, .int (zI z)), (4, .ref ou)] := hl
  have hwg := wg_le hw hg
  have hBn := hB.1
  have hBm := hB.2.1
  have hul := un_le hB
  have hul2 := un_le hB2
  refine lv_aload kx kb dX0_set_0 (lv_at hl 4 rfl) ?_
  refine lv_iconst (v := iI 0) kx kb dX0_set_2 rfl ?_
  refine lv_aload_n kx kb dX0_set_3 rfl (lv_at hl 0 rfl) ?_
  refine lv_iload_n kx kb dX0_set_4 rfl (lv_at hl 1 rfl) ?_
  refine lv_iload_n kx kb dX0_set_5 rfl (lv_at hl 2 rfl) ?_
  refine lv_iload_n kx kb dX0_set_6 rfl (lv_at hl 3 rfl) ?_
  refine u_tryV (wr := [(ou, .inl (D.2 2, 1, .inr (.inl fo)))]) (nm := "java/lang/IndexOutOfBoundsException") C [] (⟨0, 19, 22, 19⟩ : ExceptionTableEntry) [] hT (fun _ h_ => nomatch h_) (by decide) (by decide) (hts _ q1198) (va_Nw.use rfl (hX.1 _ q176 rfl)) (met_X1_set_no l hfl D E t a b v n w g P c v3 n2 S x y z (hw) (hg) (hB) (hB2) (hPz) (hSz) (rx) (ry) (hv)) (cwV 3 hts (lw_V q1214 q1215 q1216 q59 q1217) rfl rfl rfl (by decide +kernel) ⟨Nat.le_of_ble_eq_true rfl, Nat.le_of_ble_eq_true rfl⟩) (va_recv hK hP (ci := 1) (q0 := 0) rfl rfl) hK hX hP hD hS hA [0, 1, 2, 3, 4, 5] [6] rfl rfl (by decide) (by decide) (by decide) rfl hl.1 rfl (Nat.le_of_ble_eq_true rfl) dX0_set_7 ⟨(show 1 ≤ 1 from by omega), (show 6 ≤ 6 from by omega)⟩ (fun q9 H locs hP hD hS => ?_)
  have hP : va_P D.1 clAll [(ou, .inl (D.2 2, 1, .inr (.inl fo))), (t, .inr (1, [.ref a, .ref c])), (a, .inr (2, [.int (iI ((w : Nat) : Int)), .int (iI ((g : Nat) : Int)), .ref b])), (b, .inr (3, [.ref v, .int (iI ((un P : Nat) : Int)), .int (zI false)])), (v, .inl (D.2 2, n, .inr (.inl (wd P)))), (c, .inr (3, [.ref v3, .int (iI ((un S : Nat) : Int)), .int (zI false)])), (v3, .inl (D.2 2, n2, .inr (.inl (wd S))))] H := hP
  have hD : va_D A [(ou, .inl (D.2 2, 1, .inr (.inl fo))), (t, .inr (1, [.ref a, .ref c])), (a, .inr (2, [.int (iI ((w : Nat) : Int)), .int (iI ((g : Nat) : Int)), .ref b])), (b, .inr (3, [.ref v, .int (iI ((un P : Nat) : Int)), .int (zI false)])), (v, .inl (D.2 2, n, .inr (.inl (wd P)))), (c, .inr (3, [.ref v3, .int (iI ((un S : Nat) : Int)), .int (zI false)])), (v3, .inl (D.2 2, n2, .inr (.inl (wd S))))] := hD
  refine W.eq (g2 := F0 m0 22 ls [.ref q9]) rfl ?_
  refine W.widen (k := 1) (n := 6) (Nat.le_refl _) (Nat.le_refl _) ?_
  refine lv_astore (lv' := [(5, .ref q9), (0, .ref t), (1, .int (iI x)), (2, .int (iI y)), (3, .int (zI z)), (4, .ref ou)]) kx kb dX0_set_22 hl (by decide) rfl (fun ls hl => ?_)
  refine lv_iconst (v := iI 1) kx kb dX0_set_24 rfl ?_
  subst hQ
  exact tm_iret C () trivial (hP.sub [1, 2, 3, 4, 5, 6, 0] rfl) (hD.sub [1, 2, 3, 4, 5, 6, 0] (by decide) rfl) hS (show 1 ≤ 1 from by omega) (show 6 ≤ 6 from by omega) rfl rfl dX0_set_25
set_option maxHeartbeats 4000000 in
set_option maxRecDepth 100000 in
theorem met_X0_line_ok (l : Launch) (D : TG) (E : TE) (t : Nat) (a : Nat) (b : Nat) (v : Nat) (n : Nat) (w : Nat) (g : Nat) (P : Nat → Bool) (c : Nat) (v3 : Nat) (n2 : Nat) (S : Nat → Bool) (x1 : Int) (y1 : Int) (x2 : Int) (y2 : Int) (z : Bool) (ou : Nat) (fo : Nat → Int64) (hw : 1 ≤ w ∧ w ≤ 32) (hg : 1 ≤ g ∧ g ≤ 32) (hB : BB P n) (hB2 : BB S n2) (hPz : ∀ j_, w * g ≤ j_ → P j_ = false) (hSz : ∀ j_, w * g ≤ j_ → S j_ = false) (rx1 : -40 ≤ x1 ∧ x1 ≤ 72) (ry1 : -40 ≤ y1 ∧ y1 ≤ 72) (rx2 : -40 ≤ x2 ∧ x2 ≤ 72) (ry2 : -40 ≤ y2 ∧ y2 ≤ 72) : tMetH l yX0_line cX0_line 8 (some .int) [(0, 16, 19, 13)] 21 3526 (40) (168) [.ref t, .int (iI x1), .int (iI y1), .int (iI x2), .int (iI y2), .int (zI z), .ref ou] D E [(t, .inr (1, [.ref a, .ref c])), (a, .inr (2, [.int (iI ((w : Nat) : Int)), .int (iI ((g : Nat) : Int)), .ref b])), (b, .inr (3, [.ref v, .int (iI ((un P : Nat) : Int)), .int (zI false)])), (v, .inl (D.2 2, n, .inr (.inl (wd P)))), (c, .inr (3, [.ref v3, .int (iI ((un S : Nat) : Int)), .int (zI false)])), (v3, .inl (D.2 2, n2, .inr (.inl (wd S)))), (ou, .inl (D.2 2, 1, .inr (.inl fo)))] tY0 (S := Nat × Nat) (fun u_ => BB (drwL w g z (lnL x1 y1 x2 y2) P) u_.2) (fun u_ => some (.int (iI 0))) (fun u_ => [(t, .inr (1, [.ref a, .ref c])), (a, .inr (2, [.int (iI ((w : Nat) : Int)), .int (iI ((g : Nat) : Int)), .ref b])), (b, .inr (3, [.ref u_.1, .int (iI ((un (drwL w g z (lnL x1 y1 x2 y2) P) : Nat) : Int)), .int (zI false)])), (u_.1, .inl (D.2 2, u_.2, .inr (.inl (wd (drwL w g z (lnL x1 y1 x2 y2) P))))), (c, .inr (3, [.ref v3, .int (iI ((un S : Nat) : Int)), .int (zI false)])), (v3, .inl (D.2 2, n2, .inr (.inl (wd S)))), (ou, .inl (D.2 2, 1, .inr (.inl (va_up fo 0 (iI ((fb_ct (xorB (drwL w g z (lnL x1 y1 x2 y2) P) P) 1024 : Nat) : Int)).toInt64))))]) := by
  refine tu_metH (by decide +kernel) (Nat.le_of_ble_eq_true rfl) ?_
  intro p0 e0 s0 m0 below meth c0 A ls args Q hag hQ C hT hK hX hY hP hD hA hAe hl
  obtain ⟨kx, kb, hml, hown, hts, -⟩ := id C
  have hS : va_S A s0.heap s0.heap [] := va_S.rf
  have hl : lv_has ls 8 [(0, .ref t), (1, .int (iI x1)), (2, .int (iI y1)), (3, .int (iI x2)), (4, .int (iI y2)), (5, .int (zI z)), (6, .ref ou)] := hl
  have hwg := wg_le hw hg
  have hBn := hB.1
  have hBm := hB.2.1
  have hul := un_le hB
  have hul2 := un_le hB2
  refine lv_aload kx kb dX0_line_0 (lv_at hl 6 rfl) ?_
  refine lv_iconst (v := iI 0) kx kb dX0_line_2 rfl ?_
  refine lv_aload_n kx kb dX0_line_3 rfl (lv_at hl 0 rfl) ?_
  refine lv_iload_n kx kb dX0_line_4 rfl (lv_at hl 1 rfl) ?_
  refine lv_iload_n kx kb dX0_line_5 rfl (lv_at hl 2 rfl) ?_
  refine lv_iload_n kx kb dX0_line_6 rfl (lv_at hl 3 rfl) ?_
  refine lv_iload kx kb dX0_line_7 (lv_at hl 4 rfl) ?_
  refine lv_iload kx kb dX0_line_9 (lv_at hl 5 rfl) ?_
  refine t_callV (wr := [(ou, .inl (D.2 2, 1, .inr (.inl fo)))]) C (met_X1_line_ok l D E t a b v n w g P c v3 n2 S x1 y1 x2 y2 z (hw) (hg) (hB) (hB2) (hPz) (hSz) (rx1) (ry1) (rx2) (ry2)) (cwV 5 hts (lw_V q1227 q1228 q1229 q59 q1230) rfl rfl rfl (by decide +kernel) ⟨Nat.le_of_ble_eq_true rfl, Nat.le_of_ble_eq_true rfl⟩) (va_recv hK hP (ci := 1) (q0 := 0) rfl rfl) hK hX hP hD hS hA [0, 1, 2, 3, 4, 5] [6] rfl rfl (by decide) (by decide) (by decide) tYb_0 (fun _ _ _ => trivial) rfl hl.1 rfl (Nat.le_of_ble_eq_true rfl) dX0_line_11 ⟨(show 40 ≤ 40 from by omega), (show 168 ≤ 168 from by omega)⟩ (fun u_ H locs hp hP hD hS => ?_)
  obtain ⟨v4_1, n4_2⟩ := u_
  have hc11_1 : BB (drwL w g z (lnL x1 y1 x2 y2) P) n4_2 := hp
  have hP : va_P D.1 clAll [(ou, .inl (D.2 2, 1, .inr (.inl fo))), (t, .inr (1, [.ref a, .ref c])), (a, .inr (2, [.int (iI ((w : Nat) : Int)), .int (iI ((g : Nat) : Int)), .ref b])), (b, .inr (3, [.ref v4_1, .int (iI ((un (drwL w g z (lnL x1 y1 x2 y2) P) : Nat) : Int)), .int (zI false)])), (v4_1, .inl (D.2 2, n4_2, .inr (.inl (wd (drwL w g z (lnL x1 y1 x2 y2) P))))), (c, .inr (3, [.ref v3, .int (iI ((un S : Nat) : Int)), .int (zI false)])), (v3, .inl (D.2 2, n2, .inr (.inl (wd S))))] H := hP
  have hD : va_D A [(ou, .inl (D.2 2, 1, .inr (.inl fo))), (t, .inr (1, [.ref a, .ref c])), (a, .inr (2, [.int (iI ((w : Nat) : Int)), .int (iI ((g : Nat) : Int)), .ref b])), (b, .inr (3, [.ref v4_1, .int (iI ((un (drwL w g z (lnL x1 y1 x2 y2) P) : Nat) : Int)), .int (zI false)])), (v4_1, .inl (D.2 2, n4_2, .inr (.inl (wd (drwL w g z (lnL x1 y1 x2 y2) P))))), (c, .inr (3, [.ref v3, .int (iI ((un S : Nat) : Int)), .int (zI false)])), (v3, .inl (D.2 2, n2, .inr (.inl (wd S))))] := hD
  refine W.eq (g2 := F0 m0 14 ls [.int (iI ((fb_ct (xorB (drwL w g z (lnL x1 y1 x2 y2) P) P) 1024 : Nat) : Int)), .int (iI 0), .ref ou]) rfl ?_
  refine W.widen (k := 40) (n := 168) (Nat.le_refl _) (Nat.le_refl _) ?_
  refine lv_i2l kx kb dX0_line_14 rfl ?_
  refine ta_last C hK hP hD hS 0 rfl 0 (by omega) dX0_line_15 (fun H locs hP hD hS => ?_)
  have hP : va_P D.1 clAll [(ou, .inl (D.2 2, 1, .inr (.inl (va_up fo 0 ((iI ((fb_ct (xorB (drwL w g z (lnL x1 y1 x2 y2) P) P) 1024 : Nat) : Int)).toInt64))))), (t, .inr (1, [.ref a, .ref c])), (a, .inr (2, [.int (iI ((w : Nat) : Int)), .int (iI ((g : Nat) : Int)), .ref b])), (b, .inr (3, [.ref v4_1, .int (iI ((un (drwL w g z (lnL x1 y1 x2 y2) P) : Nat) : Int)), .int (zI false)])), (v4_1, .inl (D.2 2, n4_2, .inr (.inl (wd (drwL w g z (lnL x1 y1 x2 y2) P))))), (c, .inr (3, [.ref v3, .int (iI ((un S : Nat) : Int)), .int (zI false)])), (v3, .inl (D.2 2, n2, .inr (.inl (wd S))))] H := hP
  have hD : va_D A [(ou, .inl (D.2 2, 1, .inr (.inl (va_up fo 0 ((iI ((fb_ct (xorB (drwL w g z (lnL x1 y1 x2 y2) P) P) 1024 : Nat) : Int)).toInt64))))), (t, .inr (1, [.ref a, .ref c])), (a, .inr (2, [.int (iI ((w : Nat) : Int)), .int (iI ((g : Nat) : Int)), .ref b])), (b, .inr (3, [.ref v4_1, .int (iI ((un (drwL w g z (lnL x1 y1 x2 y2) P) : Nat) : Int)), .int (zI false)])), (v4_1, .inl (D.2 2, n4_2, .inr (.inl (wd (drwL w g z (lnL x1 y1 x2 y2) P))))), (c, .inr (3, [.ref v3, .int (iI ((un S : Nat) : Int)), .int (zI false)])), (v3, .inl (D.2 2, n2, .inr (.inl (wd S))))] := hD
  refine lv_goto (tgt := 23) kx kb dX0_line_16 (by decide) ?_
  refine lv_iconst (v := iI 0) kx kb dX0_line_23 rfl ?_
  subst hQ
  exact tm_iret C (v4_1, n4_2) (hc11_1) (hP.sub [1, 2, 3, 4, 5, 6, 0] rfl) (hD.sub [1, 2, 3, 4, 5, 6, 0] (by decide) rfl) hS (show 40 ≤ 40 from by omega) (show 168 ≤ 168 from by omega) rfl rfl dX0_line_24
set_option maxHeartbeats 4000000 in
set_option maxRecDepth 100000 in
theorem met_X0_line_no (l : Launch) (hfl : l.stackTraces = false) (D : TG) (E : TE) (t : Nat) (a : Nat) (b : Nat) (v : Nat) (n : Nat) (w : Nat) (g : Nat) (P : Nat → Bool) (c : Nat) (v3 : Nat) (n2 : Nat) (S : Nat → Bool) (x1 : Int) (y1 : Int) (x2 : Int) (y2 : Int) (z : Bool) (ou : Nat) (fo : Nat → Int64) (hw : 1 ≤ w ∧ w ≤ 32) (hg : 1 ≤ g ∧ g ≤ 32) (hB : BB P n) (hB2 : BB S n2) (hPz : ∀ j_, w * g ≤ j_ → P j_ = false) (hSz : ∀ j_, w * g ≤ j_ → S j_ = false) (rx1 : -2147483648 ≤ x1 ∧ x1 < 2147483648) (ry1 : -2147483648 ≤ y1 ∧ y1 < 2147483648) (rx2 : -2147483648 ≤ x2 ∧ x2 < 2147483648) (ry2 : -2147483648 ≤ y2 ∧ y2 < 2147483648) (hv : ¬ ((-40 ≤ x1 ∧ x1 ≤ 72) ∧ (-40 ≤ y1 ∧ y1 ≤ 72) ∧ (-40 ≤ x2 ∧ x2 ≤ 72) ∧ (-40 ≤ y2 ∧ y2 ≤ 72))) : tMetH l yX0_line cX0_line 8 (some .int) [(0, 16, 19, 13)] 14 457 (2) (10) [.ref t, .int (iI x1), .int (iI y1), .int (iI x2), .int (iI y2), .int (zI z), .ref ou] D E [(t, .inr (1, [.ref a, .ref c])), (a, .inr (2, [.int (iI ((w : Nat) : Int)), .int (iI ((g : Nat) : Int)), .ref b])), (b, .inr (3, [.ref v, .int (iI ((un P : Nat) : Int)), .int (zI false)])), (v, .inl (D.2 2, n, .inr (.inl (wd P)))), (c, .inr (3, [.ref v3, .int (iI ((un S : Nat) : Int)), .int (zI false)])), (v3, .inl (D.2 2, n2, .inr (.inl (wd S)))), (ou, .inl (D.2 2, 1, .inr (.inl fo)))] tY0 (S := Unit) (fun u_ => True) (fun u_ => some (.int (iI 1))) (fun u_ => [(t, .inr (1, [.ref a, .ref c])), (a, .inr (2, [.int (iI ((w : Nat) : Int)), .int (iI ((g : Nat) : Int)), .ref b])), (b, .inr (3, [.ref v, .int (iI ((un P : Nat) : Int)), .int (zI false)])), (v, .inl (D.2 2, n, .inr (.inl (wd P)))), (c, .inr (3, [.ref v3, .int (iI ((un S : Nat) : Int)), .int (zI false)])), (v3, .inl (D.2 2, n2, .inr (.inl (wd S)))), (ou, .inl (D.2 2, 1, .inr (.inl fo)))]) := by
  refine tu_metH (by decide +kernel) (Nat.le_of_ble_eq_true rfl) ?_
  intro p0 e0 s0 m0 below meth c0 A ls args Q hag hQ C hT hK hX hY hP hD hA hAe hl
  obtain ⟨kx, kb, hml, hown, hts, -⟩ := id C
  have hS : va_S A s0.heap s0.heap [] := va_S.rf
  have hl : lv_has ls 8 [(0, .ref t), (1, .int (iI x1)), (2, .int (iI y1)), (3, .int (iI x2)), (4, .int (iI y2)), (5, .int (zI z)), (6, .ref ou)] := hl
  have hwg := wg_le hw hg
  have hBn := hB.1
  have hBm := hB.2.1
  have hul := un_le hB
  have hul2 := un_le hB2
  refine lv_aload kx kb dX0_line_0 (lv_at hl 6 rfl) ?_
  refine lv_iconst (v := iI 0) kx kb dX0_line_2 rfl ?_
  refine lv_aload_n kx kb dX0_line_3 rfl (lv_at hl 0 rfl) ?_
  refine lv_iload_n kx kb dX0_line_4 rfl (lv_at hl 1 rfl) ?_
  refine lv_iload_n kx kb dX0_line_5 rfl (lv_at hl 2 rfl) ?_
  refine lv_iload_n kx kb dX0_line_6 rfl (lv_at hl 3 rfl) ?_
  refine lv_iload kx kb dX0_line_7 (lv_at hl 4 rfl) ?_
  refine lv_iload kx kb dX0_line_9 (lv_at hl 5 rfl) ?_
  refine u_tryV (wr := [(ou, .inl (D.2 2, 1, .inr (.inl fo)))]) (nm := "java/lang/IllegalArgumentException") C [] (⟨0, 16, 19, 13⟩ : ExceptionTableEntry) [] hT (fun _ h_ => nomatch h_) (by decide) (by decide) (hts _ q1182) (va_Nw.use rfl (hX.1 _ q432 rfl)) (met_X1_line_no l hfl D E t a b v n w g P c v3 n2 S x1 y1 x2 y2 z (hw) (hg) (hB) (hB2) (hPz) (hSz) (rx1) (ry1) (rx2) (ry2) (hv)) (cwV 5 hts (lw_V q1227 q1228 q1229 q59 q1230) rfl rfl rfl (by decide +kernel) ⟨Nat.le_of_ble_eq_true rfl, Nat.le_of_ble_eq_true rfl⟩) (va_recv hK hP (ci := 1) (q0 := 0) rfl rfl) hK hX hP hD hS hA [0, 1, 2, 3, 4, 5] [6] rfl rfl (by decide) (by decide) (by decide) rfl hl.1 rfl (Nat.le_of_ble_eq_true rfl) dX0_line_11 ⟨(show 2 ≤ 2 from by omega), (show 10 ≤ 10 from by omega)⟩ (fun q9 H locs hP hD hS => ?_)
  have hP : va_P D.1 clAll [(ou, .inl (D.2 2, 1, .inr (.inl fo))), (t, .inr (1, [.ref a, .ref c])), (a, .inr (2, [.int (iI ((w : Nat) : Int)), .int (iI ((g : Nat) : Int)), .ref b])), (b, .inr (3, [.ref v, .int (iI ((un P : Nat) : Int)), .int (zI false)])), (v, .inl (D.2 2, n, .inr (.inl (wd P)))), (c, .inr (3, [.ref v3, .int (iI ((un S : Nat) : Int)), .int (zI false)])), (v3, .inl (D.2 2, n2, .inr (.inl (wd S))))] H := hP
  have hD : va_D A [(ou, .inl (D.2 2, 1, .inr (.inl fo))), (t, .inr (1, [.ref a, .ref c])), (a, .inr (2, [.int (iI ((w : Nat) : Int)), .int (iI ((g : Nat) : Int)), .ref b])), (b, .inr (3, [.ref v, .int (iI ((un P : Nat) : Int)), .int (zI false)])), (v, .inl (D.2 2, n, .inr (.inl (wd P)))), (c, .inr (3, [.ref v3, .int (iI ((un S : Nat) : Int)), .int (zI false)])), (v3, .inl (D.2 2, n2, .inr (.inl (wd S))))] := hD
  refine W.eq (g2 := F0 m0 19 ls [.ref q9]) rfl ?_
  refine W.widen (k := 2) (n := 10) (Nat.le_refl _) (Nat.le_refl _) ?_
  refine lv_astore (lv' := [(7, .ref q9), (0, .ref t), (1, .int (iI x1)), (2, .int (iI y1)), (3, .int (iI x2)), (4, .int (iI y2)), (5, .int (zI z)), (6, .ref ou)]) kx kb dX0_line_19 hl (by decide) rfl (fun ls hl => ?_)
  refine lv_iconst (v := iI 1) kx kb dX0_line_21 rfl ?_
  subst hQ
  exact tm_iret C () trivial (hP.sub [1, 2, 3, 4, 5, 6, 0] rfl) (hD.sub [1, 2, 3, 4, 5, 6, 0] (by decide) rfl) hS (show 2 ≤ 2 from by omega) (show 10 ≤ 10 from by omega) rfl rfl dX0_line_22
set_option maxHeartbeats 4000000 in
set_option maxRecDepth 100000 in
theorem met_X0_circle_ok (l : Launch) (D : TG) (E : TE) (t : Nat) (a : Nat) (b : Nat) (v : Nat) (n : Nat) (w : Nat) (g : Nat) (P : Nat → Bool) (c : Nat) (v3 : Nat) (n2 : Nat) (S : Nat → Bool) (cx : Int) (cy : Int) (r : Int) (z : Bool) (ou : Nat) (fo : Nat → Int64) (hw : 1 ≤ w ∧ w ≤ 32) (hg : 1 ≤ g ∧ g ≤ 32) (hB : BB P n) (hB2 : BB S n2) (hPz : ∀ j_, w * g ≤ j_ → P j_ = false) (hSz : ∀ j_, w * g ≤ j_ → S j_ = false) (rcx : -40 ≤ cx ∧ cx ≤ 72) (rcy : -40 ≤ cy ∧ cy ≤ 72) (hr : 0 ≤ r ∧ r ≤ 40) : tMetH l yX0_circle cX0_circle 7 (some .int) [(0, 14, 17, 13)] 21 3525 (40) (168) [.ref t, .int (iI cx), .int (iI cy), .int (iI r), .int (zI z), .ref ou] D E [(t, .inr (1, [.ref a, .ref c])), (a, .inr (2, [.int (iI ((w : Nat) : Int)), .int (iI ((g : Nat) : Int)), .ref b])), (b, .inr (3, [.ref v, .int (iI ((un P : Nat) : Int)), .int (zI false)])), (v, .inl (D.2 2, n, .inr (.inl (wd P)))), (c, .inr (3, [.ref v3, .int (iI ((un S : Nat) : Int)), .int (zI false)])), (v3, .inl (D.2 2, n2, .inr (.inl (wd S)))), (ou, .inl (D.2 2, 1, .inr (.inl fo)))] tY0 (S := Nat × Nat) (fun u_ => BB (drwL w g z (crA cx cy r) P) u_.2) (fun u_ => some (.int (iI 0))) (fun u_ => [(t, .inr (1, [.ref a, .ref c])), (a, .inr (2, [.int (iI ((w : Nat) : Int)), .int (iI ((g : Nat) : Int)), .ref b])), (b, .inr (3, [.ref u_.1, .int (iI ((un (drwL w g z (crA cx cy r) P) : Nat) : Int)), .int (zI false)])), (u_.1, .inl (D.2 2, u_.2, .inr (.inl (wd (drwL w g z (crA cx cy r) P))))), (c, .inr (3, [.ref v3, .int (iI ((un S : Nat) : Int)), .int (zI false)])), (v3, .inl (D.2 2, n2, .inr (.inl (wd S)))), (ou, .inl (D.2 2, 1, .inr (.inl (va_up fo 0 (iI ((fb_ct (xorB (drwL w g z (crA cx cy r) P) P) 1024 : Nat) : Int)).toInt64))))]) := by
  refine tu_metH (by decide +kernel) (Nat.le_of_ble_eq_true rfl) ?_
  intro p0 e0 s0 m0 below meth c0 A ls args Q hag hQ C hT hK hX hY hP hD hA hAe hl
  obtain ⟨kx, kb, hml, hown, hts, -⟩ := id C
  have hS : va_S A s0.heap s0.heap [] := va_S.rf
  have hl : lv_has ls 7 [(0, .ref t), (1, .int (iI cx)), (2, .int (iI cy)), (3, .int (iI r)), (4, .int (zI z)), (5, .ref ou)] := hl
  have hwg := wg_le hw hg
  have hBn := hB.1
  have hBm := hB.2.1
  have hul := un_le hB
  have hul2 := un_le hB2
  refine lv_aload kx kb dX0_circle_0 (lv_at hl 5 rfl) ?_
  refine lv_iconst (v := iI 0) kx kb dX0_circle_2 rfl ?_
  refine lv_aload_n kx kb dX0_circle_3 rfl (lv_at hl 0 rfl) ?_
  refine lv_iload_n kx kb dX0_circle_4 rfl (lv_at hl 1 rfl) ?_
  refine lv_iload_n kx kb dX0_circle_5 rfl (lv_at hl 2 rfl) ?_
  refine lv_iload_n kx kb dX0_circle_6 rfl (lv_at hl 3 rfl) ?_
  refine lv_iload kx kb dX0_circle_7 (lv_at hl 4 rfl) ?_
  refine t_callV (wr := [(ou, .inl (D.2 2, 1, .inr (.inl fo)))]) C (met_X1_circle_ok l D E t a b v n w g P c v3 n2 S cx cy r z (hw) (hg) (hB) (hB2) (hPz) (hSz) (rcx) (rcy) (hr)) (cwV 4 hts (lw_V q1256 q1257 q1258 q59 q1259) rfl rfl rfl (by decide +kernel) ⟨Nat.le_of_ble_eq_true rfl, Nat.le_of_ble_eq_true rfl⟩) (va_recv hK hP (ci := 1) (q0 := 0) rfl rfl) hK hX hP hD hS hA [0, 1, 2, 3, 4, 5] [6] rfl rfl (by decide) (by decide) (by decide) tYb_0 (fun _ _ _ => trivial) rfl hl.1 rfl (Nat.le_of_ble_eq_true rfl) dX0_circle_9 ⟨(show 40 ≤ 40 from by omega), (show 168 ≤ 168 from by omega)⟩ (fun u_ H locs hp hP hD hS => ?_)
  obtain ⟨v4_1, n4_2⟩ := u_
  have hc9_1 : BB (drwL w g z (crA cx cy r) P) n4_2 := hp
  have hP : va_P D.1 clAll [(ou, .inl (D.2 2, 1, .inr (.inl fo))), (t, .inr (1, [.ref a, .ref c])), (a, .inr (2, [.int (iI ((w : Nat) : Int)), .int (iI ((g : Nat) : Int)), .ref b])), (b, .inr (3, [.ref v4_1, .int (iI ((un (drwL w g z (crA cx cy r) P) : Nat) : Int)), .int (zI false)])), (v4_1, .inl (D.2 2, n4_2, .inr (.inl (wd (drwL w g z (crA cx cy r) P))))), (c, .inr (3, [.ref v3, .int (iI ((un S : Nat) : Int)), .int (zI false)])), (v3, .inl (D.2 2, n2, .inr (.inl (wd S))))] H := hP
  have hD : va_D A [(ou, .inl (D.2 2, 1, .inr (.inl fo))), (t, .inr (1, [.ref a, .ref c])), (a, .inr (2, [.int (iI ((w : Nat) : Int)), .int (iI ((g : Nat) : Int)), .ref b])), (b, .inr (3, [.ref v4_1, .int (iI ((un (drwL w g z (crA cx cy r) P) : Nat) : Int)), .int (zI false)])), (v4_1, .inl (D.2 2, n4_2, .inr (.inl (wd (drwL w g z (crA cx cy r) P))))), (c, .inr (3, [.ref v3, .int (iI ((un S : Nat) : Int)), .int (zI false)])), (v3, .inl (D.2 2, n2, .inr (.inl (wd S))))] := hD
  refine W.eq (g2 := F0 m0 12 ls [.int (iI ((fb_ct (xorB (drwL w g z (crA cx cy r) P) P) 1024 : Nat) : Int)), .int (iI 0), .ref ou]) rfl ?_
  refine W.widen (k := 40) (n := 168) (Nat.le_refl _) (Nat.le_refl _) ?_
  refine lv_i2l kx kb dX0_circle_12 rfl ?_
  refine ta_last C hK hP hD hS 0 rfl 0 (by omega) dX0_circle_13 (fun H locs hP hD hS => ?_)
  have hP : va_P D.1 clAll [(ou, .inl (D.2 2, 1, .inr (.inl (va_up fo 0 ((iI ((fb_ct (xorB (drwL w g z (crA cx cy r) P) P) 1024 : Nat) : Int)).toInt64))))), (t, .inr (1, [.ref a, .ref c])), (a, .inr (2, [.int (iI ((w : Nat) : Int)), .int (iI ((g : Nat) : Int)), .ref b])), (b, .inr (3, [.ref v4_1, .int (iI ((un (drwL w g z (crA cx cy r) P) : Nat) : Int)), .int (zI false)])), (v4_1, .inl (D.2 2, n4_2, .inr (.inl (wd (drwL w g z (crA cx cy r) P))))), (c, .inr (3, [.ref v3, .int (iI ((un S : Nat) : Int)), .int (zI false)])), (v3, .inl (D.2 2, n2, .inr (.inl (wd S))))] H := hP
  have hD : va_D A [(ou, .inl (D.2 2, 1, .inr (.inl (va_up fo 0 ((iI ((fb_ct (xorB (drwL w g z (crA cx cy r) P) P) 1024 : Nat) : Int)).toInt64))))), (t, .inr (1, [.ref a, .ref c])), (a, .inr (2, [.int (iI ((w : Nat) : Int)), .int (iI ((g : Nat) : Int)), .ref b])), (b, .inr (3, [.ref v4_1, .int (iI ((un (drwL w g z (crA cx cy r) P) : Nat) : Int)), .int (zI false)])), (v4_1, .inl (D.2 2, n4_2, .inr (.inl (wd (drwL w g z (crA cx cy r) P))))), (c, .inr (3, [.ref v3, .int (iI ((un S : Nat) : Int)), .int (zI false)])), (v3, .inl (D.2 2, n2, .inr (.inl (wd S))))] := hD
  refine lv_goto (tgt := 21) kx kb dX0_circle_14 (by decide) ?_
  refine lv_iconst (v := iI 0) kx kb dX0_circle_21 rfl ?_
  subst hQ
  exact tm_iret C (v4_1, n4_2) (hc9_1) (hP.sub [1, 2, 3, 4, 5, 6, 0] rfl) (hD.sub [1, 2, 3, 4, 5, 6, 0] (by decide) rfl) hS (show 40 ≤ 40 from by omega) (show 168 ≤ 168 from by omega) rfl rfl dX0_circle_22
set_option maxHeartbeats 4000000 in
set_option maxRecDepth 100000 in
theorem met_X0_circle_no (l : Launch) (hfl : l.stackTraces = false) (D : TG) (E : TE) (t : Nat) (a : Nat) (b : Nat) (v : Nat) (n : Nat) (w : Nat) (g : Nat) (P : Nat → Bool) (c : Nat) (v3 : Nat) (n2 : Nat) (S : Nat → Bool) (cx : Int) (cy : Int) (r : Int) (z : Bool) (ou : Nat) (fo : Nat → Int64) (hw : 1 ≤ w ∧ w ≤ 32) (hg : 1 ≤ g ∧ g ≤ 32) (hB : BB P n) (hB2 : BB S n2) (hPz : ∀ j_, w * g ≤ j_ → P j_ = false) (hSz : ∀ j_, w * g ≤ j_ → S j_ = false) (rcx : -2147483648 ≤ cx ∧ cx < 2147483648) (rcy : -2147483648 ≤ cy ∧ cy < 2147483648) (rr : -2147483648 ≤ r ∧ r < 2147483648) (hv : ¬ ((-40 ≤ cx ∧ cx ≤ 72) ∧ (-40 ≤ cy ∧ cy ≤ 72) ∧ (0 ≤ r ∧ r ≤ 40))) : tMetH l yX0_circle cX0_circle 7 (some .int) [(0, 14, 17, 13)] 14 455 (2) (8) [.ref t, .int (iI cx), .int (iI cy), .int (iI r), .int (zI z), .ref ou] D E [(t, .inr (1, [.ref a, .ref c])), (a, .inr (2, [.int (iI ((w : Nat) : Int)), .int (iI ((g : Nat) : Int)), .ref b])), (b, .inr (3, [.ref v, .int (iI ((un P : Nat) : Int)), .int (zI false)])), (v, .inl (D.2 2, n, .inr (.inl (wd P)))), (c, .inr (3, [.ref v3, .int (iI ((un S : Nat) : Int)), .int (zI false)])), (v3, .inl (D.2 2, n2, .inr (.inl (wd S)))), (ou, .inl (D.2 2, 1, .inr (.inl fo)))] tY0 (S := Unit) (fun u_ => True) (fun u_ => some (.int (iI 1))) (fun u_ => [(t, .inr (1, [.ref a, .ref c])), (a, .inr (2, [.int (iI ((w : Nat) : Int)), .int (iI ((g : Nat) : Int)), .ref b])), (b, .inr (3, [.ref v, .int (iI ((un P : Nat) : Int)), .int (zI false)])), (v, .inl (D.2 2, n, .inr (.inl (wd P)))), (c, .inr (3, [.ref v3, .int (iI ((un S : Nat) : Int)), .int (zI false)])), (v3, .inl (D.2 2, n2, .inr (.inl (wd S)))), (ou, .inl (D.2 2, 1, .inr (.inl fo)))]) := by
  refine tu_metH (by decide +kernel) (Nat.le_of_ble_eq_true rfl) ?_
  intro p0 e0 s0 m0 below meth c0 A ls args Q hag hQ C hT hK hX hY hP hD hA hAe hl
  obtain ⟨kx, kb, hml, hown, hts, -⟩ := id C
  have hS : va_S A s0.heap s0.heap [] := va_S.rf
  have hl : lv_has ls 7 [(0, .ref t), (1, .int (iI cx)), (2, .int (iI cy)), (3, .int (iI r)), (4, .int (zI z)), (5, .ref ou)] := hl
  have hwg := wg_le hw hg
  have hBn := hB.1
  have hBm := hB.2.1
  have hul := un_le hB
  have hul2 := un_le hB2
  refine lv_aload kx kb dX0_circle_0 (lv_at hl 5 rfl) ?_
  refine lv_iconst (v := iI 0) kx kb dX0_circle_2 rfl ?_
  refine lv_aload_n kx kb dX0_circle_3 rfl (lv_at hl 0 rfl) ?_
  refine lv_iload_n kx kb dX0_circle_4 rfl (lv_at hl 1 rfl) ?_
  refine lv_iload_n kx kb dX0_circle_5 rfl (lv_at hl 2 rfl) ?_
  refine lv_iload_n kx kb dX0_circle_6 rfl (lv_at hl 3 rfl) ?_
  refine lv_iload kx kb dX0_circle_7 (lv_at hl 4 rfl) ?_
  refine u_tryV (wr := [(ou, .inl (D.2 2, 1, .inr (.inl fo)))]) (nm := "java/lang/IllegalArgumentException") C [] (⟨0, 14, 17, 13⟩ : ExceptionTableEntry) [] hT (fun _ h_ => nomatch h_) (by decide) (by decide) (hts _ q1182) (va_Nw.use rfl (hX.1 _ q432 rfl)) (met_X1_circle_no l hfl D E t a b v n w g P c v3 n2 S cx cy r z (hw) (hg) (hB) (hB2) (hPz) (hSz) (rcx) (rcy) (rr) (hv)) (cwV 4 hts (lw_V q1256 q1257 q1258 q59 q1259) rfl rfl rfl (by decide +kernel) ⟨Nat.le_of_ble_eq_true rfl, Nat.le_of_ble_eq_true rfl⟩) (va_recv hK hP (ci := 1) (q0 := 0) rfl rfl) hK hX hP hD hS hA [0, 1, 2, 3, 4, 5] [6] rfl rfl (by decide) (by decide) (by decide) rfl hl.1 rfl (Nat.le_of_ble_eq_true rfl) dX0_circle_9 ⟨(show 2 ≤ 2 from by omega), (show 8 ≤ 8 from by omega)⟩ (fun q9 H locs hP hD hS => ?_)
  have hP : va_P D.1 clAll [(ou, .inl (D.2 2, 1, .inr (.inl fo))), (t, .inr (1, [.ref a, .ref c])), (a, .inr (2, [.int (iI ((w : Nat) : Int)), .int (iI ((g : Nat) : Int)), .ref b])), (b, .inr (3, [.ref v, .int (iI ((un P : Nat) : Int)), .int (zI false)])), (v, .inl (D.2 2, n, .inr (.inl (wd P)))), (c, .inr (3, [.ref v3, .int (iI ((un S : Nat) : Int)), .int (zI false)])), (v3, .inl (D.2 2, n2, .inr (.inl (wd S))))] H := hP
  have hD : va_D A [(ou, .inl (D.2 2, 1, .inr (.inl fo))), (t, .inr (1, [.ref a, .ref c])), (a, .inr (2, [.int (iI ((w : Nat) : Int)), .int (iI ((g : Nat) : Int)), .ref b])), (b, .inr (3, [.ref v, .int (iI ((un P : Nat) : Int)), .int (zI false)])), (v, .inl (D.2 2, n, .inr (.inl (wd P)))), (c, .inr (3, [.ref v3, .int (iI ((un S : Nat) : Int)), .int (zI false)])), (v3, .inl (D.2 2, n2, .inr (.inl (wd S))))] := hD
  refine W.eq (g2 := F0 m0 17 ls [.ref q9]) rfl ?_
  refine W.widen (k := 2) (n := 8) (Nat.le_refl _) (Nat.le_refl _) ?_
  refine lv_astore (lv' := [(6, .ref q9), (0, .ref t), (1, .int (iI cx)), (2, .int (iI cy)), (3, .int (iI r)), (4, .int (zI z)), (5, .ref ou)]) kx kb dX0_circle_17 hl (by decide) rfl (fun ls hl => ?_)
  refine lv_iconst (v := iI 1) kx kb dX0_circle_19 rfl ?_
  subst hQ
  exact tm_iret C () trivial (hP.sub [1, 2, 3, 4, 5, 6, 0] rfl) (hD.sub [1, 2, 3, 4, 5, 6, 0] (by decide) rfl) hS (show 2 ≤ 2 from by omega) (show 8 ≤ 8 from by omega) rfl rfl dX0_circle_20
set_option maxHeartbeats 4000000 in
set_option maxRecDepth 100000 in
theorem met_X0_fill_ok (l : Launch) (D : TG) (E : TE) (t : Nat) (a : Nat) (b : Nat) (v : Nat) (n : Nat) (w : Nat) (g : Nat) (P : Nat → Bool) (c : Nat) (v3 : Nat) (n2 : Nat) (S : Nat → Bool) (x : Int) (y : Int) (ou : Nat) (fo : Nat → Int64) (hw : 1 ≤ w ∧ w ≤ 32) (hg : 1 ≤ g ∧ g ≤ 32) (hB : BB P n) (hB2 : BB S n2) (hPz : ∀ j_, w * g ≤ j_ → P j_ = false) (hSz : ∀ j_, w * g ≤ j_ → S j_ = false) (hv : 0 ≤ x ∧ x < w ∧ 0 ≤ y ∧ y < g) : tMetH l yX0_fill cX0_fill 5 (some .int) [(0, 10, 13, 19)] 8 206 (5 + 3 * (w * g)) (54 + 40 * (w * g)) [.ref t, .int (iI x), .int (iI y), .ref ou] D E [(t, .inr (1, [.ref a, .ref c])), (a, .inr (2, [.int (iI ((w : Nat) : Int)), .int (iI ((g : Nat) : Int)), .ref b])), (b, .inr (3, [.ref v, .int (iI ((un P : Nat) : Int)), .int (zI false)])), (v, .inl (D.2 2, n, .inr (.inl (wd P)))), (c, .inr (3, [.ref v3, .int (iI ((un S : Nat) : Int)), .int (zI false)])), (v3, .inl (D.2 2, n2, .inr (.inl (wd S)))), (ou, .inl (D.2 2, 1, .inr (.inl fo)))] tY0 (S := Nat × Nat) (fun u_ => BB (if P (cel w x y) then P else filF w g P (cel w x y)) u_.2) (fun u_ => some (.int (iI 0))) (fun u_ => [(t, .inr (1, [.ref a, .ref c])), (a, .inr (2, [.int (iI ((w : Nat) : Int)), .int (iI ((g : Nat) : Int)), .ref b])), (b, .inr (3, [.ref u_.1, .int (iI ((un (if P (cel w x y) then P else filF w g P (cel w x y)) : Nat) : Int)), .int (zI false)])), (u_.1, .inl (D.2 2, u_.2, .inr (.inl (wd (if P (cel w x y) then P else filF w g P (cel w x y)))))), (c, .inr (3, [.ref v3, .int (iI ((un S : Nat) : Int)), .int (zI false)])), (v3, .inl (D.2 2, n2, .inr (.inl (wd S)))), (ou, .inl (D.2 2, 1, .inr (.inl (va_up fo 0 (iI (if P (cel w x y) then 0 else ((sizN w g P false (lbI w g P false (cel w x y)) : Nat) : Int))).toInt64))))]) := by
  refine tu_metH (by decide +kernel) (Nat.le_of_ble_eq_true rfl) ?_
  intro p0 e0 s0 m0 below meth c0 A ls args Q hag hQ C hT hK hX hY hP hD hA hAe hl
  obtain ⟨kx, kb, hml, hown, hts, -⟩ := id C
  have hS : va_S A s0.heap s0.heap [] := va_S.rf
  have hl : lv_has ls 5 [(0, .ref t), (1, .int (iI x)), (2, .int (iI y)), (3, .ref ou)] := hl
  have hwg := wg_le hw hg
  have hBn := hB.1
  have hBm := hB.2.1
  have hul := un_le hB
  have hul2 := un_le hB2
  refine lv_aload_n kx kb dX0_fill_0 rfl (lv_at hl 3 rfl) ?_
  refine lv_iconst (v := iI 0) kx kb dX0_fill_1 rfl ?_
  refine lv_aload_n kx kb dX0_fill_2 rfl (lv_at hl 0 rfl) ?_
  refine lv_iload_n kx kb dX0_fill_3 rfl (lv_at hl 1 rfl) ?_
  refine lv_iload_n kx kb dX0_fill_4 rfl (lv_at hl 2 rfl) ?_
  refine t_callV (wr := [(ou, .inl (D.2 2, 1, .inr (.inl fo)))]) C (met_X1_fill_ok l D E t a b v n w g P c v3 n2 S x y (hw) (hg) (hB) (hB2) (hPz) (hSz) (hv)) (cwV 2 hts (lw_V q1267 q1268 q1269 q59 q1270) rfl rfl rfl (by decide +kernel) ⟨Nat.le_of_ble_eq_true rfl, Nat.le_of_ble_eq_true rfl⟩) (va_recv hK hP (ci := 1) (q0 := 0) rfl rfl) hK hX hP hD hS hA [0, 1, 2, 3, 4, 5] [6] rfl rfl (by decide) (by decide) (by decide) tYb_0 (fun _ _ _ => trivial) rfl hl.1 rfl (Nat.le_of_ble_eq_true rfl) dX0_fill_5 ⟨(show 0 + (5 + 3 * (w * g)) ≤ 5 + 3 * (w * g) from by omega), (show 0 + (54 + 40 * (w * g)) ≤ 54 + 40 * (w * g) from by omega)⟩ (fun u_ H locs hp hP hD hS => ?_)
  obtain ⟨v2_1, n3_2⟩ := u_
  have hc5_1 : BB (if P (cel w x y) then P else filF w g P (cel w x y)) n3_2 := hp
  have hP : va_P D.1 clAll [(ou, .inl (D.2 2, 1, .inr (.inl fo))), (t, .inr (1, [.ref a, .ref c])), (a, .inr (2, [.int (iI ((w : Nat) : Int)), .int (iI ((g : Nat) : Int)), .ref b])), (b, .inr (3, [.ref v2_1, .int (iI ((un (if P (cel w x y) then P else filF w g P (cel w x y)) : Nat) : Int)), .int (zI false)])), (v2_1, .inl (D.2 2, n3_2, .inr (.inl (wd (if P (cel w x y) then P else filF w g P (cel w x y)))))), (c, .inr (3, [.ref v3, .int (iI ((un S : Nat) : Int)), .int (zI false)])), (v3, .inl (D.2 2, n2, .inr (.inl (wd S))))] H := hP
  have hD : va_D A [(ou, .inl (D.2 2, 1, .inr (.inl fo))), (t, .inr (1, [.ref a, .ref c])), (a, .inr (2, [.int (iI ((w : Nat) : Int)), .int (iI ((g : Nat) : Int)), .ref b])), (b, .inr (3, [.ref v2_1, .int (iI ((un (if P (cel w x y) then P else filF w g P (cel w x y)) : Nat) : Int)), .int (zI false)])), (v2_1, .inl (D.2 2, n3_2, .inr (.inl (wd (if P (cel w x y) then P else filF w g P (cel w x y)))))), (c, .inr (3, [.ref v3, .int (iI ((un S : Nat) : Int)), .int (zI false)])), (v3, .inl (D.2 2, n2, .inr (.inl (wd S))))] := hD
  refine W.eq (g2 := F0 m0 8 ls [.int (iI (if P (cel w x y) then 0 else ((sizN w g P false (lbI w g P false (cel w x y)) : Nat) : Int))), .int (iI 0), .ref ou]) rfl ?_
  refine W.widen (k := 0 + (5 + 3 * (w * g))) (n := 0 + (54 + 40 * (w * g))) (Nat.le_refl _) (Nat.le_refl _) ?_
  refine lv_i2l kx kb dX0_fill_8 rfl ?_
  refine ta_last C hK hP hD hS 0 rfl 0 (by omega) dX0_fill_9 (fun H locs hP hD hS => ?_)
  have hP : va_P D.1 clAll [(ou, .inl (D.2 2, 1, .inr (.inl (va_up fo 0 ((iI (if P (cel w x y) then 0 else ((sizN w g P false (lbI w g P false (cel w x y)) : Nat) : Int))).toInt64))))), (t, .inr (1, [.ref a, .ref c])), (a, .inr (2, [.int (iI ((w : Nat) : Int)), .int (iI ((g : Nat) : Int)), .ref b])), (b, .inr (3, [.ref v2_1, .int (iI ((un (if P (cel w x y) then P else filF w g P (cel w x y)) : Nat) : Int)), .int (zI false)])), (v2_1, .inl (D.2 2, n3_2, .inr (.inl (wd (if P (cel w x y) then P else filF w g P (cel w x y)))))), (c, .inr (3, [.ref v3, .int (iI ((un S : Nat) : Int)), .int (zI false)])), (v3, .inl (D.2 2, n2, .inr (.inl (wd S))))] H := hP
  have hD : va_D A [(ou, .inl (D.2 2, 1, .inr (.inl (va_up fo 0 ((iI (if P (cel w x y) then 0 else ((sizN w g P false (lbI w g P false (cel w x y)) : Nat) : Int))).toInt64))))), (t, .inr (1, [.ref a, .ref c])), (a, .inr (2, [.int (iI ((w : Nat) : Int)), .int (iI ((g : Nat) : Int)), .ref b])), (b, .inr (3, [.ref v2_1, .int (iI ((un (if P (cel w x y) then P else filF w g P (cel w x y)) : Nat) : Int)), .int (zI false)])), (v2_1, .inl (D.2 2, n3_2, .inr (.inl (wd (if P (cel w x y) then P else filF w g P (cel w x y)))))), (c, .inr (3, [.ref v3, .int (iI ((un S : Nat) : Int)), .int (zI false)])), (v3, .inl (D.2 2, n2, .inr (.inl (wd S))))] := hD
  refine lv_goto (tgt := 17) kx kb dX0_fill_10 (by decide) ?_
  refine lv_iconst (v := iI 0) kx kb dX0_fill_17 rfl ?_
  subst hQ
  exact tm_iret C (v2_1, n3_2) (hc5_1) (hP.sub [1, 2, 3, 4, 5, 6, 0] rfl) (hD.sub [1, 2, 3, 4, 5, 6, 0] (by decide) rfl) hS (show 0 + (5 + 3 * (w * g)) ≤ 5 + 3 * (w * g) from by omega) (show 0 + (54 + 40 * (w * g)) ≤ 54 + 40 * (w * g) from by omega) rfl rfl dX0_fill_18
set_option maxHeartbeats 4000000 in
set_option maxRecDepth 100000 in
theorem met_X0_fill_no (l : Launch) (hfl : l.stackTraces = false) (D : TG) (E : TE) (t : Nat) (a : Nat) (b : Nat) (v : Nat) (n : Nat) (w : Nat) (g : Nat) (P : Nat → Bool) (c : Nat) (v3 : Nat) (n2 : Nat) (S : Nat → Bool) (x : Int) (y : Int) (ou : Nat) (fo : Nat → Int64) (hw : 1 ≤ w ∧ w ≤ 32) (hg : 1 ≤ g ∧ g ≤ 32) (hB : BB P n) (hB2 : BB S n2) (hPz : ∀ j_, w * g ≤ j_ → P j_ = false) (hSz : ∀ j_, w * g ≤ j_ → S j_ = false) (rx : -2147483648 ≤ x ∧ x < 2147483648) (ry : -2147483648 ≤ y ∧ y < 2147483648) (hv : ¬ (0 ≤ x ∧ x < w ∧ 0 ≤ y ∧ y < g)) : tMetH l yX0_fill cX0_fill 5 (some .int) [(0, 10, 13, 19)] 11 206 (1) (6) [.ref t, .int (iI x), .int (iI y), .ref ou] D E [(t, .inr (1, [.ref a, .ref c])), (a, .inr (2, [.int (iI ((w : Nat) : Int)), .int (iI ((g : Nat) : Int)), .ref b])), (b, .inr (3, [.ref v, .int (iI ((un P : Nat) : Int)), .int (zI false)])), (v, .inl (D.2 2, n, .inr (.inl (wd P)))), (c, .inr (3, [.ref v3, .int (iI ((un S : Nat) : Int)), .int (zI false)])), (v3, .inl (D.2 2, n2, .inr (.inl (wd S)))), (ou, .inl (D.2 2, 1, .inr (.inl fo)))] tY0 (S := Unit) (fun u_ => True) (fun u_ => some (.int (iI 1))) (fun u_ => [(t, .inr (1, [.ref a, .ref c])), (a, .inr (2, [.int (iI ((w : Nat) : Int)), .int (iI ((g : Nat) : Int)), .ref b])), (b, .inr (3, [.ref v, .int (iI ((un P : Nat) : Int)), .int (zI false)])), (v, .inl (D.2 2, n, .inr (.inl (wd P)))), (c, .inr (3, [.ref v3, .int (iI ((un S : Nat) : Int)), .int (zI false)])), (v3, .inl (D.2 2, n2, .inr (.inl (wd S)))), (ou, .inl (D.2 2, 1, .inr (.inl fo)))]) := by
  refine tu_metH (by decide +kernel) (Nat.le_of_ble_eq_true rfl) ?_
  intro p0 e0 s0 m0 below meth c0 A ls args Q hag hQ C hT hK hX hY hP hD hA hAe hl
  obtain ⟨kx, kb, hml, hown, hts, -⟩ := id C
  have hS : va_S A s0.heap s0.heap [] := va_S.rf
  have hl : lv_has ls 5 [(0, .ref t), (1, .int (iI x)), (2, .int (iI y)), (3, .ref ou)] := hl
  have hwg := wg_le hw hg
  have hBn := hB.1
  have hBm := hB.2.1
  have hul := un_le hB
  have hul2 := un_le hB2
  refine lv_aload_n kx kb dX0_fill_0 rfl (lv_at hl 3 rfl) ?_
  refine lv_iconst (v := iI 0) kx kb dX0_fill_1 rfl ?_
  refine lv_aload_n kx kb dX0_fill_2 rfl (lv_at hl 0 rfl) ?_
  refine lv_iload_n kx kb dX0_fill_3 rfl (lv_at hl 1 rfl) ?_
  refine lv_iload_n kx kb dX0_fill_4 rfl (lv_at hl 2 rfl) ?_
  refine u_tryV (wr := [(ou, .inl (D.2 2, 1, .inr (.inl fo)))]) (nm := "java/lang/IndexOutOfBoundsException") C [] (⟨0, 10, 13, 19⟩ : ExceptionTableEntry) [] hT (fun _ h_ => nomatch h_) (by decide) (by decide) (hts _ q1198) (va_Nw.use rfl (hX.1 _ q176 rfl)) (met_X1_fill_no l hfl D E t a b v n w g P c v3 n2 S x y (hw) (hg) (hB) (hB2) (hPz) (hSz) (rx) (ry) (hv)) (cwV 2 hts (lw_V q1267 q1268 q1269 q59 q1270) rfl rfl rfl (by decide +kernel) ⟨Nat.le_of_ble_eq_true rfl, Nat.le_of_ble_eq_true rfl⟩) (va_recv hK hP (ci := 1) (q0 := 0) rfl rfl) hK hX hP hD hS hA [0, 1, 2, 3, 4, 5] [6] rfl rfl (by decide) (by decide) (by decide) rfl hl.1 rfl (Nat.le_of_ble_eq_true rfl) dX0_fill_5 ⟨(show 1 ≤ 1 from by omega), (show 6 ≤ 6 from by omega)⟩ (fun q9 H locs hP hD hS => ?_)
  have hP : va_P D.1 clAll [(ou, .inl (D.2 2, 1, .inr (.inl fo))), (t, .inr (1, [.ref a, .ref c])), (a, .inr (2, [.int (iI ((w : Nat) : Int)), .int (iI ((g : Nat) : Int)), .ref b])), (b, .inr (3, [.ref v, .int (iI ((un P : Nat) : Int)), .int (zI false)])), (v, .inl (D.2 2, n, .inr (.inl (wd P)))), (c, .inr (3, [.ref v3, .int (iI ((un S : Nat) : Int)), .int (zI false)])), (v3, .inl (D.2 2, n2, .inr (.inl (wd S))))] H := hP
  have hD : va_D A [(ou, .inl (D.2 2, 1, .inr (.inl fo))), (t, .inr (1, [.ref a, .ref c])), (a, .inr (2, [.int (iI ((w : Nat) : Int)), .int (iI ((g : Nat) : Int)), .ref b])), (b, .inr (3, [.ref v, .int (iI ((un P : Nat) : Int)), .int (zI false)])), (v, .inl (D.2 2, n, .inr (.inl (wd P)))), (c, .inr (3, [.ref v3, .int (iI ((un S : Nat) : Int)), .int (zI false)])), (v3, .inl (D.2 2, n2, .inr (.inl (wd S))))] := hD
  refine W.eq (g2 := F0 m0 13 ls [.ref q9]) rfl ?_
  refine W.widen (k := 1) (n := 6) (Nat.le_refl _) (Nat.le_refl _) ?_
  refine lv_astore (lv' := [(4, .ref q9), (0, .ref t), (1, .int (iI x)), (2, .int (iI y)), (3, .ref ou)]) kx kb dX0_fill_13 hl (by decide) rfl (fun ls hl => ?_)
  refine lv_iconst (v := iI 1) kx kb dX0_fill_15 rfl ?_
  subst hQ
  exact tm_iret C () trivial (hP.sub [1, 2, 3, 4, 5, 6, 0] rfl) (hD.sub [1, 2, 3, 4, 5, 6, 0] (by decide) rfl) hS (show 1 ≤ 1 from by omega) (show 6 ≤ 6 from by omega) rfl rfl dX0_fill_16
set_option maxHeartbeats 4000000 in
set_option maxRecDepth 100000 in
theorem met_X0_join_0 (l : Launch) (D : TG) (E : TE) (t : Nat) (a : Nat) (b : Nat) (v : Nat) (n : Nat) (w : Nat) (g : Nat) (P : Nat → Bool) (c : Nat) (v3 : Nat) (n2 : Nat) (S : Nat → Bool) (ou : Nat) (fo : Nat → Int64) (hw : 1 ≤ w ∧ w ≤ 32) (hg : 1 ≤ g ∧ g ≤ 32) (hB : BB P n) (hB2 : BB S n2) (hPz : ∀ j_, w * g ≤ j_ → P j_ = false) (hSz : ∀ j_, w * g ≤ j_ → S j_ = false) : tMetH l yX0_join cX0_join 4 (some .int) [(0, 9, 12, 13)] 6 150 (2) (34) [.ref t, .int (iI 0), .ref ou] D E [(t, .inr (1, [.ref a, .ref c])), (a, .inr (2, [.int (iI ((w : Nat) : Int)), .int (iI ((g : Nat) : Int)), .ref b])), (b, .inr (3, [.ref v, .int (iI ((un P : Nat) : Int)), .int (zI false)])), (v, .inl (D.2 2, n, .inr (.inl (wd P)))), (c, .inr (3, [.ref v3, .int (iI ((un S : Nat) : Int)), .int (zI false)])), (v3, .inl (D.2 2, n2, .inr (.inl (wd S)))), (ou, .inl (D.2 2, 1, .inr (.inl fo)))] tY0 (S := Nat) (fun u_ => True) (fun u_ => some (.int (iI 0))) (fun u_ => [(t, .inr (1, [.ref a, .ref c])), (a, .inr (2, [.int (iI ((w : Nat) : Int)), .int (iI ((g : Nat) : Int)), .ref b])), (b, .inr (3, [.ref u_, .int (iI ((un (orB P S) : Nat) : Int)), .int (zI false)])), (u_, .inl (D.2 2, gN n (un S), .inr (.inl (wd (orB P S))))), (c, .inr (3, [.ref v3, .int (iI ((un S : Nat) : Int)), .int (zI false)])), (v3, .inl (D.2 2, n2, .inr (.inl (wd S)))), (ou, .inl (D.2 2, 1, .inr (.inl (va_up fo 0 (iI ((fb_ct (orB P S) 1024 : Nat) : Int)).toInt64))))]) := by
  refine tu_metH (by decide +kernel) (Nat.le_of_ble_eq_true rfl) ?_
  intro p0 e0 s0 m0 below meth c0 A ls args Q hag hQ C hT hK hX hY hP hD hA hAe hl
  obtain ⟨kx, kb, hml, hown, hts, -⟩ := id C
  have hS : va_S A s0.heap s0.heap [] := va_S.rf
  have hl : lv_has ls 4 [(0, .ref t), (1, .int (iI 0)), (2, .ref ou)] := hl
  have hwg := wg_le hw hg
  have hBn := hB.1
  have hBm := hB.2.1
  have hul := un_le hB
  have hul2 := un_le hB2
  refine lv_aload_n kx kb dX0_join_0 rfl (lv_at hl 2 rfl) ?_
  refine lv_iconst (v := iI 0) kx kb dX0_join_1 rfl ?_
  refine lv_aload_n kx kb dX0_join_2 rfl (lv_at hl 0 rfl) ?_
  refine lv_iload_n kx kb dX0_join_3 rfl (lv_at hl 1 rfl) ?_
  refine t_callV (wr := [(ou, .inl (D.2 2, 1, .inr (.inl fo)))]) C (met_X1_join_0 l D E t a b v n w g P c v3 n2 S (hw) (hg) (hB) (hB2) (hPz) (hSz)) (cwV 1 hts (lw_V q1276 q1277 q1278 q59 q1279) rfl rfl rfl (by decide +kernel) ⟨Nat.le_of_ble_eq_true rfl, Nat.le_of_ble_eq_true rfl⟩) (va_recv hK hP (ci := 1) (q0 := 0) rfl rfl) hK hX hP hD hS hA [0, 1, 2, 3, 4, 5] [6] rfl rfl (by decide) (by decide) (by decide) tYb_0 (fun _ _ _ => trivial) rfl hl.1 rfl (Nat.le_of_ble_eq_true rfl) dX0_join_4 ⟨(show 2 ≤ 2 from by omega), (show 34 ≤ 34 from by omega)⟩ (fun u_ H locs hp hP hD hS => ?_)
  obtain ⟨v2_1, rfl⟩ : ∃ z, z = u_ := ⟨_, rfl⟩
  have hP : va_P D.1 clAll [(ou, .inl (D.2 2, 1, .inr (.inl fo))), (t, .inr (1, [.ref a, .ref c])), (a, .inr (2, [.int (iI ((w : Nat) : Int)), .int (iI ((g : Nat) : Int)), .ref b])), (b, .inr (3, [.ref v2_1, .int (iI ((un (orB P S) : Nat) : Int)), .int (zI false)])), (v2_1, .inl (D.2 2, gN n (un S), .inr (.inl (wd (orB P S))))), (c, .inr (3, [.ref v3, .int (iI ((un S : Nat) : Int)), .int (zI false)])), (v3, .inl (D.2 2, n2, .inr (.inl (wd S))))] H := hP
  have hD : va_D A [(ou, .inl (D.2 2, 1, .inr (.inl fo))), (t, .inr (1, [.ref a, .ref c])), (a, .inr (2, [.int (iI ((w : Nat) : Int)), .int (iI ((g : Nat) : Int)), .ref b])), (b, .inr (3, [.ref v2_1, .int (iI ((un (orB P S) : Nat) : Int)), .int (zI false)])), (v2_1, .inl (D.2 2, gN n (un S), .inr (.inl (wd (orB P S))))), (c, .inr (3, [.ref v3, .int (iI ((un S : Nat) : Int)), .int (zI false)])), (v3, .inl (D.2 2, n2, .inr (.inl (wd S))))] := hD
  refine W.eq (g2 := F0 m0 7 ls [.int (iI ((fb_ct (orB P S) 1024 : Nat) : Int)), .int (iI 0), .ref ou]) rfl ?_
  refine W.widen (k := 2) (n := 34) (Nat.le_refl _) (Nat.le_refl _) ?_
  refine lv_i2l kx kb dX0_join_7 rfl ?_
  refine ta_last C hK hP hD hS 0 rfl 0 (by omega) dX0_join_8 (fun H locs hP hD hS => ?_)
  have hP : va_P D.1 clAll [(ou, .inl (D.2 2, 1, .inr (.inl (va_up fo 0 ((iI ((fb_ct (orB P S) 1024 : Nat) : Int)).toInt64))))), (t, .inr (1, [.ref a, .ref c])), (a, .inr (2, [.int (iI ((w : Nat) : Int)), .int (iI ((g : Nat) : Int)), .ref b])), (b, .inr (3, [.ref v2_1, .int (iI ((un (orB P S) : Nat) : Int)), .int (zI false)])), (v2_1, .inl (D.2 2, gN n (un S), .inr (.inl (wd (orB P S))))), (c, .inr (3, [.ref v3, .int (iI ((un S : Nat) : Int)), .int (zI false)])), (v3, .inl (D.2 2, n2, .inr (.inl (wd S))))] H := hP
  have hD : va_D A [(ou, .inl (D.2 2, 1, .inr (.inl (va_up fo 0 ((iI ((fb_ct (orB P S) 1024 : Nat) : Int)).toInt64))))), (t, .inr (1, [.ref a, .ref c])), (a, .inr (2, [.int (iI ((w : Nat) : Int)), .int (iI ((g : Nat) : Int)), .ref b])), (b, .inr (3, [.ref v2_1, .int (iI ((un (orB P S) : Nat) : Int)), .int (zI false)])), (v2_1, .inl (D.2 2, gN n (un S), .inr (.inl (wd (orB P S))))), (c, .inr (3, [.ref v3, .int (iI ((un S : Nat) : Int)), .int (zI false)])), (v3, .inl (D.2 2, n2, .inr (.inl (wd S))))] := hD
  refine lv_goto (tgt := 15) kx kb dX0_join_9 (by decide) ?_
  refine lv_iconst (v := iI 0) kx kb dX0_join_15 rfl ?_
  subst hQ
  exact tm_iret C v2_1 trivial (hP.sub [1, 2, 3, 4, 5, 6, 0] rfl) (hD.sub [1, 2, 3, 4, 5, 6, 0] (by decide) rfl) hS (show 2 ≤ 2 from by omega) (show 34 ≤ 34 from by omega) rfl rfl dX0_join_16
set_option maxHeartbeats 4000000 in
set_option maxRecDepth 100000 in
theorem met_X0_join_1 (l : Launch) (D : TG) (E : TE) (t : Nat) (a : Nat) (b : Nat) (v : Nat) (n : Nat) (w : Nat) (g : Nat) (P : Nat → Bool) (c : Nat) (v3 : Nat) (n2 : Nat) (S : Nat → Bool) (ou : Nat) (fo : Nat → Int64) (hw : 1 ≤ w ∧ w ≤ 32) (hg : 1 ≤ g ∧ g ≤ 32) (hB : BB P n) (hB2 : BB S n2) (hPz : ∀ j_, w * g ≤ j_ → P j_ = false) (hSz : ∀ j_, w * g ≤ j_ → S j_ = false) : tMetH l yX0_join cX0_join 4 (some .int) [(0, 9, 12, 13)] 4 100 (2) (34) [.ref t, .int (iI 1), .ref ou] D E [(t, .inr (1, [.ref a, .ref c])), (a, .inr (2, [.int (iI ((w : Nat) : Int)), .int (iI ((g : Nat) : Int)), .ref b])), (b, .inr (3, [.ref v, .int (iI ((un P : Nat) : Int)), .int (zI false)])), (v, .inl (D.2 2, n, .inr (.inl (wd P)))), (c, .inr (3, [.ref v3, .int (iI ((un S : Nat) : Int)), .int (zI false)])), (v3, .inl (D.2 2, n2, .inr (.inl (wd S)))), (ou, .inl (D.2 2, 1, .inr (.inl fo)))] tY0 (S := Unit) (fun u_ => True) (fun u_ => some (.int (iI 0))) (fun u_ => [(t, .inr (1, [.ref a, .ref c])), (a, .inr (2, [.int (iI ((w : Nat) : Int)), .int (iI ((g : Nat) : Int)), .ref b])), (b, .inr (3, [.ref v, .int (iI ((un (andB P S) : Nat) : Int)), .int (zI false)])), (v, .inl (D.2 2, n, .inr (.inl (wd (andB P S))))), (c, .inr (3, [.ref v3, .int (iI ((un S : Nat) : Int)), .int (zI false)])), (v3, .inl (D.2 2, n2, .inr (.inl (wd S)))), (ou, .inl (D.2 2, 1, .inr (.inl (va_up fo 0 (iI ((fb_ct (andB P S) 1024 : Nat) : Int)).toInt64))))]) := by
  refine tu_metH (by decide +kernel) (Nat.le_of_ble_eq_true rfl) ?_
  intro p0 e0 s0 m0 below meth c0 A ls args Q hag hQ C hT hK hX hY hP hD hA hAe hl
  obtain ⟨kx, kb, hml, hown, hts, -⟩ := id C
  have hS : va_S A s0.heap s0.heap [] := va_S.rf
  have hl : lv_has ls 4 [(0, .ref t), (1, .int (iI 1)), (2, .ref ou)] := hl
  have hwg := wg_le hw hg
  have hBn := hB.1
  have hBm := hB.2.1
  have hul := un_le hB
  have hul2 := un_le hB2
  refine lv_aload_n kx kb dX0_join_0 rfl (lv_at hl 2 rfl) ?_
  refine lv_iconst (v := iI 0) kx kb dX0_join_1 rfl ?_
  refine lv_aload_n kx kb dX0_join_2 rfl (lv_at hl 0 rfl) ?_
  refine lv_iload_n kx kb dX0_join_3 rfl (lv_at hl 1 rfl) ?_
  refine t_callV (wr := [(ou, .inl (D.2 2, 1, .inr (.inl fo)))]) C (met_X1_join_1 l D E t a b v n w g P c v3 n2 S (hw) (hg) (hB) (hB2) (hPz) (hSz)) (cwV 1 hts (lw_V q1276 q1277 q1278 q59 q1279) rfl rfl rfl (by decide +kernel) ⟨Nat.le_of_ble_eq_true rfl, Nat.le_of_ble_eq_true rfl⟩) (va_recv hK hP (ci := 1) (q0 := 0) rfl rfl) hK hX hP hD hS hA [0, 1, 2, 3, 4, 5] [6] rfl rfl (by decide) (by decide) (by decide) tYb_0 (fun _ _ _ => trivial) rfl hl.1 rfl (Nat.le_of_ble_eq_true rfl) dX0_join_4 ⟨(show 2 ≤ 2 from by omega), (show 34 ≤ 34 from by omega)⟩ (fun u_ H locs hp hP hD hS => ?_)
  have hP : va_P D.1 clAll [(ou, .inl (D.2 2, 1, .inr (.inl fo))), (t, .inr (1, [.ref a, .ref c])), (a, .inr (2, [.int (iI ((w : Nat) : Int)), .int (iI ((g : Nat) : Int)), .ref b])), (b, .inr (3, [.ref v, .int (iI ((un (andB P S) : Nat) : Int)), .int (zI false)])), (v, .inl (D.2 2, n, .inr (.inl (wd (andB P S))))), (c, .inr (3, [.ref v3, .int (iI ((un S : Nat) : Int)), .int (zI false)])), (v3, .inl (D.2 2, n2, .inr (.inl (wd S))))] H := hP
  have hD : va_D A [(ou, .inl (D.2 2, 1, .inr (.inl fo))), (t, .inr (1, [.ref a, .ref c])), (a, .inr (2, [.int (iI ((w : Nat) : Int)), .int (iI ((g : Nat) : Int)), .ref b])), (b, .inr (3, [.ref v, .int (iI ((un (andB P S) : Nat) : Int)), .int (zI false)])), (v, .inl (D.2 2, n, .inr (.inl (wd (andB P S))))), (c, .inr (3, [.ref v3, .int (iI ((un S : Nat) : Int)), .int (zI false)])), (v3, .inl (D.2 2, n2, .inr (.inl (wd S))))] := hD
  refine W.eq (g2 := F0 m0 7 ls [.int (iI ((fb_ct (andB P S) 1024 : Nat) : Int)), .int (iI 0), .ref ou]) rfl ?_
  refine W.widen (k := 2) (n := 34) (Nat.le_refl _) (Nat.le_refl _) ?_
  refine lv_i2l kx kb dX0_join_7 rfl ?_
  refine ta_last C hK hP hD hS 0 rfl 0 (by omega) dX0_join_8 (fun H locs hP hD hS => ?_)
  have hP : va_P D.1 clAll [(ou, .inl (D.2 2, 1, .inr (.inl (va_up fo 0 ((iI ((fb_ct (andB P S) 1024 : Nat) : Int)).toInt64))))), (t, .inr (1, [.ref a, .ref c])), (a, .inr (2, [.int (iI ((w : Nat) : Int)), .int (iI ((g : Nat) : Int)), .ref b])), (b, .inr (3, [.ref v, .int (iI ((un (andB P S) : Nat) : Int)), .int (zI false)])), (v, .inl (D.2 2, n, .inr (.inl (wd (andB P S))))), (c, .inr (3, [.ref v3, .int (iI ((un S : Nat) : Int)), .int (zI false)])), (v3, .inl (D.2 2, n2, .inr (.inl (wd S))))] H := hP
  have hD : va_D A [(ou, .inl (D.2 2, 1, .inr (.inl (va_up fo 0 ((iI ((fb_ct (andB P S) 1024 : Nat) : Int)).toInt64))))), (t, .inr (1, [.ref a, .ref c])), (a, .inr (2, [.int (iI ((w : Nat) : Int)), .int (iI ((g : Nat) : Int)), .ref b])), (b, .inr (3, [.ref v, .int (iI ((un (andB P S) : Nat) : Int)), .int (zI false)])), (v, .inl (D.2 2, n, .inr (.inl (wd (andB P S))))), (c, .inr (3, [.ref v3, .int (iI ((un S : Nat) : Int)), .int (zI false)])), (v3, .inl (D.2 2, n2, .inr (.inl (wd S))))] := hD
  refine lv_goto (tgt := 15) kx kb dX0_join_9 (by decide) ?_
  refine lv_iconst (v := iI 0) kx kb dX0_join_15 rfl ?_
  subst hQ
  exact tm_iret C () trivial (hP.sub [1, 2, 3, 4, 5, 6, 0] rfl) (hD.sub [1, 2, 3, 4, 5, 6, 0] (by decide) rfl) hS (show 2 ≤ 2 from by omega) (show 34 ≤ 34 from by omega) rfl rfl dX0_join_16
set_option maxHeartbeats 4000000 in
set_option maxRecDepth 100000 in
theorem met_X0_join_2 (l : Launch) (D : TG) (E : TE) (t : Nat) (a : Nat) (b : Nat) (v : Nat) (n : Nat) (w : Nat) (g : Nat) (P : Nat → Bool) (c : Nat) (v3 : Nat) (n2 : Nat) (S : Nat → Bool) (ou : Nat) (fo : Nat → Int64) (hw : 1 ≤ w ∧ w ≤ 32) (hg : 1 ≤ g ∧ g ≤ 32) (hB : BB P n) (hB2 : BB S n2) (hPz : ∀ j_, w * g ≤ j_ → P j_ = false) (hSz : ∀ j_, w * g ≤ j_ → S j_ = false) : tMetH l yX0_join cX0_join 4 (some .int) [(0, 9, 12, 13)] 6 150 (2) (34) [.ref t, .int (iI 2), .ref ou] D E [(t, .inr (1, [.ref a, .ref c])), (a, .inr (2, [.int (iI ((w : Nat) : Int)), .int (iI ((g : Nat) : Int)), .ref b])), (b, .inr (3, [.ref v, .int (iI ((un P : Nat) : Int)), .int (zI false)])), (v, .inl (D.2 2, n, .inr (.inl (wd P)))), (c, .inr (3, [.ref v3, .int (iI ((un S : Nat) : Int)), .int (zI false)])), (v3, .inl (D.2 2, n2, .inr (.inl (wd S)))), (ou, .inl (D.2 2, 1, .inr (.inl fo)))] tY0 (S := Nat) (fun u_ => True) (fun u_ => some (.int (iI 0))) (fun u_ => [(t, .inr (1, [.ref a, .ref c])), (a, .inr (2, [.int (iI ((w : Nat) : Int)), .int (iI ((g : Nat) : Int)), .ref b])), (b, .inr (3, [.ref u_, .int (iI ((un (xorB P S) : Nat) : Int)), .int (zI false)])), (u_, .inl (D.2 2, gN n (un S), .inr (.inl (wd (xorB P S))))), (c, .inr (3, [.ref v3, .int (iI ((un S : Nat) : Int)), .int (zI false)])), (v3, .inl (D.2 2, n2, .inr (.inl (wd S)))), (ou, .inl (D.2 2, 1, .inr (.inl (va_up fo 0 (iI ((fb_ct (xorB P S) 1024 : Nat) : Int)).toInt64))))]) := by
  refine tu_metH (by decide +kernel) (Nat.le_of_ble_eq_true rfl) ?_
  intro p0 e0 s0 m0 below meth c0 A ls args Q hag hQ C hT hK hX hY hP hD hA hAe hl
  obtain ⟨kx, kb, hml, hown, hts, -⟩ := id C
  have hS : va_S A s0.heap s0.heap [] := va_S.rf
  have hl : lv_has ls 4 [(0, .ref t), (1, .int (iI 2)), (2, .ref ou)] := hl
  have hwg := wg_le hw hg
  have hBn := hB.1
  have hBm := hB.2.1
  have hul := un_le hB
  have hul2 := un_le hB2
  refine lv_aload_n kx kb dX0_join_0 rfl (lv_at hl 2 rfl) ?_
  refine lv_iconst (v := iI 0) kx kb dX0_join_1 rfl ?_
  refine lv_aload_n kx kb dX0_join_2 rfl (lv_at hl 0 rfl) ?_
  refine lv_iload_n kx kb dX0_join_3 rfl (lv_at hl 1 rfl) ?_
  refine t_callV (wr := [(ou, .inl (D.2 2, 1, .inr (.inl fo)))]) C (met_X1_join_2 l D E t a b v n w g P c v3 n2 S (hw) (hg) (hB) (hB2) (hPz) (hSz)) (cwV 1 hts (lw_V q1276 q1277 q1278 q59 q1279) rfl rfl rfl (by decide +kernel) ⟨Nat.le_of_ble_eq_true rfl, Nat.le_of_ble_eq_true rfl⟩) (va_recv hK hP (ci := 1) (q0 := 0) rfl rfl) hK hX hP hD hS hA [0, 1, 2, 3, 4, 5] [6] rfl rfl (by decide) (by decide) (by decide) tYb_0 (fun _ _ _ => trivial) rfl hl.1 rfl (Nat.le_of_ble_eq_true rfl) dX0_join_4 ⟨(show 2 ≤ 2 from by omega), (show 34 ≤ 34 from by omega)⟩ (fun u_ H locs hp hP hD hS => ?_)
  obtain ⟨v2_1, rfl⟩ : ∃ z, z = u_ := ⟨_, rfl⟩
  have hP : va_P D.1 clAll [(ou, .inl (D.2 2, 1, .inr (.inl fo))), (t, .inr (1, [.ref a, .ref c])), (a, .inr (2, [.int (iI ((w : Nat) : Int)), .int (iI ((g : Nat) : Int)), .ref b])), (b, .inr (3, [.ref v2_1, .int (iI ((un (xorB P S) : Nat) : Int)), .int (zI false)])), (v2_1, .inl (D.2 2, gN n (un S), .inr (.inl (wd (xorB P S))))), (c, .inr (3, [.ref v3, .int (iI ((un S : Nat) : Int)), .int (zI false)])), (v3, .inl (D.2 2, n2, .inr (.inl (wd S))))] H := hP
  have hD : va_D A [(ou, .inl (D.2 2, 1, .inr (.inl fo))), (t, .inr (1, [.ref a, .ref c])), (a, .inr (2, [.int (iI ((w : Nat) : Int)), .int (iI ((g : Nat) : Int)), .ref b])), (b, .inr (3, [.ref v2_1, .int (iI ((un (xorB P S) : Nat) : Int)), .int (zI false)])), (v2_1, .inl (D.2 2, gN n (un S), .inr (.inl (wd (xorB P S))))), (c, .inr (3, [.ref v3, .int (iI ((un S : Nat) : Int)), .int (zI false)])), (v3, .inl (D.2 2, n2, .inr (.inl (wd S))))] := hD
  refine W.eq (g2 := F0 m0 7 ls [.int (iI ((fb_ct (xorB P S) 1024 : Nat) : Int)), .int (iI 0), .ref ou]) rfl ?_
  refine W.widen (k := 2) (n := 34) (Nat.le_refl _) (Nat.le_refl _) ?_
  refine lv_i2l kx kb dX0_join_7 rfl ?_
  refine ta_last C hK hP hD hS 0 rfl 0 (by omega) dX0_join_8 (fun H locs hP hD hS => ?_)
  have hP : va_P D.1 clAll [(ou, .inl (D.2 2, 1, .inr (.inl (va_up fo 0 ((iI ((fb_ct (xorB P S) 1024 : Nat) : Int)).toInt64))))), (t, .inr (1, [.ref a, .ref c])), (a, .inr (2, [.int (iI ((w : Nat) : Int)), .int (iI ((g : Nat) : Int)), .ref b])), (b, .inr (3, [.ref v2_1, .int (iI ((un (xorB P S) : Nat) : Int)), .int (zI false)])), (v2_1, .inl (D.2 2, gN n (un S), .inr (.inl (wd (xorB P S))))), (c, .inr (3, [.ref v3, .int (iI ((un S : Nat) : Int)), .int (zI false)])), (v3, .inl (D.2 2, n2, .inr (.inl (wd S))))] H := hP
  have hD : va_D A [(ou, .inl (D.2 2, 1, .inr (.inl (va_up fo 0 ((iI ((fb_ct (xorB P S) 1024 : Nat) : Int)).toInt64))))), (t, .inr (1, [.ref a, .ref c])), (a, .inr (2, [.int (iI ((w : Nat) : Int)), .int (iI ((g : Nat) : Int)), .ref b])), (b, .inr (3, [.ref v2_1, .int (iI ((un (xorB P S) : Nat) : Int)), .int (zI false)])), (v2_1, .inl (D.2 2, gN n (un S), .inr (.inl (wd (xorB P S))))), (c, .inr (3, [.ref v3, .int (iI ((un S : Nat) : Int)), .int (zI false)])), (v3, .inl (D.2 2, n2, .inr (.inl (wd S))))] := hD
  refine lv_goto (tgt := 15) kx kb dX0_join_9 (by decide) ?_
  refine lv_iconst (v := iI 0) kx kb dX0_join_15 rfl ?_
  subst hQ
  exact tm_iret C v2_1 trivial (hP.sub [1, 2, 3, 4, 5, 6, 0] rfl) (hD.sub [1, 2, 3, 4, 5, 6, 0] (by decide) rfl) hS (show 2 ≤ 2 from by omega) (show 34 ≤ 34 from by omega) rfl rfl dX0_join_16
set_option maxHeartbeats 4000000 in
set_option maxRecDepth 100000 in
theorem met_X0_join_3 (l : Launch) (D : TG) (E : TE) (t : Nat) (a : Nat) (b : Nat) (v : Nat) (n : Nat) (w : Nat) (g : Nat) (P : Nat → Bool) (c : Nat) (v3 : Nat) (n2 : Nat) (S : Nat → Bool) (ou : Nat) (fo : Nat → Int64) (hw : 1 ≤ w ∧ w ≤ 32) (hg : 1 ≤ g ∧ g ≤ 32) (hB : BB P n) (hB2 : BB S n2) (hPz : ∀ j_, w * g ≤ j_ → P j_ = false) (hSz : ∀ j_, w * g ≤ j_ → S j_ = false) : tMetH l yX0_join cX0_join 4 (some .int) [(0, 9, 12, 13)] 4 105 (2) (34) [.ref t, .int (iI 3), .ref ou] D E [(t, .inr (1, [.ref a, .ref c])), (a, .inr (2, [.int (iI ((w : Nat) : Int)), .int (iI ((g : Nat) : Int)), .ref b])), (b, .inr (3, [.ref v, .int (iI ((un P : Nat) : Int)), .int (zI false)])), (v, .inl (D.2 2, n, .inr (.inl (wd P)))), (c, .inr (3, [.ref v3, .int (iI ((un S : Nat) : Int)), .int (zI false)])), (v3, .inl (D.2 2, n2, .inr (.inl (wd S)))), (ou, .inl (D.2 2, 1, .inr (.inl fo)))] tY0 (S := Unit) (fun u_ => True) (fun u_ => some (.int (iI 0))) (fun u_ => [(t, .inr (1, [.ref a, .ref c])), (a, .inr (2, [.int (iI ((w : Nat) : Int)), .int (iI ((g : Nat) : Int)), .ref b])), (b, .inr (3, [.ref v, .int (iI ((un (anB P S) : Nat) : Int)), .int (zI false)])), (v, .inl (D.2 2, n, .inr (.inl (wd (anB P S))))), (c, .inr (3, [.ref v3, .int (iI ((un S : Nat) : Int)), .int (zI false)])), (v3, .inl (D.2 2, n2, .inr (.inl (wd S)))), (ou, .inl (D.2 2, 1, .inr (.inl (va_up fo 0 (iI ((fb_ct (anB P S) 1024 : Nat) : Int)).toInt64))))]) := by
  refine tu_metH (by decide +kernel) (Nat.le_of_ble_eq_true rfl) ?_
  intro p0 e0 s0 m0 below meth c0 A ls args Q hag hQ C hT hK hX hY hP hD hA hAe hl
  obtain ⟨kx, kb, hml, hown, hts, -⟩ := id C
  have hS : va_S A s0.heap s0.heap [] := va_S.rf
  have hl : lv_has ls 4 [(0, .ref t), (1, .int (iI 3)), (2, .ref ou)] := hl
  have hwg := wg_le hw hg
  have hBn := hB.1
  have hBm := hB.2.1
  have hul := un_le hB
  have hul2 := un_le hB2
  refine lv_aload_n kx kb dX0_join_0 rfl (lv_at hl 2 rfl) ?_
  refine lv_iconst (v := iI 0) kx kb dX0_join_1 rfl ?_
  refine lv_aload_n kx kb dX0_join_2 rfl (lv_at hl 0 rfl) ?_
  refine lv_iload_n kx kb dX0_join_3 rfl (lv_at hl 1 rfl) ?_
  refine t_callV (wr := [(ou, .inl (D.2 2, 1, .inr (.inl fo)))]) C (met_X1_join_3 l D E t a b v n w g P c v3 n2 S (hw) (hg) (hB) (hB2) (hPz) (hSz)) (cwV 1 hts (lw_V q1276 q1277 q1278 q59 q1279) rfl rfl rfl (by decide +kernel) ⟨Nat.le_of_ble_eq_true rfl, Nat.le_of_ble_eq_true rfl⟩) (va_recv hK hP (ci := 1) (q0 := 0) rfl rfl) hK hX hP hD hS hA [0, 1, 2, 3, 4, 5] [6] rfl rfl (by decide) (by decide) (by decide) tYb_0 (fun _ _ _ => trivial) rfl hl.1 rfl (Nat.le_of_ble_eq_true rfl) dX0_join_4 ⟨(show 2 ≤ 2 from by omega), (show 34 ≤ 34 from by omega)⟩ (fun u_ H locs hp hP hD hS => ?_)
  have hP : va_P D.1 clAll [(ou, .inl (D.2 2, 1, .inr (.inl fo))), (t, .inr (1, [.ref a, .ref c])), (a, .inr (2, [.int (iI ((w : Nat) : Int)), .int (iI ((g : Nat) : Int)), .ref b])), (b, .inr (3, [.ref v, .int (iI ((un (anB P S) : Nat) : Int)), .int (zI false)])), (v, .inl (D.2 2, n, .inr (.inl (wd (anB P S))))), (c, .inr (3, [.ref v3, .int (iI ((un S : Nat) : Int)), .int (zI false)])), (v3, .inl (D.2 2, n2, .inr (.inl (wd S))))] H := hP
  have hD : va_D A [(ou, .inl (D.2 2, 1, .inr (.inl fo))), (t, .inr (1, [.ref a, .ref c])), (a, .inr (2, [.int (iI ((w : Nat) : Int)), .int (iI ((g : Nat) : Int)), .ref b])), (b, .inr (3, [.ref v, .int (iI ((un (anB P S) : Nat) : Int)), .int (zI false)])), (v, .inl (D.2 2, n, .inr (.inl (wd (anB P S))))), (c, .inr (3, [.ref v3, .int (iI ((un S : Nat) : Int)), .int (zI false)])), (v3, .inl (D.2 2, n2, .inr (.inl (wd S))))] := hD
  refine W.eq (g2 := F0 m0 7 ls [.int (iI ((fb_ct (anB P S) 1024 : Nat) : Int)), .int (iI 0), .ref ou]) rfl ?_
  refine W.widen (k := 2) (n := 34) (Nat.le_refl _) (Nat.le_refl _) ?_
  refine lv_i2l kx kb dX0_join_7 rfl ?_
  refine ta_last C hK hP hD hS 0 rfl 0 (by omega) dX0_join_8 (fun H locs hP hD hS => ?_)
  have hP : va_P D.1 clAll [(ou, .inl (D.2 2, 1, .inr (.inl (va_up fo 0 ((iI ((fb_ct (anB P S) 1024 : Nat) : Int)).toInt64))))), (t, .inr (1, [.ref a, .ref c])), (a, .inr (2, [.int (iI ((w : Nat) : Int)), .int (iI ((g : Nat) : Int)), .ref b])), (b, .inr (3, [.ref v, .int (iI ((un (anB P S) : Nat) : Int)), .int (zI false)])), (v, .inl (D.2 2, n, .inr (.inl (wd (anB P S))))), (c, .inr (3, [.ref v3, .int (iI ((un S : Nat) : Int)), .int (zI false)])), (v3, .inl (D.2 2, n2, .inr (.inl (wd S))))] H := hP
  have hD : va_D A [(ou, .inl (D.2 2, 1, .inr (.inl (va_up fo 0 ((iI ((fb_ct (anB P S) 1024 : Nat) : Int)).toInt64))))), (t, .inr (1, [.ref a, .ref c])), (a, .inr (2, [.int (iI ((w : Nat) : Int)), .int (iI ((g : Nat) : Int)), .ref b])), (b, .inr (3, [.ref v, .int (iI ((un (anB P S) : Nat) : Int)), .int (zI false)])), (v, .inl (D.2 2, n, .inr (.inl (wd (anB P S))))), (c, .inr (3, [.ref v3, .int (iI ((un S : Nat) : Int)), .int (zI false)])), (v3, .inl (D.2 2, n2, .inr (.inl (wd S))))] := hD
  refine lv_goto (tgt := 15) kx kb dX0_join_9 (by decide) ?_
  refine lv_iconst (v := iI 0) kx kb dX0_join_15 rfl ?_
  subst hQ
  exact tm_iret C () trivial (hP.sub [1, 2, 3, 4, 5, 6, 0] rfl) (hD.sub [1, 2, 3, 4, 5, 6, 0] (by decide) rfl) hS (show 2 ≤ 2 from by omega) (show 34 ≤ 34 from by omega) rfl rfl dX0_join_16
set_option maxHeartbeats 4000000 in
set_option maxRecDepth 100000 in
theorem met_X0_join_no (l : Launch) (hfl : l.stackTraces = false) (D : TG) (E : TE) (t : Nat) (a : Nat) (b : Nat) (v : Nat) (n : Nat) (w : Nat) (g : Nat) (P : Nat → Bool) (c : Nat) (v3 : Nat) (n2 : Nat) (S : Nat → Bool) (y : Int) (ou : Nat) (fo : Nat → Int64) (hw : 1 ≤ w ∧ w ≤ 32) (hg : 1 ≤ g ∧ g ≤ 32) (hB : BB P n) (hB2 : BB S n2) (hPz : ∀ j_, w * g ≤ j_ → P j_ = false) (hSz : ∀ j_, w * g ≤ j_ → S j_ = false) (ry : -2147483648 ≤ y ∧ y < 2147483648) (hv : ¬ (0 ≤ y ∧ y ≤ 3)) : tMetH l yX0_join cX0_join 4 (some .int) [(0, 9, 12, 13)] 10 161 (1) (6) [.ref t, .int (iI y), .ref ou] D E [(t, .inr (1, [.ref a, .ref c])), (a, .inr (2, [.int (iI ((w : Nat) : Int)), .int (iI ((g : Nat) : Int)), .ref b])), (b, .inr (3, [.ref v, .int (iI ((un P : Nat) : Int)), .int (zI false)])), (v, .inl (D.2 2, n, .inr (.inl (wd P)))), (c, .inr (3, [.ref v3, .int (iI ((un S : Nat) : Int)), .int (zI false)])), (v3, .inl (D.2 2, n2, .inr (.inl (wd S)))), (ou, .inl (D.2 2, 1, .inr (.inl fo)))] tY0 (S := Unit) (fun u_ => True) (fun u_ => some (.int (iI 1))) (fun u_ => [(t, .inr (1, [.ref a, .ref c])), (a, .inr (2, [.int (iI ((w : Nat) : Int)), .int (iI ((g : Nat) : Int)), .ref b])), (b, .inr (3, [.ref v, .int (iI ((un P : Nat) : Int)), .int (zI false)])), (v, .inl (D.2 2, n, .inr (.inl (wd P)))), (c, .inr (3, [.ref v3, .int (iI ((un S : Nat) : Int)), .int (zI false)])), (v3, .inl (D.2 2, n2, .inr (.inl (wd S)))), (ou, .inl (D.2 2, 1, .inr (.inl fo)))]) := by
  refine tu_metH (by decide +kernel) (Nat.le_of_ble_eq_true rfl) ?_
  intro p0 e0 s0 m0 below meth c0 A ls args Q hag hQ C hT hK hX hY hP hD hA hAe hl
  obtain ⟨kx, kb, hml, hown, hts, -⟩ := id C
  have hS : va_S A s0.heap s0.heap [] := va_S.rf
  have hl : lv_has ls 4 [(0, .ref t), (1, .int (iI y)), (2, .ref ou)] := hl
  have hwg := wg_le hw hg
  have hBn := hB.1
  have hBm := hB.2.1
  have hul := un_le hB
  have hul2 := un_le hB2
  refine lv_aload_n kx kb dX0_join_0 rfl (lv_at hl 2 rfl) ?_
  refine lv_iconst (v := iI 0) kx kb dX0_join_1 rfl ?_
  refine lv_aload_n kx kb dX0_join_2 rfl (lv_at hl 0 rfl) ?_
  refine lv_iload_n kx kb dX0_join_3 rfl (lv_at hl 1 rfl) ?_
  refine u_tryV (wr := [(ou, .inl (D.2 2, 1, .inr (.inl fo)))]) (nm := "java/lang/IllegalArgumentException") C [] (⟨0, 9, 12, 13⟩ : ExceptionTableEntry) [] hT (fun _ h_ => nomatch h_) (by decide) (by decide) (hts _ q1182) (va_Nw.use rfl (hX.1 _ q432 rfl)) (met_X1_join_no l hfl D E t a b v n w g P c v3 n2 S y (hw) (hg) (hB) (hB2) (hPz) (hSz) (ry) (hv)) (cwV 1 hts (lw_V q1276 q1277 q1278 q59 q1279) rfl rfl rfl (by decide +kernel) ⟨Nat.le_of_ble_eq_true rfl, Nat.le_of_ble_eq_true rfl⟩) (va_recv hK hP (ci := 1) (q0 := 0) rfl rfl) hK hX hP hD hS hA [0, 1, 2, 3, 4, 5] [6] rfl rfl (by decide) (by decide) (by decide) rfl hl.1 rfl (Nat.le_of_ble_eq_true rfl) dX0_join_4 ⟨(show 1 ≤ 1 from by omega), (show 6 ≤ 6 from by omega)⟩ (fun q9 H locs hP hD hS => ?_)
  have hP : va_P D.1 clAll [(ou, .inl (D.2 2, 1, .inr (.inl fo))), (t, .inr (1, [.ref a, .ref c])), (a, .inr (2, [.int (iI ((w : Nat) : Int)), .int (iI ((g : Nat) : Int)), .ref b])), (b, .inr (3, [.ref v, .int (iI ((un P : Nat) : Int)), .int (zI false)])), (v, .inl (D.2 2, n, .inr (.inl (wd P)))), (c, .inr (3, [.ref v3, .int (iI ((un S : Nat) : Int)), .int (zI false)])), (v3, .inl (D.2 2, n2, .inr (.inl (wd S))))] H := hP
  have hD : va_D A [(ou, .inl (D.2 2, 1, .inr (.inl fo))), (t, .inr (1, [.ref a, .ref c])), (a, .inr (2, [.int (iI ((w : Nat) : Int)), .int (iI ((g : Nat) : Int)), .ref b])), (b, .inr (3, [.ref v, .int (iI ((un P : Nat) : Int)), .int (zI false)])), (v, .inl (D.2 2, n, .inr (.inl (wd P)))), (c, .inr (3, [.ref v3, .int (iI ((un S : Nat) : Int)), .int (zI false)])), (v3, .inl (D.2 2, n2, .inr (.inl (wd S))))] := hD
  refine W.eq (g2 := F0 m0 12 ls [.ref q9]) rfl ?_
  refine W.widen (k := 1) (n := 6) (Nat.le_refl _) (Nat.le_refl _) ?_
  refine lv_astore_n (lv' := [(3, .ref q9), (0, .ref t), (1, .int (iI y)), (2, .ref ou)]) kx kb dX0_join_12 rfl hl (by decide) rfl (fun ls hl => ?_)
  refine lv_iconst (v := iI 1) kx kb dX0_join_13 rfl ?_
  subst hQ
  exact tm_iret C () trivial (hP.sub [1, 2, 3, 4, 5, 6, 0] rfl) (hD.sub [1, 2, 3, 4, 5, 6, 0] (by decide) rfl) hS (show 1 ≤ 1 from by omega) (show 6 ≤ 6 from by omega) rfl rfl dX0_join_14
set_option maxHeartbeats 4000000 in
set_option maxRecDepth 100000 in
theorem met_X0_at_ok (l : Launch) (D : TG) (E : TE) (t : Nat) (a : Nat) (b : Nat) (v : Nat) (n : Nat) (w : Nat) (g : Nat) (P : Nat → Bool) (c : Nat) (v3 : Nat) (n2 : Nat) (S : Nat → Bool) (x : Int) (y : Int) (ou : Nat) (fo : Nat → Int64) (hw : 1 ≤ w ∧ w ≤ 32) (hg : 1 ≤ g ∧ g ≤ 32) (hB : BB P n) (hB2 : BB S n2) (hPz : ∀ j_, w * g ≤ j_ → P j_ = false) (hSz : ∀ j_, w * g ≤ j_ → S j_ = false) (hv : 0 ≤ x ∧ x < w ∧ 0 ≤ y ∧ y < g) : tMetH l yX0_at cX0_at 5 (some .int) [(0, 17, 20, 19)] 4 88 (0) (0) [.ref t, .int (iI x), .int (iI y), .ref ou] D E [(t, .inr (1, [.ref a, .ref c])), (a, .inr (2, [.int (iI ((w : Nat) : Int)), .int (iI ((g : Nat) : Int)), .ref b])), (b, .inr (3, [.ref v, .int (iI ((un P : Nat) : Int)), .int (zI false)])), (v, .inl (D.2 2, n, .inr (.inl (wd P)))), (c, .inr (3, [.ref v3, .int (iI ((un S : Nat) : Int)), .int (zI false)])), (v3, .inl (D.2 2, n2, .inr (.inl (wd S)))), (ou, .inl (D.2 2, 1, .inr (.inl fo)))] tY0 (S := Unit) (fun u_ => True) (fun u_ => some (.int (iI 0))) (fun u_ => [(t, .inr (1, [.ref a, .ref c])), (a, .inr (2, [.int (iI ((w : Nat) : Int)), .int (iI ((g : Nat) : Int)), .ref b])), (b, .inr (3, [.ref v, .int (iI ((un P : Nat) : Int)), .int (zI false)])), (v, .inl (D.2 2, n, .inr (.inl (wd P)))), (c, .inr (3, [.ref v3, .int (iI ((un S : Nat) : Int)), .int (zI false)])), (v3, .inl (D.2 2, n2, .inr (.inl (wd S)))), (ou, .inl (D.2 2, 1, .inr (.inl (va_up fo 0 (if P (cel w x y) then 1 else 0 : Int64)))))]) := by
  refine tu_metH (by decide +kernel) (Nat.le_of_ble_eq_true rfl) ?_
  intro p0 e0 s0 m0 below meth c0 A ls args Q hag hQ C hT hK hX hY hP hD hA hAe hl
  obtain ⟨kx, kb, hml, hown, hts, -⟩ := id C
  have hS : va_S A s0.heap s0.heap [] := va_S.rf
  have hl : lv_has ls 5 [(0, .ref t), (1, .int (iI x)), (2, .int (iI y)), (3, .ref ou)] := hl
  have hwg := wg_le hw hg
  have hBn := hB.1
  have hBm := hB.2.1
  have hul := un_le hB
  have hul2 := un_le hB2
  have hq := cel_int hv
  refine lv_aload_n kx kb dX0_at_0 rfl (lv_at hl 3 rfl) ?_
  refine lv_iconst (v := iI 0) kx kb dX0_at_1 rfl ?_
  refine lv_aload_n kx kb dX0_at_2 rfl (lv_at hl 0 rfl) ?_
  refine lv_iload_n kx kb dX0_at_3 rfl (lv_at hl 1 rfl) ?_
  refine lv_iload_n kx kb dX0_at_4 rfl (lv_at hl 2 rfl) ?_
  refine t_callRV C (met_X1_at_ok l D E t a b v n w g P c v3 n2 S x y (hw) (hg) (hB) (hB2) (hPz) (hSz) (hv)) (cwV 2 hts (lw_V q1316 q1317 q1318 q59 q1319) rfl rfl rfl (by decide +kernel) ⟨Nat.le_of_ble_eq_true rfl, Nat.le_of_ble_eq_true rfl⟩) (va_recv hK hP (ci := 1) (q0 := 0) rfl rfl) hK hX hP hD hS hA [0, 1, 2, 3, 4, 5] rfl (by decide) tYb_0 (fun _ _ _ => trivial) rfl hl.1 rfl (Nat.le_of_ble_eq_true rfl) dX0_at_5 ⟨(show 0 ≤ 0 from by omega), (show 0 ≤ 0 from by omega)⟩ ?_
  refine W.eq (g2 := F0 m0 8 ls [.int (zI (P (cel w x y))), .int (iI 0), .ref ou]) rfl ?_
  refine tz_if_eq (tgt := 15) kx kb dX0_at_8 (by decide) (fun h8 => ?_) (fun h8 => ?_)
  · refine lv_lconst (v := 0) kx kb dX0_at_15 rfl ?_
    refine ta_last C hK hP hD hS 6 rfl 0 (by omega) dX0_at_16 (fun H locs hP hD hS => ?_)
    have hP : va_P D.1 clAll [(t, .inr (1, [.ref a, .ref c])), (a, .inr (2, [.int (iI ((w : Nat) : Int)), .int (iI ((g : Nat) : Int)), .ref b])), (b, .inr (3, [.ref v, .int (iI ((un P : Nat) : Int)), .int (zI false)])), (v, .inl (D.2 2, n, .inr (.inl (wd P)))), (c, .inr (3, [.ref v3, .int (iI ((un S : Nat) : Int)), .int (zI false)])), (v3, .inl (D.2 2, n2, .inr (.inl (wd S)))), (ou, .inl (D.2 2, 1, .inr (.inl (va_up fo 0 (0 : Int64)))))] H := hP
    have hD : va_D A [(t, .inr (1, [.ref a, .ref c])), (a, .inr (2, [.int (iI ((w : Nat) : Int)), .int (iI ((g : Nat) : Int)), .ref b])), (b, .inr (3, [.ref v, .int (iI ((un P : Nat) : Int)), .int (zI false)])), (v, .inl (D.2 2, n, .inr (.inl (wd P)))), (c, .inr (3, [.ref v3, .int (iI ((un S : Nat) : Int)), .int (zI false)])), (v3, .inl (D.2 2, n2, .inr (.inl (wd S)))), (ou, .inl (D.2 2, 1, .inr (.inl (va_up fo 0 (0 : Int64)))))] := hD
    refine lv_goto (tgt := 24) kx kb dX0_at_17 (by decide) ?_
    have hP : va_P D.1 clAll [(t, .inr (1, [.ref a, .ref c])), (a, .inr (2, [.int (iI ((w : Nat) : Int)), .int (iI ((g : Nat) : Int)), .ref b])), (b, .inr (3, [.ref v, .int (iI ((un P : Nat) : Int)), .int (zI false)])), (v, .inl (D.2 2, n, .inr (.inl (wd P)))), (c, .inr (3, [.ref v3, .int (iI ((un S : Nat) : Int)), .int (zI false)])), (v3, .inl (D.2 2, n2, .inr (.inl (wd S)))), (ou, .inl (D.2 2, 1, .inr (.inl (va_up fo 0 (if P (cel w x y) then 1 else 0 : Int64)))))] H := by rw [show (if P (cel w x y) then 1 else 0 : Int64) = 0 from by rw [h8]; rfl]; exact hP
    have hD : va_D A [(t, .inr (1, [.ref a, .ref c])), (a, .inr (2, [.int (iI ((w : Nat) : Int)), .int (iI ((g : Nat) : Int)), .ref b])), (b, .inr (3, [.ref v, .int (iI ((un P : Nat) : Int)), .int (zI false)])), (v, .inl (D.2 2, n, .inr (.inl (wd P)))), (c, .inr (3, [.ref v3, .int (iI ((un S : Nat) : Int)), .int (zI false)])), (v3, .inl (D.2 2, n2, .inr (.inl (wd S)))), (ou, .inl (D.2 2, 1, .inr (.inl (va_up fo 0 (if P (cel w x y) then 1 else 0 : Int64)))))] := by rw [show (if P (cel w x y) then 1 else 0 : Int64) = 0 from by rw [h8]; rfl]; exact hD
    refine lv_iconst (v := iI 0) kx kb dX0_at_24 rfl ?_
    subst hQ
    exact tm_iret C () trivial hP hD hS (show 0 ≤ 0 from by omega) (show 0 ≤ 0 from by omega) rfl rfl dX0_at_25
  · refine lv_lconst (v := 1) kx kb dX0_at_11 rfl ?_
    refine lv_goto (tgt := 16) kx kb dX0_at_12 (by decide) ?_
    refine ta_last C hK hP hD hS 6 rfl 0 (by omega) dX0_at_16 (fun H locs hP hD hS => ?_)
    have hP : va_P D.1 clAll [(t, .inr (1, [.ref a, .ref c])), (a, .inr (2, [.int (iI ((w : Nat) : Int)), .int (iI ((g : Nat) : Int)), .ref b])), (b, .inr (3, [.ref v, .int (iI ((un P : Nat) : Int)), .int (zI false)])), (v, .inl (D.2 2, n, .inr (.inl (wd P)))), (c, .inr (3, [.ref v3, .int (iI ((un S : Nat) : Int)), .int (zI false)])), (v3, .inl (D.2 2, n2, .inr (.inl (wd S)))), (ou, .inl (D.2 2, 1, .inr (.inl (va_up fo 0 (1 : Int64)))))] H := hP
    have hD : va_D A [(t, .inr (1, [.ref a, .ref c])), (a, .inr (2, [.int (iI ((w : Nat) : Int)), .int (iI ((g : Nat) : Int)), .ref b])), (b, .inr (3, [.ref v, .int (iI ((un P : Nat) : Int)), .int (zI false)])), (v, .inl (D.2 2, n, .inr (.inl (wd P)))), (c, .inr (3, [.ref v3, .int (iI ((un S : Nat) : Int)), .int (zI false)])), (v3, .inl (D.2 2, n2, .inr (.inl (wd S)))), (ou, .inl (D.2 2, 1, .inr (.inl (va_up fo 0 (1 : Int64)))))] := hD
    refine lv_goto (tgt := 24) kx kb dX0_at_17 (by decide) ?_
    have hP : va_P D.1 clAll [(t, .inr (1, [.ref a, .ref c])), (a, .inr (2, [.int (iI ((w : Nat) : Int)), .int (iI ((g : Nat) : Int)), .ref b])), (b, .inr (3, [.ref v, .int (iI ((un P : Nat) : Int)), .int (zI false)])), (v, .inl (D.2 2, n, .inr (.inl (wd P)))), (c, .inr (3, [.ref v3, .int (iI ((un S : Nat) : Int)), .int (zI false)])), (v3, .inl (D.2 2, n2, .inr (.inl (wd S)))), (ou, .inl (D.2 2, 1, .inr (.inl (va_up fo 0 (if P (cel w x y) then 1 else 0 : Int64)))))] H := by rw [show (if P (cel w x y) then 1 else 0 : Int64) = 1 from by rw [h8]; rfl]; exact hP
    have hD : va_D A [(t, .inr (1, [.ref a, .ref c])), (a, .inr (2, [.int (iI ((w : Nat) : Int)), .int (iI ((g : Nat) : Int)), .ref b])), (b, .inr (3, [.ref v, .int (iI ((un P : Nat) : Int)), .int (zI false)])), (v, .inl (D.2 2, n, .inr (.inl (wd P)))), (c, .inr (3, [.ref v3, .int (iI ((un S : Nat) : Int)), .int (zI false)])), (v3, .inl (D.2 2, n2, .inr (.inl (wd S)))), (ou, .inl (D.2 2, 1, .inr (.inl (va_up fo 0 (if P (cel w x y) then 1 else 0 : Int64)))))] := by rw [show (if P (cel w x y) then 1 else 0 : Int64) = 1 from by rw [h8]; rfl]; exact hD
    refine lv_iconst (v := iI 0) kx kb dX0_at_24 rfl ?_
    subst hQ
    exact tm_iret C () trivial hP hD hS (show 0 ≤ 0 from by omega) (show 0 ≤ 0 from by omega) rfl rfl dX0_at_25
set_option maxHeartbeats 4000000 in
set_option maxRecDepth 100000 in
theorem met_X0_at_no (l : Launch) (hfl : l.stackTraces = false) (D : TG) (E : TE) (t : Nat) (a : Nat) (b : Nat) (v : Nat) (n : Nat) (w : Nat) (g : Nat) (P : Nat → Bool) (c : Nat) (v3 : Nat) (n2 : Nat) (S : Nat → Bool) (x : Int) (y : Int) (ou : Nat) (fo : Nat → Int64) (hw : 1 ≤ w ∧ w ≤ 32) (hg : 1 ≤ g ∧ g ≤ 32) (hB : BB P n) (hB2 : BB S n2) (hPz : ∀ j_, w * g ≤ j_ → P j_ = false) (hSz : ∀ j_, w * g ≤ j_ → S j_ = false) (rx : -2147483648 ≤ x ∧ x < 2147483648) (ry : -2147483648 ≤ y ∧ y < 2147483648) (hv : ¬ (0 ≤ x ∧ x < w ∧ 0 ≤ y ∧ y < g)) : tMetH l yX0_at cX0_at 5 (some .int) [(0, 17, 20, 19)] 11 184 (1) (6) [.ref t, .int (iI x), .int (iI y), .ref ou] D E [(t, .inr (1, [.ref a, .ref c])), (a, .inr (2, [.int (iI ((w : Nat) : Int)), .int (iI ((g : Nat) : Int)), .ref b])), (b, .inr (3, [.ref v, .int (iI ((un P : Nat) : Int)), .int (zI false)])), (v, .inl (D.2 2, n, .inr (.inl (wd P)))), (c, .inr (3, [.ref v3, .int (iI ((un S : Nat) : Int)), .int (zI false)])), (v3, .inl (D.2 2, n2, .inr (.inl (wd S)))), (ou, .inl (D.2 2, 1, .inr (.inl fo)))] tY0 (S := Unit) (fun u_ => True) (fun u_ => some (.int (iI 1))) (fun u_ => [(t, .inr (1, [.ref a, .ref c])), (a, .inr (2, [.int (iI ((w : Nat) : Int)), .int (iI ((g : Nat) : Int)), .ref b])), (b, .inr (3, [.ref v, .int (iI ((un P : Nat) : Int)), .int (zI false)])), (v, .inl (D.2 2, n, .inr (.inl (wd P)))), (c, .inr (3, [.ref v3, .int (iI ((un S : Nat) : Int)), .int (zI false)])), (v3, .inl (D.2 2, n2, .inr (.inl (wd S)))), (ou, .inl (D.2 2, 1, .inr (.inl fo)))]) := by
  refine tu_metH (by decide +kernel) (Nat.le_of_ble_eq_true rfl) ?_
  intro p0 e0 s0 m0 below meth c0 A ls args Q hag hQ C hT hK hX hY hP hD hA hAe hl
  obtain ⟨kx, kb, hml, hown, hts, -⟩ := id C
  have hS : va_S A s0.heap s0.heap [] := va_S.rf
  have hl : lv_has ls 5 [(0, .ref t), (1, .int (iI x)), (2, .int (iI y)), (3, .ref ou)] := hl
  have hwg := wg_le hw hg
  have hBn := hB.1
  have hBm := hB.2.1
  have hul := un_le hB
  have hul2 := un_le hB2
  refine lv_aload_n kx kb dX0_at_0 rfl (lv_at hl 3 rfl) ?_
  refine lv_iconst (v := iI 0) kx kb dX0_at_1 rfl ?_
  refine lv_aload_n kx kb dX0_at_2 rfl (lv_at hl 0 rfl) ?_
  refine lv_iload_n kx kb dX0_at_3 rfl (lv_at hl 1 rfl) ?_
  refine lv_iload_n kx kb dX0_at_4 rfl (lv_at hl 2 rfl) ?_
  refine u_tryV (wr := [(ou, .inl (D.2 2, 1, .inr (.inl fo)))]) (nm := "java/lang/IndexOutOfBoundsException") C [] (⟨0, 17, 20, 19⟩ : ExceptionTableEntry) [] hT (fun _ h_ => nomatch h_) (by decide) (by decide) (hts _ q1198) (va_Nw.use rfl (hX.1 _ q176 rfl)) (met_X1_at_no l hfl D E t a b v n w g P c v3 n2 S x y (hw) (hg) (hB) (hB2) (hPz) (hSz) (rx) (ry) (hv)) (cwV 2 hts (lw_V q1316 q1317 q1318 q59 q1319) rfl rfl rfl (by decide +kernel) ⟨Nat.le_of_ble_eq_true rfl, Nat.le_of_ble_eq_true rfl⟩) (va_recv hK hP (ci := 1) (q0 := 0) rfl rfl) hK hX hP hD hS hA [0, 1, 2, 3, 4, 5] [6] rfl rfl (by decide) (by decide) (by decide) rfl hl.1 rfl (Nat.le_of_ble_eq_true rfl) dX0_at_5 ⟨(show 1 ≤ 1 from by omega), (show 6 ≤ 6 from by omega)⟩ (fun q9 H locs hP hD hS => ?_)
  have hP : va_P D.1 clAll [(ou, .inl (D.2 2, 1, .inr (.inl fo))), (t, .inr (1, [.ref a, .ref c])), (a, .inr (2, [.int (iI ((w : Nat) : Int)), .int (iI ((g : Nat) : Int)), .ref b])), (b, .inr (3, [.ref v, .int (iI ((un P : Nat) : Int)), .int (zI false)])), (v, .inl (D.2 2, n, .inr (.inl (wd P)))), (c, .inr (3, [.ref v3, .int (iI ((un S : Nat) : Int)), .int (zI false)])), (v3, .inl (D.2 2, n2, .inr (.inl (wd S))))] H := hP
  have hD : va_D A [(ou, .inl (D.2 2, 1, .inr (.inl fo))), (t, .inr (1, [.ref a, .ref c])), (a, .inr (2, [.int (iI ((w : Nat) : Int)), .int (iI ((g : Nat) : Int)), .ref b])), (b, .inr (3, [.ref v, .int (iI ((un P : Nat) : Int)), .int (zI false)])), (v, .inl (D.2 2, n, .inr (.inl (wd P)))), (c, .inr (3, [.ref v3, .int (iI ((un S : Nat) : Int)), .int (zI false)])), (v3, .inl (D.2 2, n2, .inr (.inl (wd S))))] := hD
  refine W.eq (g2 := F0 m0 20 ls [.ref q9]) rfl ?_
  refine W.widen (k := 1) (n := 6) (Nat.le_refl _) (Nat.le_refl _) ?_
  refine lv_astore (lv' := [(4, .ref q9), (0, .ref t), (1, .int (iI x)), (2, .int (iI y)), (3, .ref ou)]) kx kb dX0_at_20 hl (by decide) rfl (fun ls hl => ?_)
  refine lv_iconst (v := iI 1) kx kb dX0_at_22 rfl ?_
  subst hQ
  exact tm_iret C () trivial (hP.sub [1, 2, 3, 4, 5, 6, 0] rfl) (hD.sub [1, 2, 3, 4, 5, 6, 0] (by decide) rfl) hS (show 1 ≤ 1 from by omega) (show 6 ≤ 6 from by omega) rfl rfl dX0_at_23
set_option maxHeartbeats 4000000 in
set_option maxRecDepth 100000 in
theorem met_X0_depthAt_ok (l : Launch) (D : TG) (E : TE) (t : Nat) (a : Nat) (b : Nat) (v : Nat) (n : Nat) (w : Nat) (g : Nat) (P : Nat → Bool) (c : Nat) (v3 : Nat) (n2 : Nat) (S : Nat → Bool) (x : Int) (y : Int) (ch : Bool) (ou : Nat) (fo : Nat → Int64) (hw : 1 ≤ w ∧ w ≤ 32) (hg : 1 ≤ g ∧ g ≤ 32) (hB : BB P n) (hB2 : BB S n2) (hPz : ∀ j_, w * g ≤ j_ → P j_ = false) (hSz : ∀ j_, w * g ≤ j_ → S j_ = false) (hv : 0 ≤ x ∧ x < w ∧ 0 ≤ y ∧ y < g) : tMetH l yX0_depthAt cX0_depthAt 6 (some .int) [(0, 12, 15, 19)] 5 114 (35) (1190) [.ref t, .int (iI x), .int (iI y), .int (zI ch), .ref ou] D E [(t, .inr (1, [.ref a, .ref c])), (a, .inr (2, [.int (iI ((w : Nat) : Int)), .int (iI ((g : Nat) : Int)), .ref b])), (b, .inr (3, [.ref v, .int (iI ((un P : Nat) : Int)), .int (zI false)])), (v, .inl (D.2 2, n, .inr (.inl (wd P)))), (c, .inr (3, [.ref v3, .int (iI ((un S : Nat) : Int)), .int (zI false)])), (v3, .inl (D.2 2, n2, .inr (.inl (wd S)))), (ou, .inl (D.2 2, 1, .inr (.inl fo)))] tY0 (S := Unit) (fun u_ => True) (fun u_ => some (.int (iI 0))) (fun u_ => [(t, .inr (1, [.ref a, .ref c])), (a, .inr (2, [.int (iI ((w : Nat) : Int)), .int (iI ((g : Nat) : Int)), .ref b])), (b, .inr (3, [.ref v, .int (iI ((un P : Nat) : Int)), .int (zI false)])), (v, .inl (D.2 2, n, .inr (.inl (wd P)))), (c, .inr (3, [.ref v3, .int (iI ((un S : Nat) : Int)), .int (zI false)])), (v3, .inl (D.2 2, n2, .inr (.inl (wd S)))), (ou, .inl (D.2 2, 1, .inr (.inl (va_up fo 0 (iI (depF w g P ch (cel w x y))).toInt64))))]) := by
  refine tu_metH (by decide +kernel) (Nat.le_of_ble_eq_true rfl) ?_
  intro p0 e0 s0 m0 below meth c0 A ls args Q hag hQ C hT hK hX hY hP hD hA hAe hl
  obtain ⟨kx, kb, hml, hown, hts, -⟩ := id C
  have hS : va_S A s0.heap s0.heap [] := va_S.rf
  have hl : lv_has ls 6 [(0, .ref t), (1, .int (iI x)), (2, .int (iI y)), (3, .int (zI ch)), (4, .ref ou)] := hl
  have hwg := wg_le hw hg
  have hBn := hB.1
  have hBm := hB.2.1
  have hul := un_le hB
  have hul2 := un_le hB2
  refine lv_aload kx kb dX0_depthAt_0 (lv_at hl 4 rfl) ?_
  refine lv_iconst (v := iI 0) kx kb dX0_depthAt_2 rfl ?_
  refine lv_aload_n kx kb dX0_depthAt_3 rfl (lv_at hl 0 rfl) ?_
  refine lv_iload_n kx kb dX0_depthAt_4 rfl (lv_at hl 1 rfl) ?_
  refine lv_iload_n kx kb dX0_depthAt_5 rfl (lv_at hl 2 rfl) ?_
  refine lv_iload_n kx kb dX0_depthAt_6 rfl (lv_at hl 3 rfl) ?_
  refine t_callV (wr := [(ou, .inl (D.2 2, 1, .inr (.inl fo)))]) C (met_X1_depthAt_ok l D E t a b v n w g P c v3 n2 S x y ch (hw) (hg) (hB) (hB2) (hPz) (hSz) (hv)) (cwV 3 hts (lw_V q1323 q1324 q1325 q59 q1326) rfl rfl rfl (by decide +kernel) ⟨Nat.le_of_ble_eq_true rfl, Nat.le_of_ble_eq_true rfl⟩) (va_recv hK hP (ci := 1) (q0 := 0) rfl rfl) hK hX hP hD hS hA [0, 1, 2, 3, 4, 5] [6] rfl rfl (by decide) (by decide) (by decide) tYb_0 (fun _ _ _ => trivial) rfl hl.1 rfl (Nat.le_of_ble_eq_true rfl) dX0_depthAt_7 ⟨(show 35 ≤ 35 from by omega), (show 1190 ≤ 1190 from by omega)⟩ (fun u_ H locs hp hP hD hS => ?_)
  have hP : va_P D.1 clAll [(ou, .inl (D.2 2, 1, .inr (.inl fo))), (t, .inr (1, [.ref a, .ref c])), (a, .inr (2, [.int (iI ((w : Nat) : Int)), .int (iI ((g : Nat) : Int)), .ref b])), (b, .inr (3, [.ref v, .int (iI ((un P : Nat) : Int)), .int (zI false)])), (v, .inl (D.2 2, n, .inr (.inl (wd P)))), (c, .inr (3, [.ref v3, .int (iI ((un S : Nat) : Int)), .int (zI false)])), (v3, .inl (D.2 2, n2, .inr (.inl (wd S))))] H := hP
  have hD : va_D A [(ou, .inl (D.2 2, 1, .inr (.inl fo))), (t, .inr (1, [.ref a, .ref c])), (a, .inr (2, [.int (iI ((w : Nat) : Int)), .int (iI ((g : Nat) : Int)), .ref b])), (b, .inr (3, [.ref v, .int (iI ((un P : Nat) : Int)), .int (zI false)])), (v, .inl (D.2 2, n, .inr (.inl (wd P)))), (c, .inr (3, [.ref v3, .int (iI ((un S : Nat) : Int)), .int (zI false)])), (v3, .inl (D.2 2, n2, .inr (.inl (wd S))))] := hD
  refine W.eq (g2 := F0 m0 10 ls [.int (iI (depF w g P ch (cel w x y))), .int (iI 0), .ref ou]) rfl ?_
  refine W.widen (k := 35) (n := 1190) (Nat.le_refl _) (Nat.le_refl _) ?_
  refine lv_i2l kx kb dX0_depthAt_10 rfl ?_
  refine ta_last C hK hP hD hS 0 rfl 0 (by omega) dX0_depthAt_11 (fun H locs hP hD hS => ?_)
  have hP : va_P D.1 clAll [(ou, .inl (D.2 2, 1, .inr (.inl (va_up fo 0 ((iI (depF w g P ch (cel w x y))).toInt64))))), (t, .inr (1, [.ref a, .ref c])), (a, .inr (2, [.int (iI ((w : Nat) : Int)), .int (iI ((g : Nat) : Int)), .ref b])), (b, .inr (3, [.ref v, .int (iI ((un P : Nat) : Int)), .int (zI false)])), (v, .inl (D.2 2, n, .inr (.inl (wd P)))), (c, .inr (3, [.ref v3, .int (iI ((un S : Nat) : Int)), .int (zI false)])), (v3, .inl (D.2 2, n2, .inr (.inl (wd S))))] H := hP
  have hD : va_D A [(ou, .inl (D.2 2, 1, .inr (.inl (va_up fo 0 ((iI (depF w g P ch (cel w x y))).toInt64))))), (t, .inr (1, [.ref a, .ref c])), (a, .inr (2, [.int (iI ((w : Nat) : Int)), .int (iI ((g : Nat) : Int)), .ref b])), (b, .inr (3, [.ref v, .int (iI ((un P : Nat) : Int)), .int (zI false)])), (v, .inl (D.2 2, n, .inr (.inl (wd P)))), (c, .inr (3, [.ref v3, .int (iI ((un S : Nat) : Int)), .int (zI false)])), (v3, .inl (D.2 2, n2, .inr (.inl (wd S))))] := hD
  refine lv_goto (tgt := 19) kx kb dX0_depthAt_12 (by decide) ?_
  refine lv_iconst (v := iI 0) kx kb dX0_depthAt_19 rfl ?_
  subst hQ
  exact tm_iret C () trivial (hP.sub [1, 2, 3, 4, 5, 6, 0] rfl) (hD.sub [1, 2, 3, 4, 5, 6, 0] (by decide) rfl) hS (show 35 ≤ 35 from by omega) (show 1190 ≤ 1190 from by omega) rfl rfl dX0_depthAt_20
set_option maxHeartbeats 4000000 in
set_option maxRecDepth 100000 in
theorem met_X0_depthAt_no (l : Launch) (hfl : l.stackTraces = false) (D : TG) (E : TE) (t : Nat) (a : Nat) (b : Nat) (v : Nat) (n : Nat) (w : Nat) (g : Nat) (P : Nat → Bool) (c : Nat) (v3 : Nat) (n2 : Nat) (S : Nat → Bool) (x : Int) (y : Int) (z : Bool) (ou : Nat) (fo : Nat → Int64) (hw : 1 ≤ w ∧ w ≤ 32) (hg : 1 ≤ g ∧ g ≤ 32) (hB : BB P n) (hB2 : BB S n2) (hPz : ∀ j_, w * g ≤ j_ → P j_ = false) (hSz : ∀ j_, w * g ≤ j_ → S j_ = false) (rx : -2147483648 ≤ x ∧ x < 2147483648) (ry : -2147483648 ≤ y ∧ y < 2147483648) (hv : ¬ (0 ≤ x ∧ x < w ∧ 0 ≤ y ∧ y < g)) : tMetH l yX0_depthAt cX0_depthAt 6 (some .int) [(0, 12, 15, 19)] 11 186 (1) (6) [.ref t, .int (iI x), .int (iI y), .int (zI z), .ref ou] D E [(t, .inr (1, [.ref a, .ref c])), (a, .inr (2, [.int (iI ((w : Nat) : Int)), .int (iI ((g : Nat) : Int)), .ref b])), (b, .inr (3, [.ref v, .int (iI ((un P : Nat) : Int)), .int (zI false)])), (v, .inl (D.2 2, n, .inr (.inl (wd P)))), (c, .inr (3, [.ref v3, .int (iI ((un S : Nat) : Int)), .int (zI false)])), (v3, .inl (D.2 2, n2, .inr (.inl (wd S)))), (ou, .inl (D.2 2, 1, .inr (.inl fo)))] tY0 (S := Unit) (fun u_ => True) (fun u_ => some (.int (iI 1))) (fun u_ => [(t, .inr (1, [.ref a, .ref c])), (a, .inr (2, [.int (iI ((w : Nat) : Int)), .int (iI ((g : Nat) : Int)), .ref b])), (b, .inr (3, [.ref v, .int (iI ((un P : Nat) : Int)), .int (zI false)])), (v, .inl (D.2 2, n, .inr (.inl (wd P)))), (c, .inr (3, [.ref v3, .int (iI ((un S : Nat) : Int)), .int (zI false)])), (v3, .inl (D.2 2, n2, .inr (.inl (wd S)))), (ou, .inl (D.2 2, 1, .inr (.inl fo)))]) := by
  refine tu_metH (by decide +kernel) (Nat.le_of_ble_eq_true rfl) ?_
  intro p0 e0 s0 m0 below meth c0 A ls args Q hag hQ C hT hK hX hY hP hD hA hAe hl
  obtain ⟨kx, kb, hml, hown, hts, -⟩ := id C
  have hS : va_S A s0.heap s0.heap [] := va_S.rf
  have hl : lv_has ls 6 [(0, .ref t), (1, .int (iI x)), (2, .int (iI y)), (3, .int (zI z)), (4, .ref ou)] := hl
  have hwg := wg_le hw hg
  have hBn := hB.1
  have hBm := hB.2.1
  have hul := un_le hB
  have hul2 := un_le hB2
  refine lv_aload kx kb dX0_depthAt_0 (lv_at hl 4 rfl) ?_
  refine lv_iconst (v := iI 0) kx kb dX0_depthAt_2 rfl ?_
  refine lv_aload_n kx kb dX0_depthAt_3 rfl (lv_at hl 0 rfl) ?_
  refine lv_iload_n kx kb dX0_depthAt_4 rfl (lv_at hl 1 rfl) ?_
  refine lv_iload_n kx kb dX0_depthAt_5 rfl (lv_at hl 2 rfl) ?_
  refine lv_iload_n kx kb dX0_depthAt_6 rfl (lv_at hl 3 rfl) ?_
  refine u_tryV (wr := [(ou, .inl (D.2 2, 1, .inr (.inl fo)))]) (nm := "java/lang/IndexOutOfBoundsException") C [] (⟨0, 12, 15, 19⟩ : ExceptionTableEntry) [] hT (fun _ h_ => nomatch h_) (by decide) (by decide) (hts _ q1198) (va_Nw.use rfl (hX.1 _ q176 rfl)) (met_X1_depthAt_no l hfl D E t a b v n w g P c v3 n2 S x y z (hw) (hg) (hB) (hB2) (hPz) (hSz) (rx) (ry) (hv)) (cwV 3 hts (lw_V q1323 q1324 q1325 q59 q1326) rfl rfl rfl (by decide +kernel) ⟨Nat.le_of_ble_eq_true rfl, Nat.le_of_ble_eq_true rfl⟩) (va_recv hK hP (ci := 1) (q0 := 0) rfl rfl) hK hX hP hD hS hA [0, 1, 2, 3, 4, 5] [6] rfl rfl (by decide) (by decide) (by decide) rfl hl.1 rfl (Nat.le_of_ble_eq_true rfl) dX0_depthAt_7 ⟨(show 1 ≤ 1 from by omega), (show 6 ≤ 6 from by omega)⟩ (fun q9 H locs hP hD hS => ?_)
  have hP : va_P D.1 clAll [(ou, .inl (D.2 2, 1, .inr (.inl fo))), (t, .inr (1, [.ref a, .ref c])), (a, .inr (2, [.int (iI ((w : Nat) : Int)), .int (iI ((g : Nat) : Int)), .ref b])), (b, .inr (3, [.ref v, .int (iI ((un P : Nat) : Int)), .int (zI false)])), (v, .inl (D.2 2, n, .inr (.inl (wd P)))), (c, .inr (3, [.ref v3, .int (iI ((un S : Nat) : Int)), .int (zI false)])), (v3, .inl (D.2 2, n2, .inr (.inl (wd S))))] H := hP
  have hD : va_D A [(ou, .inl (D.2 2, 1, .inr (.inl fo))), (t, .inr (1, [.ref a, .ref c])), (a, .inr (2, [.int (iI ((w : Nat) : Int)), .int (iI ((g : Nat) : Int)), .ref b])), (b, .inr (3, [.ref v, .int (iI ((un P : Nat) : Int)), .int (zI false)])), (v, .inl (D.2 2, n, .inr (.inl (wd P)))), (c, .inr (3, [.ref v3, .int (iI ((un S : Nat) : Int)), .int (zI false)])), (v3, .inl (D.2 2, n2, .inr (.inl (wd S))))] := hD
  refine W.eq (g2 := F0 m0 15 ls [.ref q9]) rfl ?_
  refine W.widen (k := 1) (n := 6) (Nat.le_refl _) (Nat.le_refl _) ?_
  refine lv_astore (lv' := [(5, .ref q9), (0, .ref t), (1, .int (iI x)), (2, .int (iI y)), (3, .int (zI z)), (4, .ref ou)]) kx kb dX0_depthAt_15 hl (by decide) rfl (fun ls hl => ?_)
  refine lv_iconst (v := iI 1) kx kb dX0_depthAt_17 rfl ?_
  subst hQ
  exact tm_iret C () trivial (hP.sub [1, 2, 3, 4, 5, 6, 0] rfl) (hD.sub [1, 2, 3, 4, 5, 6, 0] (by decide) rfl) hS (show 1 ≤ 1 from by omega) (show 6 ≤ 6 from by omega) rfl rfl dX0_depthAt_18
set_option maxHeartbeats 4000000 in
set_option maxRecDepth 100000 in
theorem met_X0_runs_ok (l : Launch) (D : TG) (E : TE) (t : Nat) (a : Nat) (b : Nat) (v : Nat) (n : Nat) (w : Nat) (g : Nat) (P : Nat → Bool) (c : Nat) (v3 : Nat) (n2 : Nat) (S : Nat → Bool) (y : Int) (ou : Nat) (fo : Nat → Int64) (hw : 1 ≤ w ∧ w ≤ 32) (hg : 1 ≤ g ∧ g ≤ 32) (hB : BB P n) (hB2 : BB S n2) (hPz : ∀ j_, w * g ≤ j_ → P j_ = false) (hSz : ∀ j_, w * g ≤ j_ → S j_ = false) (hv : 0 ≤ y ∧ y < g) : tMetH l yX0_runs cX0_runs 4 (some .int) [(0, 9, 12, 19)] 7 164 (65) (164) [.ref t, .int (iI y), .ref ou] D E [(t, .inr (1, [.ref a, .ref c])), (a, .inr (2, [.int (iI ((w : Nat) : Int)), .int (iI ((g : Nat) : Int)), .ref b])), (b, .inr (3, [.ref v, .int (iI ((un P : Nat) : Int)), .int (zI false)])), (v, .inl (D.2 2, n, .inr (.inl (wd P)))), (c, .inr (3, [.ref v3, .int (iI ((un S : Nat) : Int)), .int (zI false)])), (v3, .inl (D.2 2, n2, .inr (.inl (wd S)))), (ou, .inl (D.2 2, 1, .inr (.inl fo)))] tY0 (S := Unit) (fun u_ => True) (fun u_ => some (.int (iI 0))) (fun u_ => [(t, .inr (1, [.ref a, .ref c])), (a, .inr (2, [.int (iI ((w : Nat) : Int)), .int (iI ((g : Nat) : Int)), .ref b])), (b, .inr (3, [.ref v, .int (iI ((un P : Nat) : Int)), .int (zI false)])), (v, .inl (D.2 2, n, .inr (.inl (wd P)))), (c, .inr (3, [.ref v3, .int (iI ((un S : Nat) : Int)), .int (zI false)])), (v3, .inl (D.2 2, n2, .inr (.inl (wd S)))), (ou, .inl (D.2 2, 1, .inr (.inl (va_up fo 0 (iI ((rnO w g P y : Nat) : Int)).toInt64))))]) := by
  refine tu_metH (by decide +kernel) (Nat.le_of_ble_eq_true rfl) ?_
  intro p0 e0 s0 m0 below meth c0 A ls args Q hag hQ C hT hK hX hY hP hD hA hAe hl
  obtain ⟨kx, kb, hml, hown, hts, -⟩ := id C
  have hS : va_S A s0.heap s0.heap [] := va_S.rf
  have hl : lv_has ls 4 [(0, .ref t), (1, .int (iI y)), (2, .ref ou)] := hl
  have hwg := wg_le hw hg
  have hBn := hB.1
  have hBm := hB.2.1
  have hul := un_le hB
  have hul2 := un_le hB2
  refine lv_aload_n kx kb dX0_runs_0 rfl (lv_at hl 2 rfl) ?_
  refine lv_iconst (v := iI 0) kx kb dX0_runs_1 rfl ?_
  refine lv_aload_n kx kb dX0_runs_2 rfl (lv_at hl 0 rfl) ?_
  refine lv_iload_n kx kb dX0_runs_3 rfl (lv_at hl 1 rfl) ?_
  refine t_callV (wr := [(ou, .inl (D.2 2, 1, .inr (.inl fo)))]) C (met_X1_runs_ok l D E t a b v n w g P c v3 n2 S y (hw) (hg) (hB) (hB2) (hPz) (hSz) (hv)) (cwV 1 hts (lw_V q1330 q683 q684 q59 q685) rfl rfl rfl (by decide +kernel) ⟨Nat.le_of_ble_eq_true rfl, Nat.le_of_ble_eq_true rfl⟩) (va_recv hK hP (ci := 1) (q0 := 0) rfl rfl) hK hX hP hD hS hA [0, 1, 2, 3, 4, 5] [6] rfl rfl (by decide) (by decide) (by decide) tYb_0 (fun _ _ _ => trivial) rfl hl.1 rfl (Nat.le_of_ble_eq_true rfl) dX0_runs_4 ⟨(show 65 ≤ 65 from by omega), (show 164 ≤ 164 from by omega)⟩ (fun u_ H locs hp hP hD hS => ?_)
  have hP : va_P D.1 clAll [(ou, .inl (D.2 2, 1, .inr (.inl fo))), (t, .inr (1, [.ref a, .ref c])), (a, .inr (2, [.int (iI ((w : Nat) : Int)), .int (iI ((g : Nat) : Int)), .ref b])), (b, .inr (3, [.ref v, .int (iI ((un P : Nat) : Int)), .int (zI false)])), (v, .inl (D.2 2, n, .inr (.inl (wd P)))), (c, .inr (3, [.ref v3, .int (iI ((un S : Nat) : Int)), .int (zI false)])), (v3, .inl (D.2 2, n2, .inr (.inl (wd S))))] H := hP
  have hD : va_D A [(ou, .inl (D.2 2, 1, .inr (.inl fo))), (t, .inr (1, [.ref a, .ref c])), (a, .inr (2, [.int (iI ((w : Nat) : Int)), .int (iI ((g : Nat) : Int)), .ref b])), (b, .inr (3, [.ref v, .int (iI ((un P : Nat) : Int)), .int (zI false)])), (v, .inl (D.2 2, n, .inr (.inl (wd P)))), (c, .inr (3, [.ref v3, .int (iI ((un S : Nat) : Int)), .int (zI false)])), (v3, .inl (D.2 2, n2, .inr (.inl (wd S))))] := hD
  refine W.eq (g2 := F0 m0 7 ls [.int (iI ((rnO w g P y : Nat) : Int)), .int (iI 0), .ref ou]) rfl ?_
  refine W.widen (k := 65) (n := 164) (Nat.le_refl _) (Nat.le_refl _) ?_
  refine lv_i2l kx kb dX0_runs_7 rfl ?_
  refine ta_last C hK hP hD hS 0 rfl 0 (by omega) dX0_runs_8 (fun H locs hP hD hS => ?_)
  have hP : va_P D.1 clAll [(ou, .inl (D.2 2, 1, .inr (.inl (va_up fo 0 ((iI ((rnO w g P y : Nat) : Int)).toInt64))))), (t, .inr (1, [.ref a, .ref c])), (a, .inr (2, [.int (iI ((w : Nat) : Int)), .int (iI ((g : Nat) : Int)), .ref b])), (b, .inr (3, [.ref v, .int (iI ((un P : Nat) : Int)), .int (zI false)])), (v, .inl (D.2 2, n, .inr (.inl (wd P)))), (c, .inr (3, [.ref v3, .int (iI ((un S : Nat) : Int)), .int (zI false)])), (v3, .inl (D.2 2, n2, .inr (.inl (wd S))))] H := hP
  have hD : va_D A [(ou, .inl (D.2 2, 1, .inr (.inl (va_up fo 0 ((iI ((rnO w g P y : Nat) : Int)).toInt64))))), (t, .inr (1, [.ref a, .ref c])), (a, .inr (2, [.int (iI ((w : Nat) : Int)), .int (iI ((g : Nat) : Int)), .ref b])), (b, .inr (3, [.ref v, .int (iI ((un P : Nat) : Int)), .int (zI false)])), (v, .inl (D.2 2, n, .inr (.inl (wd P)))), (c, .inr (3, [.ref v3, .int (iI ((un S : Nat) : Int)), .int (zI false)])), (v3, .inl (D.2 2, n2, .inr (.inl (wd S))))] := hD
  refine lv_goto (tgt := 15) kx kb dX0_runs_9 (by decide) ?_
  refine lv_iconst (v := iI 0) kx kb dX0_runs_15 rfl ?_
  subst hQ
  exact tm_iret C () trivial (hP.sub [1, 2, 3, 4, 5, 6, 0] rfl) (hD.sub [1, 2, 3, 4, 5, 6, 0] (by decide) rfl) hS (show 65 ≤ 65 from by omega) (show 164 ≤ 164 from by omega) rfl rfl dX0_runs_16
set_option maxHeartbeats 4000000 in
set_option maxRecDepth 100000 in
theorem met_X0_runs_no (l : Launch) (hfl : l.stackTraces = false) (D : TG) (E : TE) (t : Nat) (a : Nat) (b : Nat) (v : Nat) (n : Nat) (w : Nat) (g : Nat) (P : Nat → Bool) (c : Nat) (v3 : Nat) (n2 : Nat) (S : Nat → Bool) (y : Int) (ou : Nat) (fo : Nat → Int64) (hw : 1 ≤ w ∧ w ≤ 32) (hg : 1 ≤ g ∧ g ≤ 32) (hB : BB P n) (hB2 : BB S n2) (hPz : ∀ j_, w * g ≤ j_ → P j_ = false) (hSz : ∀ j_, w * g ≤ j_ → S j_ = false) (ry : -2147483648 ≤ y ∧ y < 2147483648) (hv : ¬ (0 ≤ y ∧ y < g)) : tMetH l yX0_runs cX0_runs 4 (some .int) [(0, 9, 12, 19)] 11 182 (1) (6) [.ref t, .int (iI y), .ref ou] D E [(t, .inr (1, [.ref a, .ref c])), (a, .inr (2, [.int (iI ((w : Nat) : Int)), .int (iI ((g : Nat) : Int)), .ref b])), (b, .inr (3, [.ref v, .int (iI ((un P : Nat) : Int)), .int (zI false)])), (v, .inl (D.2 2, n, .inr (.inl (wd P)))), (c, .inr (3, [.ref v3, .int (iI ((un S : Nat) : Int)), .int (zI false)])), (v3, .inl (D.2 2, n2, .inr (.inl (wd S)))), (ou, .inl (D.2 2, 1, .inr (.inl fo)))] tY0 (S := Unit) (fun u_ => True) (fun u_ => some (.int (iI 1))) (fun u_ => [(t, .inr (1, [.ref a, .ref c])), (a, .inr (2, [.int (iI ((w : Nat) : Int)), .int (iI ((g : Nat) : Int)), .ref b])), (b, .inr (3, [.ref v, .int (iI ((un P : Nat) : Int)), .int (zI false)])), (v, .inl (D.2 2, n, .inr (.inl (wd P)))), (c, .inr (3, [.ref v3, .int (iI ((un S : Nat) : Int)), .int (zI false)])), (v3, .inl (D.2 2, n2, .inr (.inl (wd S)))), (ou, .inl (D.2 2, 1, .inr (.inl fo)))]) := by
  refine tu_metH (by decide +kernel) (Nat.le_of_ble_eq_true rfl) ?_
  intro p0 e0 s0 m0 below meth c0 A ls args Q hag hQ C hT hK hX hY hP hD hA hAe hl
  obtain ⟨kx, kb, hml, hown, hts, -⟩ := id C
  have hS : va_S A s0.heap s0.heap [] := va_S.rf
  have hl : lv_has ls 4 [(0, .ref t), (1, .int (iI y)), (2, .ref ou)] := hl
  have hwg := wg_le hw hg
  have hBn := hB.1
  have hBm := hB.2.1
  have hul := un_le hB
  have hul2 := un_le hB2
  refine lv_aload_n kx kb dX0_runs_0 rfl (lv_at hl 2 rfl) ?_
  refine lv_iconst (v := iI 0) kx kb dX0_runs_1 rfl ?_
  refine lv_aload_n kx kb dX0_runs_2 rfl (lv_at hl 0 rfl) ?_
  refine lv_iload_n kx kb dX0_runs_3 rfl (lv_at hl 1 rfl) ?_
  refine u_tryV (wr := [(ou, .inl (D.2 2, 1, .inr (.inl fo)))]) (nm := "java/lang/IndexOutOfBoundsException") C [] (⟨0, 9, 12, 19⟩ : ExceptionTableEntry) [] hT (fun _ h_ => nomatch h_) (by decide) (by decide) (hts _ q1198) (va_Nw.use rfl (hX.1 _ q176 rfl)) (met_X1_runs_no l hfl D E t a b v n w g P c v3 n2 S y (hw) (hg) (hB) (hB2) (hPz) (hSz) (ry) (hv)) (cwV 1 hts (lw_V q1330 q683 q684 q59 q685) rfl rfl rfl (by decide +kernel) ⟨Nat.le_of_ble_eq_true rfl, Nat.le_of_ble_eq_true rfl⟩) (va_recv hK hP (ci := 1) (q0 := 0) rfl rfl) hK hX hP hD hS hA [0, 1, 2, 3, 4, 5] [6] rfl rfl (by decide) (by decide) (by decide) rfl hl.1 rfl (Nat.le_of_ble_eq_true rfl) dX0_runs_4 ⟨(show 1 ≤ 1 from by omega), (show 6 ≤ 6 from by omega)⟩ (fun q9 H locs hP hD hS => ?_)
  have hP : va_P D.1 clAll [(ou, .inl (D.2 2, 1, .inr (.inl fo))), (t, .inr (1, [.ref a, .ref c])), (a, .inr (2, [.int (iI ((w : Nat) : Int)), .int (iI ((g : Nat) : Int)), .ref b])), (b, .inr (3, [.ref v, .int (iI ((un P : Nat) : Int)), .int (zI false)])), (v, .inl (D.2 2, n, .inr (.inl (wd P)))), (c, .inr (3, [.ref v3, .int (iI ((un S : Nat) : Int)), .int (zI false)])), (v3, .inl (D.2 2, n2, .inr (.inl (wd S))))] H := hP
  have hD : va_D A [(ou, .inl (D.2 2, 1, .inr (.inl fo))), (t, .inr (1, [.ref a, .ref c])), (a, .inr (2, [.int (iI ((w : Nat) : Int)), .int (iI ((g : Nat) : Int)), .ref b])), (b, .inr (3, [.ref v, .int (iI ((un P : Nat) : Int)), .int (zI false)])), (v, .inl (D.2 2, n, .inr (.inl (wd P)))), (c, .inr (3, [.ref v3, .int (iI ((un S : Nat) : Int)), .int (zI false)])), (v3, .inl (D.2 2, n2, .inr (.inl (wd S))))] := hD
  refine W.eq (g2 := F0 m0 12 ls [.ref q9]) rfl ?_
  refine W.widen (k := 1) (n := 6) (Nat.le_refl _) (Nat.le_refl _) ?_
  refine lv_astore_n (lv' := [(3, .ref q9), (0, .ref t), (1, .int (iI y)), (2, .ref ou)]) kx kb dX0_runs_12 rfl hl (by decide) rfl (fun ls hl => ?_)
  refine lv_iconst (v := iI 1) kx kb dX0_runs_13 rfl ?_
  subst hQ
  exact tm_iret C () trivial (hP.sub [1, 2, 3, 4, 5, 6, 0] rfl) (hD.sub [1, 2, 3, 4, 5, 6, 0] (by decide) rfl) hS (show 1 ≤ 1 from by omega) (show 6 ≤ 6 from by omega) rfl rfl dX0_runs_14
set_option maxHeartbeats 4000000 in
set_option maxRecDepth 100000 in
theorem met_X0_runAt_ok (l : Launch) (D : TG) (E : TE) (t : Nat) (a : Nat) (b : Nat) (v : Nat) (n : Nat) (w : Nat) (g : Nat) (P : Nat → Bool) (c : Nat) (v3 : Nat) (n2 : Nat) (S : Nat → Bool) (y : Int) (idx : Nat) (ou : Nat) (fo : Nat → Int64) (hw : 1 ≤ w ∧ w ≤ 32) (hg : 1 ≤ g ∧ g ≤ 32) (hB : BB P n) (hB2 : BB S n2) (hPz : ∀ j_, w * g ≤ j_ → P j_ = false) (hSz : ∀ j_, w * g ≤ j_ → S j_ = false) (hv : 0 ≤ y ∧ y < g) (hidx : idx < rnO w g P y) : tMetH l yX0_runAt cX0_runAt 5 (some .int) [(0, 10, 13, 19), (0, 10, 17, 50)] 7 167 (65) (164) [.ref t, .int (iI y), .int (iI ((idx : Nat) : Int)), .ref ou] D E [(t, .inr (1, [.ref a, .ref c])), (a, .inr (2, [.int (iI ((w : Nat) : Int)), .int (iI ((g : Nat) : Int)), .ref b])), (b, .inr (3, [.ref v, .int (iI ((un P : Nat) : Int)), .int (zI false)])), (v, .inl (D.2 2, n, .inr (.inl (wd P)))), (c, .inr (3, [.ref v3, .int (iI ((un S : Nat) : Int)), .int (zI false)])), (v3, .inl (D.2 2, n2, .inr (.inl (wd S)))), (ou, .inl (D.2 2, 1, .inr (.inl fo)))] tY0 (S := Unit) (fun u_ => True) (fun u_ => some (.int (iI 0))) (fun u_ => [(t, .inr (1, [.ref a, .ref c])), (a, .inr (2, [.int (iI ((w : Nat) : Int)), .int (iI ((g : Nat) : Int)), .ref b])), (b, .inr (3, [.ref v, .int (iI ((un P : Nat) : Int)), .int (zI false)])), (v, .inl (D.2 2, n, .inr (.inl (wd P)))), (c, .inr (3, [.ref v3, .int (iI ((un S : Nat) : Int)), .int (zI false)])), (v3, .inl (D.2 2, n2, .inr (.inl (wd S)))), (ou, .inl (D.2 2, 1, .inr (.inl (va_up fo 0 (iI (100 * ((rnX (rowP w g P y) idx w : Nat) : Int) + ((rlen (rowP w g P y) (rnX (rowP w g P y) idx w) w : Nat) : Int))).toInt64))))]) := by
  refine tu_metH (by decide +kernel) (Nat.le_of_ble_eq_true rfl) ?_
  intro p0 e0 s0 m0 below meth c0 A ls args Q hag hQ C hT hK hX hY hP hD hA hAe hl
  obtain ⟨kx, kb, hml, hown, hts, -⟩ := id C
  have hS : va_S A s0.heap s0.heap [] := va_S.rf
  have hl : lv_has ls 5 [(0, .ref t), (1, .int (iI y)), (2, .int (iI ((idx : Nat) : Int))), (3, .ref ou)] := hl
  have hwg := wg_le hw hg
  have hBn := hB.1
  have hBm := hB.2.1
  have hul := un_le hB
  have hul2 := un_le hB2
  refine lv_aload_n kx kb dX0_runAt_0 rfl (lv_at hl 3 rfl) ?_
  refine lv_iconst (v := iI 0) kx kb dX0_runAt_1 rfl ?_
  refine lv_aload_n kx kb dX0_runAt_2 rfl (lv_at hl 0 rfl) ?_
  refine lv_iload_n kx kb dX0_runAt_3 rfl (lv_at hl 1 rfl) ?_
  refine lv_iload_n kx kb dX0_runAt_4 rfl (lv_at hl 2 rfl) ?_
  refine t_callV (wr := [(ou, .inl (D.2 2, 1, .inr (.inl fo)))]) C (met_X1_runAt_ok l D E t a b v n w g P c v3 n2 S y idx (hw) (hg) (hB) (hB2) (hPz) (hSz) (hv) (hidx)) (cwV 2 hts (lw_V q1335 q1336 q1337 q59 q1338) rfl rfl rfl (by decide +kernel) ⟨Nat.le_of_ble_eq_true rfl, Nat.le_of_ble_eq_true rfl⟩) (va_recv hK hP (ci := 1) (q0 := 0) rfl rfl) hK hX hP hD hS hA [0, 1, 2, 3, 4, 5] [6] rfl rfl (by decide) (by decide) (by decide) tYb_0 (fun _ _ _ => trivial) rfl hl.1 rfl (Nat.le_of_ble_eq_true rfl) dX0_runAt_5 ⟨(show 65 ≤ 65 from by omega), (show 164 ≤ 164 from by omega)⟩ (fun u_ H locs hp hP hD hS => ?_)
  have hP : va_P D.1 clAll [(ou, .inl (D.2 2, 1, .inr (.inl fo))), (t, .inr (1, [.ref a, .ref c])), (a, .inr (2, [.int (iI ((w : Nat) : Int)), .int (iI ((g : Nat) : Int)), .ref b])), (b, .inr (3, [.ref v, .int (iI ((un P : Nat) : Int)), .int (zI false)])), (v, .inl (D.2 2, n, .inr (.inl (wd P)))), (c, .inr (3, [.ref v3, .int (iI ((un S : Nat) : Int)), .int (zI false)])), (v3, .inl (D.2 2, n2, .inr (.inl (wd S))))] H := hP
  have hD : va_D A [(ou, .inl (D.2 2, 1, .inr (.inl fo))), (t, .inr (1, [.ref a, .ref c])), (a, .inr (2, [.int (iI ((w : Nat) : Int)), .int (iI ((g : Nat) : Int)), .ref b])), (b, .inr (3, [.ref v, .int (iI ((un P : Nat) : Int)), .int (zI false)])), (v, .inl (D.2 2, n, .inr (.inl (wd P)))), (c, .inr (3, [.ref v3, .int (iI ((un S : Nat) : Int)), .int (zI false)])), (v3, .inl (D.2 2, n2, .inr (.inl (wd S))))] := hD
  refine W.eq (g2 := F0 m0 8 ls [.int (iI (100 * ((rnX (rowP w g P y) idx w : Nat) : Int) + ((rlen (rowP w g P y) (rnX (rowP w g P y) idx w) w : Nat) : Int))), .int (iI 0), .ref ou]) rfl ?_
  refine W.widen (k := 65) (n := 164) (Nat.le_refl _) (Nat.le_refl _) ?_
  refine lv_i2l kx kb dX0_runAt_8 rfl ?_
  refine ta_last C hK hP hD hS 0 rfl 0 (by omega) dX0_runAt_9 (fun H locs hP hD hS => ?_)
  have hP : va_P D.1 clAll [(ou, .inl (D.2 2, 1, .inr (.inl (va_up fo 0 ((iI (100 * ((rnX (rowP w g P y) idx w : Nat) : Int) + ((rlen (rowP w g P y) (rnX (rowP w g P y) idx w) w : Nat) : Int))).toInt64))))), (t, .inr (1, [.ref a, .ref c])), (a, .inr (2, [.int (iI ((w : Nat) : Int)), .int (iI ((g : Nat) : Int)), .ref b])), (b, .inr (3, [.ref v, .int (iI ((un P : Nat) : Int)), .int (zI false)])), (v, .inl (D.2 2, n, .inr (.inl (wd P)))), (c, .inr (3, [.ref v3, .int (iI ((un S : Nat) : Int)), .int (zI false)])), (v3, .inl (D.2 2, n2, .inr (.inl (wd S))))] H := hP
  have hD : va_D A [(ou, .inl (D.2 2, 1, .inr (.inl (va_up fo 0 ((iI (100 * ((rnX (rowP w g P y) idx w : Nat) : Int) + ((rlen (rowP w g P y) (rnX (rowP w g P y) idx w) w : Nat) : Int))).toInt64))))), (t, .inr (1, [.ref a, .ref c])), (a, .inr (2, [.int (iI ((w : Nat) : Int)), .int (iI ((g : Nat) : Int)), .ref b])), (b, .inr (3, [.ref v, .int (iI ((un P : Nat) : Int)), .int (zI false)])), (v, .inl (D.2 2, n, .inr (.inl (wd P)))), (c, .inr (3, [.ref v3, .int (iI ((un S : Nat) : Int)), .int (zI false)])), (v3, .inl (D.2 2, n2, .inr (.inl (wd S))))] := hD
  refine lv_goto (tgt := 21) kx kb dX0_runAt_10 (by decide) ?_
  refine lv_iconst (v := iI 0) kx kb dX0_runAt_21 rfl ?_
  subst hQ
  exact tm_iret C () trivial (hP.sub [1, 2, 3, 4, 5, 6, 0] rfl) (hD.sub [1, 2, 3, 4, 5, 6, 0] (by decide) rfl) hS (show 65 ≤ 65 from by omega) (show 164 ≤ 164 from by omega) rfl rfl dX0_runAt_22
set_option maxHeartbeats 4000000 in
set_option maxRecDepth 100000 in
theorem met_X0_runAt_n1 (l : Launch) (hfl : l.stackTraces = false) (D : TG) (E : TE) (t : Nat) (a : Nat) (b : Nat) (v : Nat) (n : Nat) (w : Nat) (g : Nat) (P : Nat → Bool) (c : Nat) (v3 : Nat) (n2 : Nat) (S : Nat → Bool) (y : Int) (k : Int) (ou : Nat) (fo : Nat → Int64) (hw : 1 ≤ w ∧ w ≤ 32) (hg : 1 ≤ g ∧ g ≤ 32) (hB : BB P n) (hB2 : BB S n2) (hPz : ∀ j_, w * g ≤ j_ → P j_ = false) (hSz : ∀ j_, w * g ≤ j_ → S j_ = false) (ry : -2147483648 ≤ y ∧ y < 2147483648) (rk : -2147483648 ≤ k ∧ k < 2147483648) (hv : ¬ (0 ≤ y ∧ y < g)) : tMetH l yX0_runAt cX0_runAt 5 (some .int) [(0, 10, 13, 19), (0, 10, 17, 50)] 11 185 (1) (6) [.ref t, .int (iI y), .int (iI k), .ref ou] D E [(t, .inr (1, [.ref a, .ref c])), (a, .inr (2, [.int (iI ((w : Nat) : Int)), .int (iI ((g : Nat) : Int)), .ref b])), (b, .inr (3, [.ref v, .int (iI ((un P : Nat) : Int)), .int (zI false)])), (v, .inl (D.2 2, n, .inr (.inl (wd P)))), (c, .inr (3, [.ref v3, .int (iI ((un S : Nat) : Int)), .int (zI false)])), (v3, .inl (D.2 2, n2, .inr (.inl (wd S)))), (ou, .inl (D.2 2, 1, .inr (.inl fo)))] tY0 (S := Unit) (fun u_ => True) (fun u_ => some (.int (iI 1))) (fun u_ => [(t, .inr (1, [.ref a, .ref c])), (a, .inr (2, [.int (iI ((w : Nat) : Int)), .int (iI ((g : Nat) : Int)), .ref b])), (b, .inr (3, [.ref v, .int (iI ((un P : Nat) : Int)), .int (zI false)])), (v, .inl (D.2 2, n, .inr (.inl (wd P)))), (c, .inr (3, [.ref v3, .int (iI ((un S : Nat) : Int)), .int (zI false)])), (v3, .inl (D.2 2, n2, .inr (.inl (wd S)))), (ou, .inl (D.2 2, 1, .inr (.inl fo)))]) := by
  refine tu_metH (by decide +kernel) (Nat.le_of_ble_eq_true rfl) ?_
  intro p0 e0 s0 m0 below meth c0 A ls args Q hag hQ C hT hK hX hY hP hD hA hAe hl
  obtain ⟨kx, kb, hml, hown, hts, -⟩ := id C
  have hS : va_S A s0.heap s0.heap [] := va_S.rf
  have hl : lv_has ls 5 [(0, .ref t), (1, .int (iI y)), (2, .int (iI k)), (3, .ref ou)] := hl
  have hwg := wg_le hw hg
  have hBn := hB.1
  have hBm := hB.2.1
  have hul := un_le hB
  have hul2 := un_le hB2
  refine lv_aload_n kx kb dX0_runAt_0 rfl (lv_at hl 3 rfl) ?_
  refine lv_iconst (v := iI 0) kx kb dX0_runAt_1 rfl ?_
  refine lv_aload_n kx kb dX0_runAt_2 rfl (lv_at hl 0 rfl) ?_
  refine lv_iload_n kx kb dX0_runAt_3 rfl (lv_at hl 1 rfl) ?_
  refine lv_iload_n kx kb dX0_runAt_4 rfl (lv_at hl 2 rfl) ?_
  refine u_tryV (wr := [(ou, .inl (D.2 2, 1, .inr (.inl fo)))]) (nm := "java/lang/IndexOutOfBoundsException") C [] (⟨0, 10, 13, 19⟩ : ExceptionTableEntry) [(⟨0, 10, 17, 50⟩ : ExceptionTableEntry)] hT (fun _ h_ => nomatch h_) (by decide) (by decide) (hts _ q1198) (va_Nw.use rfl (hX.1 _ q176 rfl)) (met_X1_runAt_n1 l hfl D E t a b v n w g P c v3 n2 S y k (hw) (hg) (hB) (hB2) (hPz) (hSz) (ry) (rk) (hv)) (cwV 2 hts (lw_V q1335 q1336 q1337 q59 q1338) rfl rfl rfl (by decide +kernel) ⟨Nat.le_of_ble_eq_true rfl, Nat.le_of_ble_eq_true rfl⟩) (va_recv hK hP (ci := 1) (q0 := 0) rfl rfl) hK hX hP hD hS hA [0, 1, 2, 3, 4, 5] [6] rfl rfl (by decide) (by decide) (by decide) rfl hl.1 rfl (Nat.le_of_ble_eq_true rfl) dX0_runAt_5 ⟨(show 1 ≤ 1 from by omega), (show 6 ≤ 6 from by omega)⟩ (fun q9 H locs hP hD hS => ?_)
  have hP : va_P D.1 clAll [(ou, .inl (D.2 2, 1, .inr (.inl fo))), (t, .inr (1, [.ref a, .ref c])), (a, .inr (2, [.int (iI ((w : Nat) : Int)), .int (iI ((g : Nat) : Int)), .ref b])), (b, .inr (3, [.ref v, .int (iI ((un P : Nat) : Int)), .int (zI false)])), (v, .inl (D.2 2, n, .inr (.inl (wd P)))), (c, .inr (3, [.ref v3, .int (iI ((un S : Nat) : Int)), .int (zI false)])), (v3, .inl (D.2 2, n2, .inr (.inl (wd S))))] H := hP
  have hD : va_D A [(ou, .inl (D.2 2, 1, .inr (.inl fo))), (t, .inr (1, [.ref a, .ref c])), (a, .inr (2, [.int (iI ((w : Nat) : Int)), .int (iI ((g : Nat) : Int)), .ref b])), (b, .inr (3, [.ref v, .int (iI ((un P : Nat) : Int)), .int (zI false)])), (v, .inl (D.2 2, n, .inr (.inl (wd P)))), (c, .inr (3, [.ref v3, .int (iI ((un S : Nat) : Int)), .int (zI false)])), (v3, .inl (D.2 2, n2, .inr (.inl (wd S))))] := hD
  refine W.eq (g2 := F0 m0 13 ls [.ref q9]) rfl ?_
  refine W.widen (k := 1) (n := 6) (Nat.le_refl _) (Nat.le_refl _) ?_
  refine lv_astore (lv' := [(4, .ref q9), (0, .ref t), (1, .int (iI y)), (2, .int (iI k)), (3, .ref ou)]) kx kb dX0_runAt_13 hl (by decide) rfl (fun ls hl => ?_)
  refine lv_iconst (v := iI 1) kx kb dX0_runAt_15 rfl ?_
  subst hQ
  exact tm_iret C () trivial (hP.sub [1, 2, 3, 4, 5, 6, 0] rfl) (hD.sub [1, 2, 3, 4, 5, 6, 0] (by decide) rfl) hS (show 1 ≤ 1 from by omega) (show 6 ≤ 6 from by omega) rfl rfl dX0_runAt_16
set_option maxHeartbeats 4000000 in
set_option maxRecDepth 100000 in
theorem met_X0_runAt_n2 (l : Launch) (hfl : l.stackTraces = false) (D : TG) (E : TE) (t : Nat) (a : Nat) (b : Nat) (v : Nat) (n : Nat) (w : Nat) (g : Nat) (P : Nat → Bool) (c : Nat) (v3 : Nat) (n2 : Nat) (S : Nat → Bool) (y : Int) (k : Int) (ou : Nat) (fo : Nat → Int64) (hw : 1 ≤ w ∧ w ≤ 32) (hg : 1 ≤ g ∧ g ≤ 32) (hB : BB P n) (hB2 : BB S n2) (hPz : ∀ j_, w * g ≤ j_ → P j_ = false) (hSz : ∀ j_, w * g ≤ j_ → S j_ = false) (hv : 0 ≤ y ∧ y < g) (rk : -2147483648 ≤ k ∧ k < 2147483648) (hk : ¬ (0 ≤ k ∧ k < rnO w g P y)) : tMetH l yX0_runAt cX0_runAt 5 (some .int) [(0, 10, 13, 19), (0, 10, 17, 50)] 10 167 (66) (170) [.ref t, .int (iI y), .int (iI k), .ref ou] D E [(t, .inr (1, [.ref a, .ref c])), (a, .inr (2, [.int (iI ((w : Nat) : Int)), .int (iI ((g : Nat) : Int)), .ref b])), (b, .inr (3, [.ref v, .int (iI ((un P : Nat) : Int)), .int (zI false)])), (v, .inl (D.2 2, n, .inr (.inl (wd P)))), (c, .inr (3, [.ref v3, .int (iI ((un S : Nat) : Int)), .int (zI false)])), (v3, .inl (D.2 2, n2, .inr (.inl (wd S)))), (ou, .inl (D.2 2, 1, .inr (.inl fo)))] tYnc (S := Unit) (fun u_ => True) (fun u_ => some (.int (iI 2))) (fun u_ => [(t, .inr (1, [.ref a, .ref c])), (a, .inr (2, [.int (iI ((w : Nat) : Int)), .int (iI ((g : Nat) : Int)), .ref b])), (b, .inr (3, [.ref v, .int (iI ((un P : Nat) : Int)), .int (zI false)])), (v, .inl (D.2 2, n, .inr (.inl (wd P)))), (c, .inr (3, [.ref v3, .int (iI ((un S : Nat) : Int)), .int (zI false)])), (v3, .inl (D.2 2, n2, .inr (.inl (wd S)))), (ou, .inl (D.2 2, 1, .inr (.inl fo)))]) := by
  refine tu_metH (by decide +kernel) (Nat.le_of_ble_eq_true rfl) ?_
  intro p0 e0 s0 m0 below meth c0 A ls args Q hag hQ C hT hK hX hY hP hD hA hAe hl
  obtain ⟨kx, kb, hml, hown, hts, -⟩ := id C
  have hS : va_S A s0.heap s0.heap [] := va_S.rf
  have hl : lv_has ls 5 [(0, .ref t), (1, .int (iI y)), (2, .int (iI k)), (3, .ref ou)] := hl
  have hwg := wg_le hw hg
  have hBn := hB.1
  have hBm := hB.2.1
  have hul := un_le hB
  have hul2 := un_le hB2
  refine lv_aload_n kx kb dX0_runAt_0 rfl (lv_at hl 3 rfl) ?_
  refine lv_iconst (v := iI 0) kx kb dX0_runAt_1 rfl ?_
  refine lv_aload_n kx kb dX0_runAt_2 rfl (lv_at hl 0 rfl) ?_
  refine lv_iload_n kx kb dX0_runAt_3 rfl (lv_at hl 1 rfl) ?_
  refine lv_iload_n kx kb dX0_runAt_4 rfl (lv_at hl 2 rfl) ?_
  refine u_tryV (wr := [(ou, .inl (D.2 2, 1, .inr (.inl fo)))]) (nm := "java/util/NoSuchElementException") C [(⟨0, 10, 13, 19⟩ : ExceptionTableEntry)] (⟨0, 10, 17, 50⟩ : ExceptionTableEntry) [] hT (fun z_ h_ => by rw [List.mem_singleton.mp h_]; exact Or.inr ⟨by decide, "java/lang/IndexOutOfBoundsException", hts _ q1198, hY⟩) (by decide) (by decide) (hts _ q1334) (va_Nw.use rfl (hX.1 _ q748 rfl)) (met_X1_runAt_n2 l hfl D E t a b v n w g P c v3 n2 S y k (hw) (hg) (hB) (hB2) (hPz) (hSz) (hv) (rk) (hk)) (cwV 2 hts (lw_V q1335 q1336 q1337 q59 q1338) rfl rfl rfl (by decide +kernel) ⟨Nat.le_of_ble_eq_true rfl, Nat.le_of_ble_eq_true rfl⟩) (va_recv hK hP (ci := 1) (q0 := 0) rfl rfl) hK hX hP hD hS hA [0, 1, 2, 3, 4, 5] [6] rfl rfl (by decide) (by decide) (by decide) rfl hl.1 rfl (Nat.le_of_ble_eq_true rfl) dX0_runAt_5 ⟨(show 66 ≤ 66 from by omega), (show 170 ≤ 170 from by omega)⟩ (fun q9 H locs hP hD hS => ?_)
  have hP : va_P D.1 clAll [(ou, .inl (D.2 2, 1, .inr (.inl fo))), (t, .inr (1, [.ref a, .ref c])), (a, .inr (2, [.int (iI ((w : Nat) : Int)), .int (iI ((g : Nat) : Int)), .ref b])), (b, .inr (3, [.ref v, .int (iI ((un P : Nat) : Int)), .int (zI false)])), (v, .inl (D.2 2, n, .inr (.inl (wd P)))), (c, .inr (3, [.ref v3, .int (iI ((un S : Nat) : Int)), .int (zI false)])), (v3, .inl (D.2 2, n2, .inr (.inl (wd S))))] H := hP
  have hD : va_D A [(ou, .inl (D.2 2, 1, .inr (.inl fo))), (t, .inr (1, [.ref a, .ref c])), (a, .inr (2, [.int (iI ((w : Nat) : Int)), .int (iI ((g : Nat) : Int)), .ref b])), (b, .inr (3, [.ref v, .int (iI ((un P : Nat) : Int)), .int (zI false)])), (v, .inl (D.2 2, n, .inr (.inl (wd P)))), (c, .inr (3, [.ref v3, .int (iI ((un S : Nat) : Int)), .int (zI false)])), (v3, .inl (D.2 2, n2, .inr (.inl (wd S))))] := hD
  refine W.eq (g2 := F0 m0 17 ls [.ref q9]) rfl ?_
  refine W.widen (k := 66) (n := 170) (Nat.le_refl _) (Nat.le_refl _) ?_
  refine lv_astore (lv' := [(4, .ref q9), (0, .ref t), (1, .int (iI y)), (2, .int (iI k)), (3, .ref ou)]) kx kb dX0_runAt_17 hl (by decide) rfl (fun ls hl => ?_)
  refine lv_iconst (v := iI 2) kx kb dX0_runAt_19 rfl ?_
  subst hQ
  exact tm_iret C () trivial (hP.sub [1, 2, 3, 4, 5, 6, 0] rfl) (hD.sub [1, 2, 3, 4, 5, 6, 0] (by decide) rfl) hS (show 66 ≤ 66 from by omega) (show 170 ≤ 170 from by omega) rfl rfl dX0_runAt_20
set_option maxHeartbeats 4000000 in
set_option maxRecDepth 100000 in
theorem met_X0_partOf_ok (l : Launch) (D : TG) (E : TE) (t : Nat) (a : Nat) (b : Nat) (v : Nat) (n : Nat) (w : Nat) (g : Nat) (P : Nat → Bool) (c : Nat) (v3 : Nat) (n2 : Nat) (S : Nat → Bool) (x : Int) (y : Int) (ou : Nat) (fo : Nat → Int64) (hw : 1 ≤ w ∧ w ≤ 32) (hg : 1 ≤ g ∧ g ≤ 32) (hB : BB P n) (hB2 : BB S n2) (hPz : ∀ j_, w * g ≤ j_ → P j_ = false) (hSz : ∀ j_, w * g ≤ j_ → S j_ = false) (hv : 0 ≤ x ∧ x < w ∧ 0 ≤ y ∧ y < g) : tMetH l yX0_partOf cX0_partOf 5 (some .int) [(0, 10, 13, 19)] 8 205 (4 + 3 * (w * g)) (24 + 40 * (w * g)) [.ref t, .int (iI x), .int (iI y), .ref ou] D E [(t, .inr (1, [.ref a, .ref c])), (a, .inr (2, [.int (iI ((w : Nat) : Int)), .int (iI ((g : Nat) : Int)), .ref b])), (b, .inr (3, [.ref v, .int (iI ((un P : Nat) : Int)), .int (zI false)])), (v, .inl (D.2 2, n, .inr (.inl (wd P)))), (c, .inr (3, [.ref v3, .int (iI ((un S : Nat) : Int)), .int (zI false)])), (v3, .inl (D.2 2, n2, .inr (.inl (wd S)))), (ou, .inl (D.2 2, 1, .inr (.inl fo)))] tY0 (S := Unit) (fun u_ => True) (fun u_ => some (.int (iI 0))) (fun u_ => [(t, .inr (1, [.ref a, .ref c])), (a, .inr (2, [.int (iI ((w : Nat) : Int)), .int (iI ((g : Nat) : Int)), .ref b])), (b, .inr (3, [.ref v, .int (iI ((un P : Nat) : Int)), .int (zI false)])), (v, .inl (D.2 2, n, .inr (.inl (wd P)))), (c, .inr (3, [.ref v3, .int (iI ((un S : Nat) : Int)), .int (zI false)])), (v3, .inl (D.2 2, n2, .inr (.inl (wd S)))), (ou, .inl (D.2 2, 1, .inr (.inl (va_up fo 0 (iI (lbI w g P true (cel w x y))).toInt64))))]) := by
  refine tu_metH (by decide +kernel) (Nat.le_of_ble_eq_true rfl) ?_
  intro p0 e0 s0 m0 below meth c0 A ls args Q hag hQ C hT hK hX hY hP hD hA hAe hl
  obtain ⟨kx, kb, hml, hown, hts, -⟩ := id C
  have hS : va_S A s0.heap s0.heap [] := va_S.rf
  have hl : lv_has ls 5 [(0, .ref t), (1, .int (iI x)), (2, .int (iI y)), (3, .ref ou)] := hl
  have hwg := wg_le hw hg
  have hBn := hB.1
  have hBm := hB.2.1
  have hul := un_le hB
  have hul2 := un_le hB2
  refine lv_aload_n kx kb dX0_partOf_0 rfl (lv_at hl 3 rfl) ?_
  refine lv_iconst (v := iI 0) kx kb dX0_partOf_1 rfl ?_
  refine lv_aload_n kx kb dX0_partOf_2 rfl (lv_at hl 0 rfl) ?_
  refine lv_iload_n kx kb dX0_partOf_3 rfl (lv_at hl 1 rfl) ?_
  refine lv_iload_n kx kb dX0_partOf_4 rfl (lv_at hl 2 rfl) ?_
  refine t_callV (wr := [(ou, .inl (D.2 2, 1, .inr (.inl fo)))]) C (met_X1_partOf_ok l D E t a b v n w g P c v3 n2 S x y (hw) (hg) (hB) (hB2) (hPz) (hSz) (hv)) (cwV 2 hts (lw_V q1348 q1349 q1350 q59 q1351) rfl rfl rfl (by decide +kernel) ⟨Nat.le_of_ble_eq_true rfl, Nat.le_of_ble_eq_true rfl⟩) (va_recv hK hP (ci := 1) (q0 := 0) rfl rfl) hK hX hP hD hS hA [0, 1, 2, 3, 4, 5] [6] rfl rfl (by decide) (by decide) (by decide) tYb_0 (fun _ _ _ => trivial) rfl hl.1 rfl (Nat.le_of_ble_eq_true rfl) dX0_partOf_5 ⟨(show 0 + (4 + 3 * (w * g)) ≤ 4 + 3 * (w * g) from by omega), (show 0 + (24 + 40 * (w * g)) ≤ 24 + 40 * (w * g) from by omega)⟩ (fun u_ H locs hp hP hD hS => ?_)
  have hP : va_P D.1 clAll [(ou, .inl (D.2 2, 1, .inr (.inl fo))), (t, .inr (1, [.ref a, .ref c])), (a, .inr (2, [.int (iI ((w : Nat) : Int)), .int (iI ((g : Nat) : Int)), .ref b])), (b, .inr (3, [.ref v, .int (iI ((un P : Nat) : Int)), .int (zI false)])), (v, .inl (D.2 2, n, .inr (.inl (wd P)))), (c, .inr (3, [.ref v3, .int (iI ((un S : Nat) : Int)), .int (zI false)])), (v3, .inl (D.2 2, n2, .inr (.inl (wd S))))] H := hP
  have hD : va_D A [(ou, .inl (D.2 2, 1, .inr (.inl fo))), (t, .inr (1, [.ref a, .ref c])), (a, .inr (2, [.int (iI ((w : Nat) : Int)), .int (iI ((g : Nat) : Int)), .ref b])), (b, .inr (3, [.ref v, .int (iI ((un P : Nat) : Int)), .int (zI false)])), (v, .inl (D.2 2, n, .inr (.inl (wd P)))), (c, .inr (3, [.ref v3, .int (iI ((un S : Nat) : Int)), .int (zI false)])), (v3, .inl (D.2 2, n2, .inr (.inl (wd S))))] := hD
  refine W.eq (g2 := F0 m0 8 ls [.int (iI (lbI w g P true (cel w x y))), .int (iI 0), .ref ou]) rfl ?_
  refine W.widen (k := 0 + (4 + 3 * (w * g))) (n := 0 + (24 + 40 * (w * g))) (Nat.le_refl _) (Nat.le_refl _) ?_
  refine lv_i2l kx kb dX0_partOf_8 rfl ?_
  refine ta_last C hK hP hD hS 0 rfl 0 (by omega) dX0_partOf_9 (fun H locs hP hD hS => ?_)
  have hP : va_P D.1 clAll [(ou, .inl (D.2 2, 1, .inr (.inl (va_up fo 0 ((iI (lbI w g P true (cel w x y))).toInt64))))), (t, .inr (1, [.ref a, .ref c])), (a, .inr (2, [.int (iI ((w : Nat) : Int)), .int (iI ((g : Nat) : Int)), .ref b])), (b, .inr (3, [.ref v, .int (iI ((un P : Nat) : Int)), .int (zI false)])), (v, .inl (D.2 2, n, .inr (.inl (wd P)))), (c, .inr (3, [.ref v3, .int (iI ((un S : Nat) : Int)), .int (zI false)])), (v3, .inl (D.2 2, n2, .inr (.inl (wd S))))] H := hP
  have hD : va_D A [(ou, .inl (D.2 2, 1, .inr (.inl (va_up fo 0 ((iI (lbI w g P true (cel w x y))).toInt64))))), (t, .inr (1, [.ref a, .ref c])), (a, .inr (2, [.int (iI ((w : Nat) : Int)), .int (iI ((g : Nat) : Int)), .ref b])), (b, .inr (3, [.ref v, .int (iI ((un P : Nat) : Int)), .int (zI false)])), (v, .inl (D.2 2, n, .inr (.inl (wd P)))), (c, .inr (3, [.ref v3, .int (iI ((un S : Nat) : Int)), .int (zI false)])), (v3, .inl (D.2 2, n2, .inr (.inl (wd S))))] := hD
  refine lv_goto (tgt := 17) kx kb dX0_partOf_10 (by decide) ?_
  refine lv_iconst (v := iI 0) kx kb dX0_partOf_17 rfl ?_
  subst hQ
  exact tm_iret C () trivial (hP.sub [1, 2, 3, 4, 5, 6, 0] rfl) (hD.sub [1, 2, 3, 4, 5, 6, 0] (by decide) rfl) hS (show 0 + (4 + 3 * (w * g)) ≤ 4 + 3 * (w * g) from by omega) (show 0 + (24 + 40 * (w * g)) ≤ 24 + 40 * (w * g) from by omega) rfl rfl dX0_partOf_18
set_option maxHeartbeats 4000000 in
set_option maxRecDepth 100000 in
theorem met_X0_partOf_no (l : Launch) (hfl : l.stackTraces = false) (D : TG) (E : TE) (t : Nat) (a : Nat) (b : Nat) (v : Nat) (n : Nat) (w : Nat) (g : Nat) (P : Nat → Bool) (c : Nat) (v3 : Nat) (n2 : Nat) (S : Nat → Bool) (x : Int) (y : Int) (ou : Nat) (fo : Nat → Int64) (hw : 1 ≤ w ∧ w ≤ 32) (hg : 1 ≤ g ∧ g ≤ 32) (hB : BB P n) (hB2 : BB S n2) (hPz : ∀ j_, w * g ≤ j_ → P j_ = false) (hSz : ∀ j_, w * g ≤ j_ → S j_ = false) (rx : -2147483648 ≤ x ∧ x < 2147483648) (ry : -2147483648 ≤ y ∧ y < 2147483648) (hv : ¬ (0 ≤ x ∧ x < w ∧ 0 ≤ y ∧ y < g)) : tMetH l yX0_partOf cX0_partOf 5 (some .int) [(0, 10, 13, 19)] 11 205 (1) (6) [.ref t, .int (iI x), .int (iI y), .ref ou] D E [(t, .inr (1, [.ref a, .ref c])), (a, .inr (2, [.int (iI ((w : Nat) : Int)), .int (iI ((g : Nat) : Int)), .ref b])), (b, .inr (3, [.ref v, .int (iI ((un P : Nat) : Int)), .int (zI false)])), (v, .inl (D.2 2, n, .inr (.inl (wd P)))), (c, .inr (3, [.ref v3, .int (iI ((un S : Nat) : Int)), .int (zI false)])), (v3, .inl (D.2 2, n2, .inr (.inl (wd S)))), (ou, .inl (D.2 2, 1, .inr (.inl fo)))] tY0 (S := Unit) (fun u_ => True) (fun u_ => some (.int (iI 1))) (fun u_ => [(t, .inr (1, [.ref a, .ref c])), (a, .inr (2, [.int (iI ((w : Nat) : Int)), .int (iI ((g : Nat) : Int)), .ref b])), (b, .inr (3, [.ref v, .int (iI ((un P : Nat) : Int)), .int (zI false)])), (v, .inl (D.2 2, n, .inr (.inl (wd P)))), (c, .inr (3, [.ref v3, .int (iI ((un S : Nat) : Int)), .int (zI false)])), (v3, .inl (D.2 2, n2, .inr (.inl (wd S)))), (ou, .inl (D.2 2, 1, .inr (.inl fo)))]) := by
  refine tu_metH (by decide +kernel) (Nat.le_of_ble_eq_true rfl) ?_
  intro p0 e0 s0 m0 below meth c0 A ls args Q hag hQ C hT hK hX hY hP hD hA hAe hl
  obtain ⟨kx, kb, hml, hown, hts, -⟩ := id C
  have hS : va_S A s0.heap s0.heap [] := va_S.rf
  have hl : lv_has ls 5 [(0, .ref t), (1, .int (iI x)), (2, .int (iI y)), (3, .ref ou)] := hl
  have hwg := wg_le hw hg
  have hBn := hB.1
  have hBm := hB.2.1
  have hul := un_le hB
  have hul2 := un_le hB2
  refine lv_aload_n kx kb dX0_partOf_0 rfl (lv_at hl 3 rfl) ?_
  refine lv_iconst (v := iI 0) kx kb dX0_partOf_1 rfl ?_
  refine lv_aload_n kx kb dX0_partOf_2 rfl (lv_at hl 0 rfl) ?_
  refine lv_iload_n kx kb dX0_partOf_3 rfl (lv_at hl 1 rfl) ?_
  refine lv_iload_n kx kb dX0_partOf_4 rfl (lv_at hl 2 rfl) ?_
  refine u_tryV (wr := [(ou, .inl (D.2 2, 1, .inr (.inl fo)))]) (nm := "java/lang/IndexOutOfBoundsException") C [] (⟨0, 10, 13, 19⟩ : ExceptionTableEntry) [] hT (fun _ h_ => nomatch h_) (by decide) (by decide) (hts _ q1198) (va_Nw.use rfl (hX.1 _ q176 rfl)) (met_X1_partOf_no l hfl D E t a b v n w g P c v3 n2 S x y (hw) (hg) (hB) (hB2) (hPz) (hSz) (rx) (ry) (hv)) (cwV 2 hts (lw_V q1348 q1349 q1350 q59 q1351) rfl rfl rfl (by decide +kernel) ⟨Nat.le_of_ble_eq_true rfl, Nat.le_of_ble_eq_true rfl⟩) (va_recv hK hP (ci := 1) (q0 := 0) rfl rfl) hK hX hP hD hS hA [0, 1, 2, 3, 4, 5] [6] rfl rfl (by decide) (by decide) (by decide) rfl hl.1 rfl (Nat.le_of_ble_eq_true rfl) dX0_partOf_5 ⟨(show 1 ≤ 1 from by omega), (show 6 ≤ 6 from by omega)⟩ (fun q9 H locs hP hD hS => ?_)
  have hP : va_P D.1 clAll [(ou, .inl (D.2 2, 1, .inr (.inl fo))), (t, .inr (1, [.ref a, .ref c])), (a, .inr (2, [.int (iI ((w : Nat) : Int)), .int (iI ((g : Nat) : Int)), .ref b])), (b, .inr (3, [.ref v, .int (iI ((un P : Nat) : Int)), .int (zI false)])), (v, .inl (D.2 2, n, .inr (.inl (wd P)))), (c, .inr (3, [.ref v3, .int (iI ((un S : Nat) : Int)), .int (zI false)])), (v3, .inl (D.2 2, n2, .inr (.inl (wd S))))] H := hP
  have hD : va_D A [(ou, .inl (D.2 2, 1, .inr (.inl fo))), (t, .inr (1, [.ref a, .ref c])), (a, .inr (2, [.int (iI ((w : Nat) : Int)), .int (iI ((g : Nat) : Int)), .ref b])), (b, .inr (3, [.ref v, .int (iI ((un P : Nat) : Int)), .int (zI false)])), (v, .inl (D.2 2, n, .inr (.inl (wd P)))), (c, .inr (3, [.ref v3, .int (iI ((un S : Nat) : Int)), .int (zI false)])), (v3, .inl (D.2 2, n2, .inr (.inl (wd S))))] := hD
  refine W.eq (g2 := F0 m0 13 ls [.ref q9]) rfl ?_
  refine W.widen (k := 1) (n := 6) (Nat.le_refl _) (Nat.le_refl _) ?_
  refine lv_astore (lv' := [(4, .ref q9), (0, .ref t), (1, .int (iI x)), (2, .int (iI y)), (3, .ref ou)]) kx kb dX0_partOf_13 hl (by decide) rfl (fun ls hl => ?_)
  refine lv_iconst (v := iI 1) kx kb dX0_partOf_15 rfl ?_
  subst hQ
  exact tm_iret C () trivial (hP.sub [1, 2, 3, 4, 5, 6, 0] rfl) (hD.sub [1, 2, 3, 4, 5, 6, 0] (by decide) rfl) hS (show 1 ≤ 1 from by omega) (show 6 ≤ 6 from by omega) rfl rfl dX0_partOf_16
set_option maxHeartbeats 4000000 in
set_option maxRecDepth 100000 in
theorem met_X0_partSize_ok (l : Launch) (D : TG) (E : TE) (t : Nat) (a : Nat) (b : Nat) (v : Nat) (n : Nat) (w : Nat) (g : Nat) (P : Nat → Bool) (c : Nat) (v3 : Nat) (n2 : Nat) (S : Nat → Bool) (x : Int) (y : Int) (ou : Nat) (fo : Nat → Int64) (hw : 1 ≤ w ∧ w ≤ 32) (hg : 1 ≤ g ∧ g ≤ 32) (hB : BB P n) (hB2 : BB S n2) (hPz : ∀ j_, w * g ≤ j_ → P j_ = false) (hSz : ∀ j_, w * g ≤ j_ → S j_ = false) (hv : 0 ≤ x ∧ x < w ∧ 0 ≤ y ∧ y < g) : tMetH l yX0_partSize cX0_partSize 5 (some .int) [(0, 10, 13, 19)] 8 205 (4 + 3 * (w * g)) (24 + 40 * (w * g)) [.ref t, .int (iI x), .int (iI y), .ref ou] D E [(t, .inr (1, [.ref a, .ref c])), (a, .inr (2, [.int (iI ((w : Nat) : Int)), .int (iI ((g : Nat) : Int)), .ref b])), (b, .inr (3, [.ref v, .int (iI ((un P : Nat) : Int)), .int (zI false)])), (v, .inl (D.2 2, n, .inr (.inl (wd P)))), (c, .inr (3, [.ref v3, .int (iI ((un S : Nat) : Int)), .int (zI false)])), (v3, .inl (D.2 2, n2, .inr (.inl (wd S)))), (ou, .inl (D.2 2, 1, .inr (.inl fo)))] tY0 (S := Unit) (fun u_ => True) (fun u_ => some (.int (iI 0))) (fun u_ => [(t, .inr (1, [.ref a, .ref c])), (a, .inr (2, [.int (iI ((w : Nat) : Int)), .int (iI ((g : Nat) : Int)), .ref b])), (b, .inr (3, [.ref v, .int (iI ((un P : Nat) : Int)), .int (zI false)])), (v, .inl (D.2 2, n, .inr (.inl (wd P)))), (c, .inr (3, [.ref v3, .int (iI ((un S : Nat) : Int)), .int (zI false)])), (v3, .inl (D.2 2, n2, .inr (.inl (wd S)))), (ou, .inl (D.2 2, 1, .inr (.inl (va_up fo 0 (iI (if lbI w g P true (cel w x y) = -1 then 0 else ((sizN w g P true (lbI w g P true (cel w x y)) : Nat) : Int))).toInt64))))]) := by
  refine tu_metH (by decide +kernel) (Nat.le_of_ble_eq_true rfl) ?_
  intro p0 e0 s0 m0 below meth c0 A ls args Q hag hQ C hT hK hX hY hP hD hA hAe hl
  obtain ⟨kx, kb, hml, hown, hts, -⟩ := id C
  have hS : va_S A s0.heap s0.heap [] := va_S.rf
  have hl : lv_has ls 5 [(0, .ref t), (1, .int (iI x)), (2, .int (iI y)), (3, .ref ou)] := hl
  have hwg := wg_le hw hg
  have hBn := hB.1
  have hBm := hB.2.1
  have hul := un_le hB
  have hul2 := un_le hB2
  refine lv_aload_n kx kb dX0_partSize_0 rfl (lv_at hl 3 rfl) ?_
  refine lv_iconst (v := iI 0) kx kb dX0_partSize_1 rfl ?_
  refine lv_aload_n kx kb dX0_partSize_2 rfl (lv_at hl 0 rfl) ?_
  refine lv_iload_n kx kb dX0_partSize_3 rfl (lv_at hl 1 rfl) ?_
  refine lv_iload_n kx kb dX0_partSize_4 rfl (lv_at hl 2 rfl) ?_
  refine t_callV (wr := [(ou, .inl (D.2 2, 1, .inr (.inl fo)))]) C (met_X1_partSize_ok l D E t a b v n w g P c v3 n2 S x y (hw) (hg) (hB) (hB2) (hPz) (hSz) (hv)) (cwV 2 hts (lw_V q1356 q1357 q1358 q59 q1359) rfl rfl rfl (by decide +kernel) ⟨Nat.le_of_ble_eq_true rfl, Nat.le_of_ble_eq_true rfl⟩) (va_recv hK hP (ci := 1) (q0 := 0) rfl rfl) hK hX hP hD hS hA [0, 1, 2, 3, 4, 5] [6] rfl rfl (by decide) (by decide) (by decide) tYb_0 (fun _ _ _ => trivial) rfl hl.1 rfl (Nat.le_of_ble_eq_true rfl) dX0_partSize_5 ⟨(show 0 + (4 + 3 * (w * g)) ≤ 4 + 3 * (w * g) from by omega), (show 0 + (24 + 40 * (w * g)) ≤ 24 + 40 * (w * g) from by omega)⟩ (fun u_ H locs hp hP hD hS => ?_)
  have hP : va_P D.1 clAll [(ou, .inl (D.2 2, 1, .inr (.inl fo))), (t, .inr (1, [.ref a, .ref c])), (a, .inr (2, [.int (iI ((w : Nat) : Int)), .int (iI ((g : Nat) : Int)), .ref b])), (b, .inr (3, [.ref v, .int (iI ((un P : Nat) : Int)), .int (zI false)])), (v, .inl (D.2 2, n, .inr (.inl (wd P)))), (c, .inr (3, [.ref v3, .int (iI ((un S : Nat) : Int)), .int (zI false)])), (v3, .inl (D.2 2, n2, .inr (.inl (wd S))))] H := hP
  have hD : va_D A [(ou, .inl (D.2 2, 1, .inr (.inl fo))), (t, .inr (1, [.ref a, .ref c])), (a, .inr (2, [.int (iI ((w : Nat) : Int)), .int (iI ((g : Nat) : Int)), .ref b])), (b, .inr (3, [.ref v, .int (iI ((un P : Nat) : Int)), .int (zI false)])), (v, .inl (D.2 2, n, .inr (.inl (wd P)))), (c, .inr (3, [.ref v3, .int (iI ((un S : Nat) : Int)), .int (zI false)])), (v3, .inl (D.2 2, n2, .inr (.inl (wd S))))] := hD
  refine W.eq (g2 := F0 m0 8 ls [.int (iI (if lbI w g P true (cel w x y) = -1 then 0 else ((sizN w g P true (lbI w g P true (cel w x y)) : Nat) : Int))), .int (iI 0), .ref ou]) rfl ?_
  refine W.widen (k := 0 + (4 + 3 * (w * g))) (n := 0 + (24 + 40 * (w * g))) (Nat.le_refl _) (Nat.le_refl _) ?_
  refine lv_i2l kx kb dX0_partSize_8 rfl ?_
  refine ta_last C hK hP hD hS 0 rfl 0 (by omega) dX0_partSize_9 (fun H locs hP hD hS => ?_)
  have hP : va_P D.1 clAll [(ou, .inl (D.2 2, 1, .inr (.inl (va_up fo 0 ((iI (if lbI w g P true (cel w x y) = -1 then 0 else ((sizN w g P true (lbI w g P true (cel w x y)) : Nat) : Int))).toInt64))))), (t, .inr (1, [.ref a, .ref c])), (a, .inr (2, [.int (iI ((w : Nat) : Int)), .int (iI ((g : Nat) : Int)), .ref b])), (b, .inr (3, [.ref v, .int (iI ((un P : Nat) : Int)), .int (zI false)])), (v, .inl (D.2 2, n, .inr (.inl (wd P)))), (c, .inr (3, [.ref v3, .int (iI ((un S : Nat) : Int)), .int (zI false)])), (v3, .inl (D.2 2, n2, .inr (.inl (wd S))))] H := hP
  have hD : va_D A [(ou, .inl (D.2 2, 1, .inr (.inl (va_up fo 0 ((iI (if lbI w g P true (cel w x y) = -1 then 0 else ((sizN w g P true (lbI w g P true (cel w x y)) : Nat) : Int))).toInt64))))), (t, .inr (1, [.ref a, .ref c])), (a, .inr (2, [.int (iI ((w : Nat) : Int)), .int (iI ((g : Nat) : Int)), .ref b])), (b, .inr (3, [.ref v, .int (iI ((un P : Nat) : Int)), .int (zI false)])), (v, .inl (D.2 2, n, .inr (.inl (wd P)))), (c, .inr (3, [.ref v3, .int (iI ((un S : Nat) : Int)), .int (zI false)])), (v3, .inl (D.2 2, n2, .inr (.inl (wd S))))] := hD
  refine lv_goto (tgt := 17) kx kb dX0_partSize_10 (by decide) ?_
  refine lv_iconst (v := iI 0) kx kb dX0_partSize_17 rfl ?_
  subst hQ
  exact tm_iret C () trivial (hP.sub [1, 2, 3, 4, 5, 6, 0] rfl) (hD.sub [1, 2, 3, 4, 5, 6, 0] (by decide) rfl) hS (show 0 + (4 + 3 * (w * g)) ≤ 4 + 3 * (w * g) from by omega) (show 0 + (24 + 40 * (w * g)) ≤ 24 + 40 * (w * g) from by omega) rfl rfl dX0_partSize_18
set_option maxHeartbeats 4000000 in
set_option maxRecDepth 100000 in
theorem met_X0_partSize_no (l : Launch) (hfl : l.stackTraces = false) (D : TG) (E : TE) (t : Nat) (a : Nat) (b : Nat) (v : Nat) (n : Nat) (w : Nat) (g : Nat) (P : Nat → Bool) (c : Nat) (v3 : Nat) (n2 : Nat) (S : Nat → Bool) (x : Int) (y : Int) (ou : Nat) (fo : Nat → Int64) (hw : 1 ≤ w ∧ w ≤ 32) (hg : 1 ≤ g ∧ g ≤ 32) (hB : BB P n) (hB2 : BB S n2) (hPz : ∀ j_, w * g ≤ j_ → P j_ = false) (hSz : ∀ j_, w * g ≤ j_ → S j_ = false) (rx : -2147483648 ≤ x ∧ x < 2147483648) (ry : -2147483648 ≤ y ∧ y < 2147483648) (hv : ¬ (0 ≤ x ∧ x < w ∧ 0 ≤ y ∧ y < g)) : tMetH l yX0_partSize cX0_partSize 5 (some .int) [(0, 10, 13, 19)] 11 205 (1) (6) [.ref t, .int (iI x), .int (iI y), .ref ou] D E [(t, .inr (1, [.ref a, .ref c])), (a, .inr (2, [.int (iI ((w : Nat) : Int)), .int (iI ((g : Nat) : Int)), .ref b])), (b, .inr (3, [.ref v, .int (iI ((un P : Nat) : Int)), .int (zI false)])), (v, .inl (D.2 2, n, .inr (.inl (wd P)))), (c, .inr (3, [.ref v3, .int (iI ((un S : Nat) : Int)), .int (zI false)])), (v3, .inl (D.2 2, n2, .inr (.inl (wd S)))), (ou, .inl (D.2 2, 1, .inr (.inl fo)))] tY0 (S := Unit) (fun u_ => True) (fun u_ => some (.int (iI 1))) (fun u_ => [(t, .inr (1, [.ref a, .ref c])), (a, .inr (2, [.int (iI ((w : Nat) : Int)), .int (iI ((g : Nat) : Int)), .ref b])), (b, .inr (3, [.ref v, .int (iI ((un P : Nat) : Int)), .int (zI false)])), (v, .inl (D.2 2, n, .inr (.inl (wd P)))), (c, .inr (3, [.ref v3, .int (iI ((un S : Nat) : Int)), .int (zI false)])), (v3, .inl (D.2 2, n2, .inr (.inl (wd S)))), (ou, .inl (D.2 2, 1, .inr (.inl fo)))]) := by
  refine tu_metH (by decide +kernel) (Nat.le_of_ble_eq_true rfl) ?_
  intro p0 e0 s0 m0 below meth c0 A ls args Q hag hQ C hT hK hX hY hP hD hA hAe hl
  obtain ⟨kx, kb, hml, hown, hts, -⟩ := id C
  have hS : va_S A s0.heap s0.heap [] := va_S.rf
  have hl : lv_has ls 5 [(0, .ref t), (1, .int (iI x)), (2, .int (iI y)), (3, .ref ou)] := hl
  have hwg := wg_le hw hg
  have hBn := hB.1
  have hBm := hB.2.1
  have hul := un_le hB
  have hul2 := un_le hB2
  refine lv_aload_n kx kb dX0_partSize_0 rfl (lv_at hl 3 rfl) ?_
  refine lv_iconst (v := iI 0) kx kb dX0_partSize_1 rfl ?_
  refine lv_aload_n kx kb dX0_partSize_2 rfl (lv_at hl 0 rfl) ?_
  refine lv_iload_n kx kb dX0_partSize_3 rfl (lv_at hl 1 rfl) ?_
  refine lv_iload_n kx kb dX0_partSize_4 rfl (lv_at hl 2 rfl) ?_
  refine u_tryV (wr := [(ou, .inl (D.2 2, 1, .inr (.inl fo)))]) (nm := "java/lang/IndexOutOfBoundsException") C [] (⟨0, 10, 13, 19⟩ : ExceptionTableEntry) [] hT (fun _ h_ => nomatch h_) (by decide) (by decide) (hts _ q1198) (va_Nw.use rfl (hX.1 _ q176 rfl)) (met_X1_partSize_no l hfl D E t a b v n w g P c v3 n2 S x y (hw) (hg) (hB) (hB2) (hPz) (hSz) (rx) (ry) (hv)) (cwV 2 hts (lw_V q1356 q1357 q1358 q59 q1359) rfl rfl rfl (by decide +kernel) ⟨Nat.le_of_ble_eq_true rfl, Nat.le_of_ble_eq_true rfl⟩) (va_recv hK hP (ci := 1) (q0 := 0) rfl rfl) hK hX hP hD hS hA [0, 1, 2, 3, 4, 5] [6] rfl rfl (by decide) (by decide) (by decide) rfl hl.1 rfl (Nat.le_of_ble_eq_true rfl) dX0_partSize_5 ⟨(show 1 ≤ 1 from by omega), (show 6 ≤ 6 from by omega)⟩ (fun q9 H locs hP hD hS => ?_)
  have hP : va_P D.1 clAll [(ou, .inl (D.2 2, 1, .inr (.inl fo))), (t, .inr (1, [.ref a, .ref c])), (a, .inr (2, [.int (iI ((w : Nat) : Int)), .int (iI ((g : Nat) : Int)), .ref b])), (b, .inr (3, [.ref v, .int (iI ((un P : Nat) : Int)), .int (zI false)])), (v, .inl (D.2 2, n, .inr (.inl (wd P)))), (c, .inr (3, [.ref v3, .int (iI ((un S : Nat) : Int)), .int (zI false)])), (v3, .inl (D.2 2, n2, .inr (.inl (wd S))))] H := hP
  have hD : va_D A [(ou, .inl (D.2 2, 1, .inr (.inl fo))), (t, .inr (1, [.ref a, .ref c])), (a, .inr (2, [.int (iI ((w : Nat) : Int)), .int (iI ((g : Nat) : Int)), .ref b])), (b, .inr (3, [.ref v, .int (iI ((un P : Nat) : Int)), .int (zI false)])), (v, .inl (D.2 2, n, .inr (.inl (wd P)))), (c, .inr (3, [.ref v3, .int (iI ((un S : Nat) : Int)), .int (zI false)])), (v3, .inl (D.2 2, n2, .inr (.inl (wd S))))] := hD
  refine W.eq (g2 := F0 m0 13 ls [.ref q9]) rfl ?_
  refine W.widen (k := 1) (n := 6) (Nat.le_refl _) (Nat.le_refl _) ?_
  refine lv_astore (lv' := [(4, .ref q9), (0, .ref t), (1, .int (iI x)), (2, .int (iI y)), (3, .ref ou)]) kx kb dX0_partSize_13 hl (by decide) rfl (fun ls hl => ?_)
  refine lv_iconst (v := iI 1) kx kb dX0_partSize_15 rfl ?_
  subst hQ
  exact tm_iret C () trivial (hP.sub [1, 2, 3, 4, 5, 6, 0] rfl) (hD.sub [1, 2, 3, 4, 5, 6, 0] (by decide) rfl) hS (show 1 ≤ 1 from by omega) (show 6 ≤ 6 from by omega) rfl rfl dX0_partSize_16
