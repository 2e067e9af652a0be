set_option maxRecDepth 100000
set_option maxHeartbeats 4000000 in
set_option maxRecDepth 100000 in
theorem met_X6_join (l : Launch) (D : TG) (E : TE) (o : Nat) (b : Nat) (v : Nat) (n : Nat) (P : Nat → Bool) (c : Nat) (v3 : Nat) (n2 : Nat) (S : Nat → Bool) (hB : BB P n) (hB2 : BB S n2) : tBody l yX6_join cX6_join 3 none 4 107 (gC n (un S)) (gS n (un S)) [.ref o, .ref b, .ref c] D E [(b, .inr (3, [.ref v, .int (iI ((un P : Nat) : Int)), .int (zI false)])), (v, .inl (D.2 2, n, .inr (.inl (wd P)))), (c, .inr (3, [.ref v3, .int (iI ((un S : Nat) : Int)), .int (zI false)])), (v3, .inl (D.2 2, n2, .inr (.inl (wd S))))] tY0 (S := Nat) (fun u_ => True) (fun u_ => none) (fun u_ => [(b, .inr (3, [.ref u_, .int (iI ((un (orB P S) : Nat) : Int)), .int (zI false)])), (u_, .inl (D.2 2, gN n (un S), .inr (.inl (wd (orB P S))))), (c, .inr (3, [.ref v3, .int (iI ((un S : Nat) : Int)), .int (zI false)])), (v3, .inl (D.2 2, n2, .inr (.inl (wd S))))]) := by
  intro p0 e0 s0 m0 below meth c0 A ls args Q hag hQ C hK hX hY hP hD hA hAe hl
  obtain ⟨kx, kb, hml, hown, hts, -⟩ := id C
  have hS : va_S A s0.heap s0.heap [] := va_S.rf
  have hl : lv_has ls 3 [(0, .ref o), (1, .ref b), (2, .ref c)] := hl
  have hBn := hB.1
  have hBm := hB.2.1
  have hul := un_le hB
  have hul2 := un_le hB2
  have hgc := gC_le n (un S)
  have hgs := gS_le (n := n) hul2.2
  refine lv_aload_n kx kb dX6_join_0 rfl (lv_at hl 1 rfl) ?_
  refine lv_aload_n kx kb dX6_join_1 rfl (lv_at hl 2 rfl) ?_
  refine t_callV (wr := []) C (met_J0_or l D E b v n P c v3 n2 S (by first | assumption | omega) (by first | assumption | omega)) (cwV 1 hts (lw_V q1297 q558 q559 q61 q560) rfl rfl rfl (by decide +kernel) ⟨Nat.le_of_ble_eq_true rfl, Nat.le_of_ble_eq_true rfl⟩) (va_recv hK hP (ci := 3) (q0 := 0) rfl rfl) hK hX hP hD hS hA [0, 1, 2, 3] [] rfl rfl (by decide) (by decide) (by decide) tYb_0 (fun _ _ _ => trivial) rfl hl.1 rfl (Nat.le_of_ble_eq_true rfl) dX6_join_2 ⟨(show 0 + (gC n (un S)) ≤ gC n (un S) from by omega), (show 0 + (gS n (un S)) ≤ gS n (un S) from by omega)⟩ (fun u_ H locs hp hP hD hS => ?_)
  obtain ⟨w2_1, rfl⟩ : ∃ z, z = u_ := ⟨_, rfl⟩
  have hP : va_P D.1 clAll [(b, .inr (3, [.ref w2_1, .int (iI ((un (orB P S) : Nat) : Int)), .int (zI false)])), (w2_1, .inl (D.2 2, gN n (un S), .inr (.inl (wd (orB P S))))), (c, .inr (3, [.ref v3, .int (iI ((un S : Nat) : Int)), .int (zI false)])), (v3, .inl (D.2 2, n2, .inr (.inl (wd S))))] H := hP
  have hD : va_D A [(b, .inr (3, [.ref w2_1, .int (iI ((un (orB P S) : Nat) : Int)), .int (zI false)])), (w2_1, .inl (D.2 2, gN n (un S), .inr (.inl (wd (orB P S))))), (c, .inr (3, [.ref v3, .int (iI ((un S : Nat) : Int)), .int (zI false)])), (v3, .inl (D.2 2, n2, .inr (.inl (wd S))))] := hD
  refine W.eq (g2 := F0 m0 5 ls []) rfl ?_
  refine W.widen (k := 0 + (gC n (un S))) (n := 0 + (gS n (un S))) (Nat.le_refl _) (Nat.le_refl _) ?_
  subst hQ
  exact tm_vret C w2_1 trivial hP hD hS (show 0 + (gC n (un S)) ≤ gC n (un S) from by omega) (show 0 + (gS n (un S)) ≤ gS n (un S) from by omega) rfl rfl dX6_join_5
set_option maxHeartbeats 4000000 in
set_option maxRecDepth 100000 in
theorem met_X7_join (l : Launch) (D : TG) (E : TE) (o : Nat) (b : Nat) (v : Nat) (n : Nat) (P : Nat → Bool) (c : Nat) (v3 : Nat) (n2 : Nat) (S : Nat → Bool) (hB : BB P n) (hB2 : BB S n2) : tBody l yX7_join cX7_join 3 none 2 43 (0) (0) [.ref o, .ref b, .ref c] D E [(b, .inr (3, [.ref v, .int (iI ((un P : Nat) : Int)), .int (zI false)])), (v, .inl (D.2 2, n, .inr (.inl (wd P)))), (c, .inr (3, [.ref v3, .int (iI ((un S : Nat) : Int)), .int (zI false)])), (v3, .inl (D.2 2, n2, .inr (.inl (wd S))))] tY0 (S := Unit) (fun u_ => True) (fun u_ => none) (fun u_ => [(b, .inr (3, [.ref v, .int (iI ((un (andB P S) : Nat) : Int)), .int (zI false)])), (v, .inl (D.2 2, n, .inr (.inl (wd (andB P S))))), (c, .inr (3, [.ref v3, .int (iI ((un S : Nat) : Int)), .int (zI false)])), (v3, .inl (D.2 2, n2, .inr (.inl (wd S))))]) := by
  intro p0 e0 s0 m0 below meth c0 A ls args Q hag hQ C hK hX hY hP hD hA hAe hl
  obtain ⟨kx, kb, hml, hown, hts, -⟩ := id C
  have hS : va_S A s0.heap s0.heap [] := va_S.rf
  have hl : lv_has ls 3 [(0, .ref o), (1, .ref b), (2, .ref c)] := hl
  have hBn := hB.1
  have hBm := hB.2.1
  have hul := un_le hB
  have hul2 := un_le hB2
  have hgc := gC_le n (un S)
  have hgs := gS_le (n := n) hul2.2
  refine lv_aload_n kx kb dX7_join_0 rfl (lv_at hl 1 rfl) ?_
  refine lv_aload_n kx kb dX7_join_1 rfl (lv_at hl 2 rfl) ?_
  refine t_callV (wr := []) C (met_J0_and l D E b v n P c v3 n2 S (by first | assumption | omega) (by first | assumption | omega)) (cwV 1 hts (lw_V q1301 q1302 q1303 q61 q1304) rfl rfl rfl (by decide +kernel) ⟨Nat.le_of_ble_eq_true rfl, Nat.le_of_ble_eq_true rfl⟩) (va_recv hK hP (ci := 3) (q0 := 0) rfl rfl) hK hX hP hD hS hA [0, 1, 2, 3] [] rfl rfl (by decide) (by decide) (by decide) tYb_0 (fun _ _ _ => trivial) rfl hl.1 rfl (Nat.le_of_ble_eq_true rfl) dX7_join_2 ⟨(show 0 ≤ 0 from by omega), (show 0 ≤ 0 from by omega)⟩ (fun u_ H locs hp hP hD hS => ?_)
  have hP : va_P D.1 clAll [(b, .inr (3, [.ref v, .int (iI ((un (andB P S) : Nat) : Int)), .int (zI false)])), (v, .inl (D.2 2, n, .inr (.inl (wd (andB P S))))), (c, .inr (3, [.ref v3, .int (iI ((un S : Nat) : Int)), .int (zI false)])), (v3, .inl (D.2 2, n2, .inr (.inl (wd S))))] H := hP
  have hD : va_D A [(b, .inr (3, [.ref v, .int (iI ((un (andB P S) : Nat) : Int)), .int (zI false)])), (v, .inl (D.2 2, n, .inr (.inl (wd (andB P S))))), (c, .inr (3, [.ref v3, .int (iI ((un S : Nat) : Int)), .int (zI false)])), (v3, .inl (D.2 2, n2, .inr (.inl (wd S))))] := hD
  refine W.eq (g2 := F0 m0 5 ls []) rfl ?_
  subst hQ
  exact tm_vret C () trivial hP hD hS (show 0 ≤ 0 from by omega) (show 0 ≤ 0 from by omega) rfl rfl dX7_join_5
set_option maxHeartbeats 4000000 in
set_option maxRecDepth 100000 in
theorem met_X8_join (l : Launch) (D : TG) (E : TE) (o : Nat) (b : Nat) (v : Nat) (n : Nat) (P : Nat → Bool) (c : Nat) (v3 : Nat) (n2 : Nat) (S : Nat → Bool) (hB : BB P n) (hB2 : BB S n2) : tBody l yX8_join cX8_join 3 none 4 107 (gC n (un S)) (gS n (un S)) [.ref o, .ref b, .ref c] D E [(b, .inr (3, [.ref v, .int (iI ((un P : Nat) : Int)), .int (zI false)])), (v, .inl (D.2 2, n, .inr (.inl (wd P)))), (c, .inr (3, [.ref v3, .int (iI ((un S : Nat) : Int)), .int (zI false)])), (v3, .inl (D.2 2, n2, .inr (.inl (wd S))))] tY0 (S := Nat) (fun u_ => True) (fun u_ => none) (fun u_ => [(b, .inr (3, [.ref u_, .int (iI ((un (xorB P S) : Nat) : Int)), .int (zI false)])), (u_, .inl (D.2 2, gN n (un S), .inr (.inl (wd (xorB P S))))), (c, .inr (3, [.ref v3, .int (iI ((un S : Nat) : Int)), .int (zI false)])), (v3, .inl (D.2 2, n2, .inr (.inl (wd S))))]) := by
  intro p0 e0 s0 m0 below meth c0 A ls args Q hag hQ C hK hX hY hP hD hA hAe hl
  obtain ⟨kx, kb, hml, hown, hts, -⟩ := id C
  have hS : va_S A s0.heap s0.heap [] := va_S.rf
  have hl : lv_has ls 3 [(0, .ref o), (1, .ref b), (2, .ref c)] := hl
  have hBn := hB.1
  have hBm := hB.2.1
  have hul := un_le hB
  have hul2 := un_le hB2
  have hgc := gC_le n (un S)
  have hgs := gS_le (n := n) hul2.2
  refine lv_aload_n kx kb dX8_join_0 rfl (lv_at hl 1 rfl) ?_
  refine lv_aload_n kx kb dX8_join_1 rfl (lv_at hl 2 rfl) ?_
  refine t_callV (wr := []) C (met_J0_xor l D E b v n P c v3 n2 S (by first | assumption | omega) (by first | assumption | omega)) (cwV 1 hts (lw_V q1308 q565 q566 q61 q567) rfl rfl rfl (by decide +kernel) ⟨Nat.le_of_ble_eq_true rfl, Nat.le_of_ble_eq_true rfl⟩) (va_recv hK hP (ci := 3) (q0 := 0) rfl rfl) hK hX hP hD hS hA [0, 1, 2, 3] [] rfl rfl (by decide) (by decide) (by decide) tYb_0 (fun _ _ _ => trivial) rfl hl.1 rfl (Nat.le_of_ble_eq_true rfl) dX8_join_2 ⟨(show 0 + (gC n (un S)) ≤ gC n (un S) from by omega), (show 0 + (gS n (un S)) ≤ gS n (un S) from by omega)⟩ (fun u_ H locs hp hP hD hS => ?_)
  obtain ⟨w2_1, rfl⟩ : ∃ z, z = u_ := ⟨_, rfl⟩
  have hP : va_P D.1 clAll [(b, .inr (3, [.ref w2_1, .int (iI ((un (xorB P S) : Nat) : Int)), .int (zI false)])), (w2_1, .inl (D.2 2, gN n (un S), .inr (.inl (wd (xorB P S))))), (c, .inr (3, [.ref v3, .int (iI ((un S : Nat) : Int)), .int (zI false)])), (v3, .inl (D.2 2, n2, .inr (.inl (wd S))))] H := hP
  have hD : va_D A [(b, .inr (3, [.ref w2_1, .int (iI ((un (xorB P S) : Nat) : Int)), .int (zI false)])), (w2_1, .inl (D.2 2, gN n (un S), .inr (.inl (wd (xorB P S))))), (c, .inr (3, [.ref v3, .int (iI ((un S : Nat) : Int)), .int (zI false)])), (v3, .inl (D.2 2, n2, .inr (.inl (wd S))))] := hD
  refine W.eq (g2 := F0 m0 5 ls []) rfl ?_
  refine W.widen (k := 0 + (gC n (un S))) (n := 0 + (gS n (un S))) (Nat.le_refl _) (Nat.le_refl _) ?_
  subst hQ
  exact tm_vret C w2_1 trivial hP hD hS (show 0 + (gC n (un S)) ≤ gC n (un S) from by omega) (show 0 + (gS n (un S)) ≤ gS n (un S) from by omega) rfl rfl dX8_join_5
set_option maxHeartbeats 4000000 in
set_option maxRecDepth 100000 in
theorem met_X9_join (l : Launch) (D : TG) (E : TE) (o : Nat) (b : Nat) (v : Nat) (n : Nat) (P : Nat → Bool) (c : Nat) (v3 : Nat) (n2 : Nat) (S : Nat → Bool) (hB : BB P n) (hB2 : BB S n2) : tBody l yX9_join cX9_join 3 none 2 62 (0) (0) [.ref o, .ref b, .ref c] D E [(b, .inr (3, [.ref v, .int (iI ((un P : Nat) : Int)), .int (zI false)])), (v, .inl (D.2 2, n, .inr (.inl (wd P)))), (c, .inr (3, [.ref v3, .int (iI ((un S : Nat) : Int)), .int (zI false)])), (v3, .inl (D.2 2, n2, .inr (.inl (wd S))))] tY0 (S := Unit) (fun u_ => True) (fun u_ => none) (fun u_ => [(b, .inr (3, [.ref v, .int (iI ((un (anB P S) : Nat) : Int)), .int (zI false)])), (v, .inl (D.2 2, n, .inr (.inl (wd (anB P S))))), (c, .inr (3, [.ref v3, .int (iI ((un S : Nat) : Int)), .int (zI false)])), (v3, .inl (D.2 2, n2, .inr (.inl (wd S))))]) := by
  intro p0 e0 s0 m0 below meth c0 A ls args Q hag hQ C hK hX hY hP hD hA hAe hl
  obtain ⟨kx, kb, hml, hown, hts, -⟩ := id C
  have hS : va_S A s0.heap s0.heap [] := va_S.rf
  have hl : lv_has ls 3 [(0, .ref o), (1, .ref b), (2, .ref c)] := hl
  have hBn := hB.1
  have hBm := hB.2.1
  have hul := un_le hB
  have hul2 := un_le hB2
  have hgc := gC_le n (un S)
  have hgs := gS_le (n := n) hul2.2
  refine lv_aload_n kx kb dX9_join_0 rfl (lv_at hl 1 rfl) ?_
  refine lv_aload_n kx kb dX9_join_1 rfl (lv_at hl 2 rfl) ?_
  refine t_callV (wr := []) C (met_J0_andNot l D E b v n P c v3 n2 S (by first | assumption | omega) (by first | assumption | omega)) (cwV 1 hts (lw_V q1312 q641 q642 q61 q643) rfl rfl rfl (by decide +kernel) ⟨Nat.le_of_ble_eq_true rfl, Nat.le_of_ble_eq_true rfl⟩) (va_recv hK hP (ci := 3) (q0 := 0) rfl rfl) hK hX hP hD hS hA [0, 1, 2, 3] [] rfl rfl (by decide) (by decide) (by decide) tYb_0 (fun _ _ _ => trivial) rfl hl.1 rfl (Nat.le_of_ble_eq_true rfl) dX9_join_2 ⟨(show 0 ≤ 0 from by omega), (show 0 ≤ 0 from by omega)⟩ (fun u_ H locs hp hP hD hS => ?_)
  have hP : va_P D.1 clAll [(b, .inr (3, [.ref v, .int (iI ((un (anB P S) : Nat) : Int)), .int (zI false)])), (v, .inl (D.2 2, n, .inr (.inl (wd (anB P S))))), (c, .inr (3, [.ref v3, .int (iI ((un S : Nat) : Int)), .int (zI false)])), (v3, .inl (D.2 2, n2, .inr (.inl (wd S))))] H := hP
  have hD : va_D A [(b, .inr (3, [.ref v, .int (iI ((un (anB P S) : Nat) : Int)), .int (zI false)])), (v, .inl (D.2 2, n, .inr (.inl (wd (anB P S))))), (c, .inr (3, [.ref v3, .int (iI ((un S : Nat) : Int)), .int (zI false)])), (v3, .inl (D.2 2, n2, .inr (.inl (wd S))))] := hD
  refine W.eq (g2 := F0 m0 5 ls []) rfl ?_
  subst hQ
  exact tm_vret C () trivial hP hD hS (show 0 ≤ 0 from by omega) (show 0 ≤ 0 from by omega) rfl rfl dX9_join_5
set_option maxHeartbeats 4000000 in
set_option maxRecDepth 100000 in
theorem met_X1_join_0 (l : Launch) (D : TG) (E : TE) (t : Nat) (a : Nat) (b : Nat) (v : Nat) (n : Nat) (w : Nat) (g : Nat) (P : Nat → Bool) (c : Nat) (v3 : Nat) (n2 : Nat) (S : Nat → Bool) (hw : 1 ≤ w ∧ w ≤ 32) (hg : 1 ≤ g ∧ g ≤ 32) (hB : BB P n) (hB2 : BB S n2) (hPz : ∀ j_, w * g ≤ j_ → P j_ = false) (hSz : ∀ j_, w * g ≤ j_ → S j_ = false) : tMet l yX1_join cX1_join 2 (some .int) 5 129 (2) (34) [.ref t, .int (iI 0)] D E [(t, .inr (1, [.ref a, .ref c])), (a, .inr (2, [.int (iI ((w : Nat) : Int)), .int (iI ((g : Nat) : Int)), .ref b])), (b, .inr (3, [.ref v, .int (iI ((un P : Nat) : Int)), .int (zI false)])), (v, .inl (D.2 2, n, .inr (.inl (wd P)))), (c, .inr (3, [.ref v3, .int (iI ((un S : Nat) : Int)), .int (zI false)])), (v3, .inl (D.2 2, n2, .inr (.inl (wd S))))] tY0 (S := Nat) (fun u_ => True) (fun u_ => some (.int (iI ((fb_ct (orB P S) 1024 : Nat) : Int)))) (fun u_ => [(t, .inr (1, [.ref a, .ref c])), (a, .inr (2, [.int (iI ((w : Nat) : Int)), .int (iI ((g : Nat) : Int)), .ref b])), (b, .inr (3, [.ref u_, .int (iI ((un (orB P S) : Nat) : Int)), .int (zI false)])), (u_, .inl (D.2 2, gN n (un S), .inr (.inl (wd (orB P S))))), (c, .inr (3, [.ref v3, .int (iI ((un S : Nat) : Int)), .int (zI false)])), (v3, .inl (D.2 2, n2, .inr (.inl (wd S))))]) := by
  refine tu_met (by decide +kernel) (Nat.le_of_ble_eq_true rfl) ?_
  intro p0 e0 s0 m0 below meth c0 A ls args Q hag hQ C hK hX hY hP hD hA hAe hl
  obtain ⟨kx, kb, hml, hown, hts, -⟩ := id C
  have hS : va_S A s0.heap s0.heap [] := va_S.rf
  have hl : lv_has ls 2 [(0, .ref t), (1, .int (iI 0))] := hl
  have hwg := wg_le hw hg
  have hBn := hB.1
  have hBm := hB.2.1
  have hul := un_le hB
  have hul2 := un_le hB2
  have hgc := gC_le n (un S)
  have hgs := gS_le (n := n) hul2.2
  have hBj := BB_or hB hB2
  have hjz : ∀ j_, w * g ≤ j_ → (orB P S) j_ = false := fun j_ h_ => by unfold orB; rw [hPz j_ h_, hSz j_ h_]; rfl
  refine lv_iconst (v := iI 0) kx kb dX1_join_0 rfl ?_
  refine lv_iconst (v := iI 3) kx kb dX1_join_1 rfl ?_
  refine lv_iload_n kx kb dX1_join_2 rfl (lv_at hl 1 rfl) ?_
  refine t_callRS C (met_X1_isIn l D E 0 3 0 (by first | assumption | omega)) (va_cwS 3 hts (lw_S q690 q617 q59 q618) rfl rfl rfl (by decide +kernel) ⟨Nat.le_of_ble_eq_true rfl, Nat.le_of_ble_eq_true rfl⟩) hK hX hP hD hS hA [] rfl (by decide) tYb_0 (fun _ _ _ => trivial) rfl hl.1 rfl (Nat.le_of_ble_eq_true rfl) dX1_join_3 ⟨(show 0 ≤ 2 from by omega), (show 0 ≤ 34 from by omega)⟩ ?_
  refine W.eq (g2 := F0 m0 6 ls [.int (zI (decide (0 ≤ 0 ∧ 0 ≤ 3)))]) rfl ?_
  refine t_callRS C (met_X1_checkArgument_ok l D E (decide (0 ≤ 0 ∧ 0 ≤ 3)) (by decide)) (va_cwS 1 hts (lw_S q1187 q1188 q59 q1189) rfl rfl rfl (by decide +kernel) ⟨Nat.le_of_ble_eq_true rfl, Nat.le_of_ble_eq_true rfl⟩) hK hX hP hD hS hA [] rfl (by decide) tYb_0 (fun _ _ _ => trivial) rfl hl.1 rfl (Nat.le_of_ble_eq_true rfl) dX1_join_6 ⟨(show 0 ≤ 2 from by omega), (show 0 ≤ 34 from by omega)⟩ ?_
  refine W.eq (g2 := F0 m0 9 ls []) rfl ?_
  refine t_callS (wr := [(t, .inr (1, [.ref a, .ref c])), (a, .inr (2, [.int (iI ((w : Nat) : Int)), .int (iI ((g : Nat) : Int)), .ref b])), (b, .inr (3, [.ref v, .int (iI ((un P : Nat) : Int)), .int (zI false)])), (v, .inl (D.2 2, n, .inr (.inl (wd P)))), (c, .inr (3, [.ref v3, .int (iI ((un S : Nat) : Int)), .int (zI false)])), (v3, .inl (D.2 2, n2, .inr (.inl (wd S))))]) C (met_X4_values l D E) (va_cwS 0 hts (lw_S q1280 q1281 q87 q1282) rfl rfl rfl (by decide +kernel) ⟨Nat.le_of_ble_eq_true rfl, Nat.le_of_ble_eq_true rfl⟩) hK hX hP hD hS hA [] [0, 1, 2, 3, 4, 5] rfl rfl (by decide) (by decide) (by decide) tYb_0 (fun _ _ _ => trivial) rfl hl.1 rfl (Nat.le_of_ble_eq_true rfl) dX1_join_9 ⟨(show 1 ≤ 2 from by omega), (show 4 ≤ 34 from by omega)⟩ (fun u_ H locs hp hP hD hS => ?_)
  obtain ⟨q_1, rfl⟩ : ∃ z, z = u_ := ⟨_, rfl⟩
  have hP : va_P D.1 clAll [(t, .inr (1, [.ref a, .ref c])), (a, .inr (2, [.int (iI ((w : Nat) : Int)), .int (iI ((g : Nat) : Int)), .ref b])), (b, .inr (3, [.ref v, .int (iI ((un P : Nat) : Int)), .int (zI false)])), (v, .inl (D.2 2, n, .inr (.inl (wd P)))), (c, .inr (3, [.ref v3, .int (iI ((un S : Nat) : Int)), .int (zI false)])), (v3, .inl (D.2 2, n2, .inr (.inl (wd S)))), (q_1, .inl (D.2 6, 4, .inr (.inr (.inr (.inr (fun k_ => some (E.2.1 k_)))))))] H := hP
  have hD : va_D A [(t, .inr (1, [.ref a, .ref c])), (a, .inr (2, [.int (iI ((w : Nat) : Int)), .int (iI ((g : Nat) : Int)), .ref b])), (b, .inr (3, [.ref v, .int (iI ((un P : Nat) : Int)), .int (zI false)])), (v, .inl (D.2 2, n, .inr (.inl (wd P)))), (c, .inr (3, [.ref v3, .int (iI ((un S : Nat) : Int)), .int (zI false)])), (v3, .inl (D.2 2, n2, .inr (.inl (wd S)))), (q_1, .inl (D.2 6, 4, .inr (.inr (.inr (.inr (fun k_ => some (E.2.1 k_)))))))] := hD
  refine W.eq (g2 := F0 m0 12 ls [.ref q_1]) rfl ?_
  refine W.widen (k := 1) (n := 4) (Nat.le_refl _) (Nat.le_refl _) ?_
  refine lv_iload_n kx kb dX1_join_12 rfl (lv_at hl 1 rfl) ?_
  refine ta_wald C hK hP 6 rfl 0 (by omega) dX1_join_13 ?_
  refine W.eq (g2 := F0 m0 14 ls [.ref (E.2.1 0)]) rfl ?_
  refine lv_aload_n kx kb dX1_join_14 rfl (lv_at hl 0 rfl) ?_
  refine va_get (D := D.1) (ci := 1) (v := .ref a) (C := RX1) (T := TX1) (N := 2) kx kb hts in_X1 hown hK hP 0 rfl rfl 0 (by decide) (hts _ q152) (fun _ h9 => h9) rfl dX1_join_15 ?_
  refine va_getN (D := D.1) (ci := 2) (v := .ref b) (C := RX2) (T := TX2) (N := 3) kx kb hts in_X2 hown hK hP 1 rfl rfl 2 (by decide) (va_Nw.use rfl (hX.1 _ q142 rfl)) (fun _ h9 => h9) rfl dX1_join_18 ?_
  refine lv_aload_n kx kb dX1_join_21 rfl (lv_at hl 0 rfl) ?_
  refine va_get (D := D.1) (ci := 1) (v := .ref c) (C := RX1) (T := TX1) (N := 2) kx kb hts in_X1 hown hK hP 0 rfl rfl 1 (by decide) (hts _ q153) (fun _ h9 => h9) rfl dX1_join_22 ?_
  refine t_callB (n := 2) (wr := [(t, .inr (1, [.ref a, .ref c])), (a, .inr (2, [.int (iI ((w : Nat) : Int)), .int (iI ((g : Nat) : Int)), .ref b])), (q_1, .inl (D.2 6, 4, .inr (.inr (.inr (.inr (fun k_ => some (E.2.1 k_)))))))]) C (met_X6_join l D E (E.2.1 0) b v n P c v3 n2 S (by first | assumption | omega) (by first | assumption | omega)) (by decide +kernel) (Nat.le_of_ble_eq_true rfl) rfl q1291 q1293 (va_Decl.abs (hX.1 _ q1292 rfl)) ⟨by decide +kernel, by decide +kernel⟩ q1294 q1295 q1296 (by decide +kernel) (fun _ => rfl) ⟨Nat.le_of_ble_eq_true rfl, Nat.le_of_ble_eq_true rfl⟩ (tw_at hX hS (k := 0) (by decide)) hK hX hP hD hS hA [2, 3, 4, 5] [0, 1, 6] rfl rfl (by decide) (by decide) (by decide) tYb_0 (fun _ _ _ => trivial) rfl hl.1 rfl (Nat.le_of_ble_eq_true rfl) dX1_join_25 ⟨(show 1 + (gC n (un S)) ≤ 2 from by omega), (show 4 + (gS n (un S)) ≤ 34 from by omega)⟩ (fun u_ H locs hp hP hD hS => ?_)
  obtain ⟨v2_2, rfl⟩ : ∃ z, z = u_ := ⟨_, rfl⟩
  have hP : va_P D.1 clAll [(t, .inr (1, [.ref a, .ref c])), (a, .inr (2, [.int (iI ((w : Nat) : Int)), .int (iI ((g : Nat) : Int)), .ref b])), (q_1, .inl (D.2 6, 4, .inr (.inr (.inr (.inr (fun k_ => some (E.2.1 k_))))))), (b, .inr (3, [.ref v2_2, .int (iI ((un (orB P S) : Nat) : Int)), .int (zI false)])), (v2_2, .inl (D.2 2, gN n (un S), .inr (.inl (wd (orB P S))))), (c, .inr (3, [.ref v3, .int (iI ((un S : Nat) : Int)), .int (zI false)])), (v3, .inl (D.2 2, n2, .inr (.inl (wd S))))] H := hP
  have hD : va_D A [(t, .inr (1, [.ref a, .ref c])), (a, .inr (2, [.int (iI ((w : Nat) : Int)), .int (iI ((g : Nat) : Int)), .ref b])), (q_1, .inl (D.2 6, 4, .inr (.inr (.inr (.inr (fun k_ => some (E.2.1 k_))))))), (b, .inr (3, [.ref v2_2, .int (iI ((un (orB P S) : Nat) : Int)), .int (zI false)])), (v2_2, .inl (D.2 2, gN n (un S), .inr (.inl (wd (orB P S))))), (c, .inr (3, [.ref v3, .int (iI ((un S : Nat) : Int)), .int (zI false)])), (v3, .inl (D.2 2, n2, .inr (.inl (wd S))))] := hD
  refine W.eq (g2 := F0 m0 28 ls []) rfl ?_
  refine W.widen (k := 1 + (gC n (un S))) (n := 4 + (gS n (un S))) (Nat.le_refl _) (Nat.le_refl _) ?_
  refine lv_aload_n kx kb dX1_join_28 rfl (lv_at hl 0 rfl) ?_
  refine t_callRV C (met_X1_ink l D E t a b v2_2 (gN n (un S)) w g (orB P S) c v3 n2 S (by first | assumption | omega) (by first | assumption | omega) (hBj) (by first | assumption | omega) (hjz) (by first | assumption | omega)) (cwV 0 hts (lw_V q531 q532 q533 q59 q534) rfl rfl rfl (by decide +kernel) ⟨Nat.le_of_ble_eq_true rfl, Nat.le_of_ble_eq_true rfl⟩) (va_recv hK hP (ci := 1) (q0 := 0) rfl rfl) hK hX hP hD hS hA [0, 1, 3, 4, 5, 6] rfl (by decide) tYb_0 (fun _ _ _ => trivial) rfl hl.1 rfl (Nat.le_of_ble_eq_true rfl) dX1_join_29 ⟨(show 1 + (gC n (un S)) ≤ 2 from by omega), (show 4 + (gS n (un S)) ≤ 34 from by omega)⟩ ?_
  refine W.eq (g2 := F0 m0 32 ls [.int (iI ((fb_ct (orB P S) 1024 : Nat) : Int))]) rfl ?_
  subst hQ
  exact tm_iret C v2_2 trivial (hP.sub [0, 1, 3, 4, 5, 6] rfl) (hD.sub [0, 1, 3, 4, 5, 6] (by decide) rfl) hS (show 1 + (gC n (un S)) ≤ 2 from by omega) (show 4 + (gS n (un S)) ≤ 34 from by omega) rfl rfl dX1_join_32
set_option maxHeartbeats 4000000 in
set_option maxRecDepth 100000 in
theorem met_X1_join_1 (l : Launch) (D : TG) (E : TE) (t : Nat) (a : Nat) (b : Nat) (v : Nat) (n : Nat) (w : Nat) (g : Nat) (P : Nat → Bool) (c : Nat) (v3 : Nat) (n2 : Nat) (S : Nat → Bool) (hw : 1 ≤ w ∧ w ≤ 32) (hg : 1 ≤ g ∧ g ≤ 32) (hB : BB P n) (hB2 : BB S n2) (hPz : ∀ j_, w * g ≤ j_ → P j_ = false) (hSz : ∀ j_, w * g ≤ j_ → S j_ = false) : tMet l yX1_join cX1_join 2 (some .int) 3 79 (2) (34) [.ref t, .int (iI 1)] D E [(t, .inr (1, [.ref a, .ref c])), (a, .inr (2, [.int (iI ((w : Nat) : Int)), .int (iI ((g : Nat) : Int)), .ref b])), (b, .inr (3, [.ref v, .int (iI ((un P : Nat) : Int)), .int (zI false)])), (v, .inl (D.2 2, n, .inr (.inl (wd P)))), (c, .inr (3, [.ref v3, .int (iI ((un S : Nat) : Int)), .int (zI false)])), (v3, .inl (D.2 2, n2, .inr (.inl (wd S))))] tY0 (S := Unit) (fun u_ => True) (fun u_ => some (.int (iI ((fb_ct (andB P S) 1024 : Nat) : Int)))) (fun u_ => [(t, .inr (1, [.ref a, .ref c])), (a, .inr (2, [.int (iI ((w : Nat) : Int)), .int (iI ((g : Nat) : Int)), .ref b])), (b, .inr (3, [.ref v, .int (iI ((un (andB P S) : Nat) : Int)), .int (zI false)])), (v, .inl (D.2 2, n, .inr (.inl (wd (andB P S))))), (c, .inr (3, [.ref v3, .int (iI ((un S : Nat) : Int)), .int (zI false)])), (v3, .inl (D.2 2, n2, .inr (.inl (wd S))))]) := by
  refine tu_met (by decide +kernel) (Nat.le_of_ble_eq_true rfl) ?_
  intro p0 e0 s0 m0 below meth c0 A ls args Q hag hQ C hK hX hY hP hD hA hAe hl
  obtain ⟨kx, kb, hml, hown, hts, -⟩ := id C
  have hS : va_S A s0.heap s0.heap [] := va_S.rf
  have hl : lv_has ls 2 [(0, .ref t), (1, .int (iI 1))] := hl
  have hwg := wg_le hw hg
  have hBn := hB.1
  have hBm := hB.2.1
  have hul := un_le hB
  have hul2 := un_le hB2
  have hgc := gC_le n (un S)
  have hgs := gS_le (n := n) hul2.2
  have hBj := BB_and hB (Q := S)
  have hjz : ∀ j_, w * g ≤ j_ → (andB P S) j_ = false := fun j_ h_ => by unfold andB; rw [hPz j_ h_]; rfl
  refine lv_iconst (v := iI 0) kx kb dX1_join_0 rfl ?_
  refine lv_iconst (v := iI 3) kx kb dX1_join_1 rfl ?_
  refine lv_iload_n kx kb dX1_join_2 rfl (lv_at hl 1 rfl) ?_
  refine t_callRS C (met_X1_isIn l D E 0 3 1 (by first | assumption | omega)) (va_cwS 3 hts (lw_S q690 q617 q59 q618) rfl rfl rfl (by decide +kernel) ⟨Nat.le_of_ble_eq_true rfl, Nat.le_of_ble_eq_true rfl⟩) hK hX hP hD hS hA [] rfl (by decide) tYb_0 (fun _ _ _ => trivial) rfl hl.1 rfl (Nat.le_of_ble_eq_true rfl) dX1_join_3 ⟨(show 0 ≤ 2 from by omega), (show 0 ≤ 34 from by omega)⟩ ?_
  refine W.eq (g2 := F0 m0 6 ls [.int (zI (decide (0 ≤ 1 ∧ 1 ≤ 3)))]) rfl ?_
  refine t_callRS C (met_X1_checkArgument_ok l D E (decide (0 ≤ 1 ∧ 1 ≤ 3)) (by decide)) (va_cwS 1 hts (lw_S q1187 q1188 q59 q1189) rfl rfl rfl (by decide +kernel) ⟨Nat.le_of_ble_eq_true rfl, Nat.le_of_ble_eq_true rfl⟩) hK hX hP hD hS hA [] rfl (by decide) tYb_0 (fun _ _ _ => trivial) rfl hl.1 rfl (Nat.le_of_ble_eq_true rfl) dX1_join_6 ⟨(show 0 ≤ 2 from by omega), (show 0 ≤ 34 from by omega)⟩ ?_
  refine W.eq (g2 := F0 m0 9 ls []) rfl ?_
  refine t_callS (wr := [(t, .inr (1, [.ref a, .ref c])), (a, .inr (2, [.int (iI ((w : Nat) : Int)), .int (iI ((g : Nat) : Int)), .ref b])), (b, .inr (3, [.ref v, .int (iI ((un P : Nat) : Int)), .int (zI false)])), (v, .inl (D.2 2, n, .inr (.inl (wd P)))), (c, .inr (3, [.ref v3, .int (iI ((un S : Nat) : Int)), .int (zI false)])), (v3, .inl (D.2 2, n2, .inr (.inl (wd S))))]) C (met_X4_values l D E) (va_cwS 0 hts (lw_S q1280 q1281 q87 q1282) rfl rfl rfl (by decide +kernel) ⟨Nat.le_of_ble_eq_true rfl, Nat.le_of_ble_eq_true rfl⟩) hK hX hP hD hS hA [] [0, 1, 2, 3, 4, 5] rfl rfl (by decide) (by decide) (by decide) tYb_0 (fun _ _ _ => trivial) rfl hl.1 rfl (Nat.le_of_ble_eq_true rfl) dX1_join_9 ⟨(show 1 ≤ 2 from by omega), (show 4 ≤ 34 from by omega)⟩ (fun u_ H locs hp hP hD hS => ?_)
  obtain ⟨q_1, rfl⟩ : ∃ z, z = u_ := ⟨_, rfl⟩
  have hP : va_P D.1 clAll [(t, .inr (1, [.ref a, .ref c])), (a, .inr (2, [.int (iI ((w : Nat) : Int)), .int (iI ((g : Nat) : Int)), .ref b])), (b, .inr (3, [.ref v, .int (iI ((un P : Nat) : Int)), .int (zI false)])), (v, .inl (D.2 2, n, .inr (.inl (wd P)))), (c, .inr (3, [.ref v3, .int (iI ((un S : Nat) : Int)), .int (zI false)])), (v3, .inl (D.2 2, n2, .inr (.inl (wd S)))), (q_1, .inl (D.2 6, 4, .inr (.inr (.inr (.inr (fun k_ => some (E.2.1 k_)))))))] H := hP
  have hD : va_D A [(t, .inr (1, [.ref a, .ref c])), (a, .inr (2, [.int (iI ((w : Nat) : Int)), .int (iI ((g : Nat) : Int)), .ref b])), (b, .inr (3, [.ref v, .int (iI ((un P : Nat) : Int)), .int (zI false)])), (v, .inl (D.2 2, n, .inr (.inl (wd P)))), (c, .inr (3, [.ref v3, .int (iI ((un S : Nat) : Int)), .int (zI false)])), (v3, .inl (D.2 2, n2, .inr (.inl (wd S)))), (q_1, .inl (D.2 6, 4, .inr (.inr (.inr (.inr (fun k_ => some (E.2.1 k_)))))))] := hD
  refine W.eq (g2 := F0 m0 12 ls [.ref q_1]) rfl ?_
  refine W.widen (k := 1) (n := 4) (Nat.le_refl _) (Nat.le_refl _) ?_
  refine lv_iload_n kx kb dX1_join_12 rfl (lv_at hl 1 rfl) ?_
  refine ta_wald C hK hP 6 rfl 1 (by omega) dX1_join_13 ?_
  refine W.eq (g2 := F0 m0 14 ls [.ref (E.2.1 1)]) rfl ?_
  refine lv_aload_n kx kb dX1_join_14 rfl (lv_at hl 0 rfl) ?_
  refine va_get (D := D.1) (ci := 1) (v := .ref a) (C := RX1) (T := TX1) (N := 2) kx kb hts in_X1 hown hK hP 0 rfl rfl 0 (by decide) (hts _ q152) (fun _ h9 => h9) rfl dX1_join_15 ?_
  refine va_getN (D := D.1) (ci := 2) (v := .ref b) (C := RX2) (T := TX2) (N := 3) kx kb hts in_X2 hown hK hP 1 rfl rfl 2 (by decide) (va_Nw.use rfl (hX.1 _ q142 rfl)) (fun _ h9 => h9) rfl dX1_join_18 ?_
  refine lv_aload_n kx kb dX1_join_21 rfl (lv_at hl 0 rfl) ?_
  refine va_get (D := D.1) (ci := 1) (v := .ref c) (C := RX1) (T := TX1) (N := 2) kx kb hts in_X1 hown hK hP 0 rfl rfl 1 (by decide) (hts _ q153) (fun _ h9 => h9) rfl dX1_join_22 ?_
  refine t_callB (n := 2) (wr := [(t, .inr (1, [.ref a, .ref c])), (a, .inr (2, [.int (iI ((w : Nat) : Int)), .int (iI ((g : Nat) : Int)), .ref b])), (q_1, .inl (D.2 6, 4, .inr (.inr (.inr (.inr (fun k_ => some (E.2.1 k_)))))))]) C (met_X7_join l D E (E.2.1 1) b v n P c v3 n2 S (by first | assumption | omega) (by first | assumption | omega)) (by decide +kernel) (Nat.le_of_ble_eq_true rfl) rfl q1291 q1293 (va_Decl.abs (hX.1 _ q1292 rfl)) ⟨by decide +kernel, by decide +kernel⟩ q1298 q1299 q1300 (by decide +kernel) (fun _ => rfl) ⟨Nat.le_of_ble_eq_true rfl, Nat.le_of_ble_eq_true rfl⟩ (tw_at hX hS (k := 1) (by decide)) hK hX hP hD hS hA [2, 3, 4, 5] [0, 1, 6] rfl rfl (by decide) (by decide) (by decide) tYb_0 (fun _ _ _ => trivial) rfl hl.1 rfl (Nat.le_of_ble_eq_true rfl) dX1_join_25 ⟨(show 1 ≤ 2 from by omega), (show 4 ≤ 34 from by omega)⟩ (fun u_ H locs hp hP hD hS => ?_)
  have hP : va_P D.1 clAll [(t, .inr (1, [.ref a, .ref c])), (a, .inr (2, [.int (iI ((w : Nat) : Int)), .int (iI ((g : Nat) : Int)), .ref b])), (q_1, .inl (D.2 6, 4, .inr (.inr (.inr (.inr (fun k_ => some (E.2.1 k_))))))), (b, .inr (3, [.ref v, .int (iI ((un (andB P S) : Nat) : Int)), .int (zI false)])), (v, .inl (D.2 2, n, .inr (.inl (wd (andB P S))))), (c, .inr (3, [.ref v3, .int (iI ((un S : Nat) : Int)), .int (zI false)])), (v3, .inl (D.2 2, n2, .inr (.inl (wd S))))] H := hP
  have hD : va_D A [(t, .inr (1, [.ref a, .ref c])), (a, .inr (2, [.int (iI ((w : Nat) : Int)), .int (iI ((g : Nat) : Int)), .ref b])), (q_1, .inl (D.2 6, 4, .inr (.inr (.inr (.inr (fun k_ => some (E.2.1 k_))))))), (b, .inr (3, [.ref v, .int (iI ((un (andB P S) : Nat) : Int)), .int (zI false)])), (v, .inl (D.2 2, n, .inr (.inl (wd (andB P S))))), (c, .inr (3, [.ref v3, .int (iI ((un S : Nat) : Int)), .int (zI false)])), (v3, .inl (D.2 2, n2, .inr (.inl (wd S))))] := hD
  refine W.eq (g2 := F0 m0 28 ls []) rfl ?_
  refine lv_aload_n kx kb dX1_join_28 rfl (lv_at hl 0 rfl) ?_
  refine t_callRV C (met_X1_ink l D E t a b v n w g (andB P S) c v3 n2 S (by first | assumption | omega) (by first | assumption | omega) (hBj) (by first | assumption | omega) (hjz) (by first | assumption | omega)) (cwV 0 hts (lw_V q531 q532 q533 q59 q534) rfl rfl rfl (by decide +kernel) ⟨Nat.le_of_ble_eq_true rfl, Nat.le_of_ble_eq_true rfl⟩) (va_recv hK hP (ci := 1) (q0 := 0) rfl rfl) hK hX hP hD hS hA [0, 1, 3, 4, 5, 6] rfl (by decide) tYb_0 (fun _ _ _ => trivial) rfl hl.1 rfl (Nat.le_of_ble_eq_true rfl) dX1_join_29 ⟨(show 1 ≤ 2 from by omega), (show 4 ≤ 34 from by omega)⟩ ?_
  refine W.eq (g2 := F0 m0 32 ls [.int (iI ((fb_ct (andB P S) 1024 : Nat) : Int))]) rfl ?_
  subst hQ
  exact tm_iret C () trivial (hP.sub [0, 1, 3, 4, 5, 6] rfl) (hD.sub [0, 1, 3, 4, 5, 6] (by decide) rfl) hS (show 1 ≤ 2 from by omega) (show 4 ≤ 34 from by omega) rfl rfl dX1_join_32
set_option maxHeartbeats 4000000 in
set_option maxRecDepth 100000 in
theorem met_X1_join_2 (l : Launch) (D : TG) (E : TE) (t : Nat) (a : Nat) (b : Nat) (v : Nat) (n : Nat) (w : Nat) (g : Nat) (P : Nat → Bool) (c : Nat) (v3 : Nat) (n2 : Nat) (S : Nat → Bool) (hw : 1 ≤ w ∧ w ≤ 32) (hg : 1 ≤ g ∧ g ≤ 32) (hB : BB P n) (hB2 : BB S n2) (hPz : ∀ j_, w * g ≤ j_ → P j_ = false) (hSz : ∀ j_, w * g ≤ j_ → S j_ = false) : tMet l yX1_join cX1_join 2 (some .int) 5 129 (2) (34) [.ref t, .int (iI 2)] D E [(t, .inr (1, [.ref a, .ref c])), (a, .inr (2, [.int (iI ((w : Nat) : Int)), .int (iI ((g : Nat) : Int)), .ref b])), (b, .inr (3, [.ref v, .int (iI ((un P : Nat) : Int)), .int (zI false)])), (v, .inl (D.2 2, n, .inr (.inl (wd P)))), (c, .inr (3, [.ref v3, .int (iI ((un S : Nat) : Int)), .int (zI false)])), (v3, .inl (D.2 2, n2, .inr (.inl (wd S))))] tY0 (S := Nat) (fun u_ => True) (fun u_ => some (.int (iI ((fb_ct (xorB P S) 1024 : Nat) : Int)))) (fun u_ => [(t, .inr (1, [.ref a, .ref c])), (a, .inr (2, [.int (iI ((w : Nat) : Int)), .int (iI ((g : Nat) : Int)), .ref b])), (b, .inr (3, [.ref u_, .int (iI ((un (xorB P S) : Nat) : Int)), .int (zI false)])), (u_, .inl (D.2 2, gN n (un S), .inr (.inl (wd (xorB P S))))), (c, .inr (3, [.ref v3, .int (iI ((un S : Nat) : Int)), .int (zI false)])), (v3, .inl (D.2 2, n2, .inr (.inl (wd S))))]) := by
  refine tu_met (by decide +kernel) (Nat.le_of_ble_eq_true rfl) ?_
  intro p0 e0 s0 m0 below meth c0 A ls args Q hag hQ C hK hX hY hP hD hA hAe hl
  obtain ⟨kx, kb, hml, hown, hts, -⟩ := id C
  have hS : va_S A s0.heap s0.heap [] := va_S.rf
  have hl : lv_has ls 2 [(0, .ref t), (1, .int (iI 2))] := hl
  have hwg := wg_le hw hg
  have hBn := hB.1
  have hBm := hB.2.1
  have hul := un_le hB
  have hul2 := un_le hB2
  have hgc := gC_le n (un S)
  have hgs := gS_le (n := n) hul2.2
  have hBj := BB_xor hB hB2
  have hjz : ∀ j_, w * g ≤ j_ → (xorB P S) j_ = false := fun j_ h_ => by unfold xorB; rw [hPz j_ h_, hSz j_ h_]; rfl
  refine lv_iconst (v := iI 0) kx kb dX1_join_0 rfl ?_
  refine lv_iconst (v := iI 3) kx kb dX1_join_1 rfl ?_
  refine lv_iload_n kx kb dX1_join_2 rfl (lv_at hl 1 rfl) ?_
  refine t_callRS C (met_X1_isIn l D E 0 3 2 (by first | assumption | omega)) (va_cwS 3 hts (lw_S q690 q617 q59 q618) rfl rfl rfl (by decide +kernel) ⟨Nat.le_of_ble_eq_true rfl, Nat.le_of_ble_eq_true rfl⟩) hK hX hP hD hS hA [] rfl (by decide) tYb_0 (fun _ _ _ => trivial) rfl hl.1 rfl (Nat.le_of_ble_eq_true rfl) dX1_join_3 ⟨(show 0 ≤ 2 from by omega), (show 0 ≤ 34 from by omega)⟩ ?_
  refine W.eq (g2 := F0 m0 6 ls [.int (zI (decide (0 ≤ 2 ∧ 2 ≤ 3)))]) rfl ?_
  refine t_callRS C (met_X1_checkArgument_ok l D E (decide (0 ≤ 2 ∧ 2 ≤ 3)) (by decide)) (va_cwS 1 hts (lw_S q1187 q1188 q59 q1189) rfl rfl rfl (by decide +kernel) ⟨Nat.le_of_ble_eq_true rfl, Nat.le_of_ble_eq_true rfl⟩) hK hX hP hD hS hA [] rfl (by decide) tYb_0 (fun _ _ _ => trivial) rfl hl.1 rfl (Nat.le_of_ble_eq_true rfl) dX1_join_6 ⟨(show 0 ≤ 2 from by omega), (show 0 ≤ 34 from by omega)⟩ ?_
  refine W.eq (g2 := F0 m0 9 ls []) rfl ?_
  refine t_callS (wr := [(t, .inr (1, [.ref a, .ref c])), (a, .inr (2, [.int (iI ((w : Nat) : Int)), .int (iI ((g : Nat) : Int)), .ref b])), (b, .inr (3, [.ref v, .int (iI ((un P : Nat) : Int)), .int (zI false)])), (v, .inl (D.2 2, n, .inr (.inl (wd P)))), (c, .inr (3, [.ref v3, .int (iI ((un S : Nat) : Int)), .int (zI false)])), (v3, .inl (D.2 2, n2, .inr (.inl (wd S))))]) C (met_X4_values l D E) (va_cwS 0 hts (lw_S q1280 q1281 q87 q1282) rfl rfl rfl (by decide +kernel) ⟨Nat.le_of_ble_eq_true rfl, Nat.le_of_ble_eq_true rfl⟩) hK hX hP hD hS hA [] [0, 1, 2, 3, 4, 5] rfl rfl (by decide) (by decide) (by decide) tYb_0 (fun _ _ _ => trivial) rfl hl.1 rfl (Nat.le_of_ble_eq_true rfl) dX1_join_9 ⟨(show 1 ≤ 2 from by omega), (show 4 ≤ 34 from by omega)⟩ (fun u_ H locs hp hP hD hS => ?_)
  obtain ⟨q_1, rfl⟩ : ∃ z, z = u_ := ⟨_, rfl⟩
  have hP : va_P D.1 clAll [(t, .inr (1, [.ref a, .ref c])), (a, .inr (2, [.int (iI ((w : Nat) : Int)), .int (iI ((g : Nat) : Int)), .ref b])), (b, .inr (3, [.ref v, .int (iI ((un P : Nat) : Int)), .int (zI false)])), (v, .inl (D.2 2, n, .inr (.inl (wd P)))), (c, .inr (3, [.ref v3, .int (iI ((un S : Nat) : Int)), .int (zI false)])), (v3, .inl (D.2 2, n2, .inr (.inl (wd S)))), (q_1, .inl (D.2 6, 4, .inr (.inr (.inr (.inr (fun k_ => some (E.2.1 k_)))))))] H := hP
  have hD : va_D A [(t, .inr (1, [.ref a, .ref c])), (a, .inr (2, [.int (iI ((w : Nat) : Int)), .int (iI ((g : Nat) : Int)), .ref b])), (b, .inr (3, [.ref v, .int (iI ((un P : Nat) : Int)), .int (zI false)])), (v, .inl (D.2 2, n, .inr (.inl (wd P)))), (c, .inr (3, [.ref v3, .int (iI ((un S : Nat) : Int)), .int (zI false)])), (v3, .inl (D.2 2, n2, .inr (.inl (wd S)))), (q_1, .inl (D.2 6, 4, .inr (.inr (.inr (.inr (fun k_ => some (E.2.1 k_)))))))] := hD
  refine W.eq (g2 := F0 m0 12 ls [.ref q_1]) rfl ?_
  refine W.widen (k := 1) (n := 4) (Nat.le_refl _) (Nat.le_refl _) ?_
  refine lv_iload_n kx kb dX1_join_12 rfl (lv_at hl 1 rfl) ?_
  refine ta_wald C hK hP 6 rfl 2 (by omega) dX1_join_13 ?_
  refine W.eq (g2 := F0 m0 14 ls [.ref (E.2.1 2)]) rfl ?_
  refine lv_aload_n kx kb dX1_join_14 rfl (lv_at hl 0 rfl) ?_
  refine va_get (D := D.1) (ci := 1) (v := .ref a) (C := RX1) (T := TX1) (N := 2) kx kb hts in_X1 hown hK hP 0 rfl rfl 0 (by decide) (hts _ q152) (fun _ h9 => h9) rfl dX1_join_15 ?_
  refine va_getN (D := D.1) (ci := 2) (v := .ref b) (C := RX2) (T := TX2) (N := 3) kx kb hts in_X2 hown hK hP 1 rfl rfl 2 (by decide) (va_Nw.use rfl (hX.1 _ q142 rfl)) (fun _ h9 => h9) rfl dX1_join_18 ?_
  refine lv_aload_n kx kb dX1_join_21 rfl (lv_at hl 0 rfl) ?_
  refine va_get (D := D.1) (ci := 1) (v := .ref c) (C := RX1) (T := TX1) (N := 2) kx kb hts in_X1 hown hK hP 0 rfl rfl 1 (by decide) (hts _ q153) (fun _ h9 => h9) rfl dX1_join_22 ?_
  refine t_callB (n := 2) (wr := [(t, .inr (1, [.ref a, .ref c])), (a, .inr (2, [.int (iI ((w : Nat) : Int)), .int (iI ((g : Nat) : Int)), .ref b])), (q_1, .inl (D.2 6, 4, .inr (.inr (.inr (.inr (fun k_ => some (E.2.1 k_)))))))]) C (met_X8_join l D E (E.2.1 2) b v n P c v3 n2 S (by first | assumption | omega) (by first | assumption | omega)) (by decide +kernel) (Nat.le_of_ble_eq_true rfl) rfl q1291 q1293 (va_Decl.abs (hX.1 _ q1292 rfl)) ⟨by decide +kernel, by decide +kernel⟩ q1305 q1306 q1307 (by decide +kernel) (fun _ => rfl) ⟨Nat.le_of_ble_eq_true rfl, Nat.le_of_ble_eq_true rfl⟩ (tw_at hX hS (k := 2) (by decide)) hK hX hP hD hS hA [2, 3, 4, 5] [0, 1, 6] rfl rfl (by decide) (by decide) (by decide) tYb_0 (fun _ _ _ => trivial) rfl hl.1 rfl (Nat.le_of_ble_eq_true rfl) dX1_join_25 ⟨(show 1 + (gC n (un S)) ≤ 2 from by omega), (show 4 + (gS n (un S)) ≤ 34 from by omega)⟩ (fun u_ H locs hp hP hD hS => ?_)
  obtain ⟨v2_2, rfl⟩ : ∃ z, z = u_ := ⟨_, rfl⟩
  have hP : va_P D.1 clAll [(t, .inr (1, [.ref a, .ref c])), (a, .inr (2, [.int (iI ((w : Nat) : Int)), .int (iI ((g : Nat) : Int)), .ref b])), (q_1, .inl (D.2 6, 4, .inr (.inr (.inr (.inr (fun k_ => some (E.2.1 k_))))))), (b, .inr (3, [.ref v2_2, .int (iI ((un (xorB P S) : Nat) : Int)), .int (zI false)])), (v2_2, .inl (D.2 2, gN n (un S), .inr (.inl (wd (xorB P S))))), (c, .inr (3, [.ref v3, .int (iI ((un S : Nat) : Int)), .int (zI false)])), (v3, .inl (D.2 2, n2, .inr (.inl (wd S))))] H := hP
  have hD : va_D A [(t, .inr (1, [.ref a, .ref c])), (a, .inr (2, [.int (iI ((w : Nat) : Int)), .int (iI ((g : Nat) : Int)), .ref b])), (q_1, .inl (D.2 6, 4, .inr (.inr (.inr (.inr (fun k_ => some (E.2.1 k_))))))), (b, .inr (3, [.ref v2_2, .int (iI ((un (xorB P S) : Nat) : Int)), .int (zI false)])), (v2_2, .inl (D.2 2, gN n (un S), .inr (.inl (wd (xorB P S))))), (c, .inr (3, [.ref v3, .int (iI ((un S : Nat) : Int)), .int (zI false)])), (v3, .inl (D.2 2, n2, .inr (.inl (wd S))))] := hD
  refine W.eq (g2 := F0 m0 28 ls []) rfl ?_
  refine W.widen (k := 1 + (gC n (un S))) (n := 4 + (gS n (un S))) (Nat.le_refl _) (Nat.le_refl _) ?_
  refine lv_aload_n kx kb dX1_join_28 rfl (lv_at hl 0 rfl) ?_
  refine t_callRV C (met_X1_ink l D E t a b v2_2 (gN n (un S)) w g (xorB P S) c v3 n2 S (by first | assumption | omega) (by first | assumption | omega) (hBj) (by first | assumption | omega) (hjz) (by first | assumption | omega)) (cwV 0 hts (lw_V q531 q532 q533 q59 q534) rfl rfl rfl (by decide +kernel) ⟨Nat.le_of_ble_eq_true rfl, Nat.le_of_ble_eq_true rfl⟩) (va_recv hK hP (ci := 1) (q0 := 0) rfl rfl) hK hX hP hD hS hA [0, 1, 3, 4, 5, 6] rfl (by decide) tYb_0 (fun _ _ _ => trivial) rfl hl.1 rfl (Nat.le_of_ble_eq_true rfl) dX1_join_29 ⟨(show 1 + (gC n (un S)) ≤ 2 from by omega), (show 4 + (gS n (un S)) ≤ 34 from by omega)⟩ ?_
  refine W.eq (g2 := F0 m0 32 ls [.int (iI ((fb_ct (xorB P S) 1024 : Nat) : Int))]) rfl ?_
  subst hQ
  exact tm_iret C v2_2 trivial (hP.sub [0, 1, 3, 4, 5, 6] rfl) (hD.sub [0, 1, 3, 4, 5, 6] (by decide) rfl) hS (show 1 + (gC n (un S)) ≤ 2 from by omega) (show 4 + (gS n (un S)) ≤ 34 from by omega) rfl rfl dX1_join_32
set_option maxHeartbeats 4000000 in
set_option maxRecDepth 100000 in
theorem met_X1_join_3 (l : Launch) (D : TG) (E : TE) (t : Nat) (a : Nat) (b : Nat) (v : Nat) (n : Nat) (w : Nat) (g : Nat) (P : Nat → Bool) (c : Nat) (v3 : Nat) (n2 : Nat) (S : Nat → Bool) (hw : 1 ≤ w ∧ w ≤ 32) (hg : 1 ≤ g ∧ g ≤ 32) (hB : BB P n) (hB2 : BB S n2) (hPz : ∀ j_, w * g ≤ j_ → P j_ = false) (hSz : ∀ j_, w * g ≤ j_ → S j_ = false) : tMet l yX1_join cX1_join 2 (some .int) 3 84 (2) (34) [.ref t, .int (iI 3)] D E [(t, .inr (1, [.ref a, .ref c])), (a, .inr (2, [.int (iI ((w : Nat) : Int)), .int (iI ((g : Nat) : Int)), .ref b])), (b, .inr (3, [.ref v, .int (iI ((un P : Nat) : Int)), .int (zI false)])), (v, .inl (D.2 2, n, .inr (.inl (wd P)))), (c, .inr (3, [.ref v3, .int (iI ((un S : Nat) : Int)), .int (zI false)])), (v3, .inl (D.2 2, n2, .inr (.inl (wd S))))] tY0 (S := Unit) (fun u_ => True) (fun u_ => some (.int (iI ((fb_ct (anB P S) 1024 : Nat) : Int)))) (fun u_ => [(t, .inr (1, [.ref a, .ref c])), (a, .inr (2, [.int (iI ((w : Nat) : Int)), .int (iI ((g : Nat) : Int)), .ref b])), (b, .inr (3, [.ref v, .int (iI ((un (anB P S) : Nat) : Int)), .int (zI false)])), (v, .inl (D.2 2, n, .inr (.inl (wd (anB P S))))), (c, .inr (3, [.ref v3, .int (iI ((un S : Nat) : Int)), .int (zI false)])), (v3, .inl (D.2 2, n2, .inr (.inl (wd S))))]) := by
  refine tu_met (by decide +kernel) (Nat.le_of_ble_eq_true rfl) ?_
  intro p0 e0 s0 m0 below meth c0 A ls args Q hag hQ C hK hX hY hP hD hA hAe hl
  obtain ⟨kx, kb, hml, hown, hts, -⟩ := id C
  have hS : va_S A s0.heap s0.heap [] := va_S.rf
  have hl : lv_has ls 2 [(0, .ref t), (1, .int (iI 3))] := hl
  have hwg := wg_le hw hg
  have hBn := hB.1
  have hBm := hB.2.1
  have hul := un_le hB
  have hul2 := un_le hB2
  have hgc := gC_le n (un S)
  have hgs := gS_le (n := n) hul2.2
  have hBj := BB_an hB (Q := S)
  have hjz : ∀ j_, w * g ≤ j_ → (anB P S) j_ = false := fun j_ h_ => by unfold anB; rw [hPz j_ h_]; rfl
  refine lv_iconst (v := iI 0) kx kb dX1_join_0 rfl ?_
  refine lv_iconst (v := iI 3) kx kb dX1_join_1 rfl ?_
  refine lv_iload_n kx kb dX1_join_2 rfl (lv_at hl 1 rfl) ?_
  refine t_callRS C (met_X1_isIn l D E 0 3 3 (by first | assumption | omega)) (va_cwS 3 hts (lw_S q690 q617 q59 q618) rfl rfl rfl (by decide +kernel) ⟨Nat.le_of_ble_eq_true rfl, Nat.le_of_ble_eq_true rfl⟩) hK hX hP hD hS hA [] rfl (by decide) tYb_0 (fun _ _ _ => trivial) rfl hl.1 rfl (Nat.le_of_ble_eq_true rfl) dX1_join_3 ⟨(show 0 ≤ 2 from by omega), (show 0 ≤ 34 from by omega)⟩ ?_
  refine W.eq (g2 := F0 m0 6 ls [.int (zI (decide (0 ≤ 3 ∧ 3 ≤ 3)))]) rfl ?_
  refine t_callRS C (met_X1_checkArgument_ok l D E (decide (0 ≤ 3 ∧ 3 ≤ 3)) (by decide)) (va_cwS 1 hts (lw_S q1187 q1188 q59 q1189) rfl rfl rfl (by decide +kernel) ⟨Nat.le_of_ble_eq_true rfl, Nat.le_of_ble_eq_true rfl⟩) hK hX hP hD hS hA [] rfl (by decide) tYb_0 (fun _ _ _ => trivial) rfl hl.1 rfl (Nat.le_of_ble_eq_true rfl) dX1_join_6 ⟨(show 0 ≤ 2 from by omega), (show 0 ≤ 34 from by omega)⟩ ?_
  refine W.eq (g2 := F0 m0 9 ls []) rfl ?_
  refine t_callS (wr := [(t, .inr (1, [.ref a, .ref c])), (a, .inr (2, [.int (iI ((w : Nat) : Int)), .int (iI ((g : Nat) : Int)), .ref b])), (b, .inr (3, [.ref v, .int (iI ((un P : Nat) : Int)), .int (zI false)])), (v, .inl (D.2 2, n, .inr (.inl (wd P)))), (c, .inr (3, [.ref v3, .int (iI ((un S : Nat) : Int)), .int (zI false)])), (v3, .inl (D.2 2, n2, .inr (.inl (wd S))))]) C (met_X4_values l D E) (va_cwS 0 hts (lw_S q1280 q1281 q87 q1282) rfl rfl rfl (by decide +kernel) ⟨Nat.le_of_ble_eq_true rfl, Nat.le_of_ble_eq_true rfl⟩) hK hX hP hD hS hA [] [0, 1, 2, 3, 4, 5] rfl rfl (by decide) (by decide) (by decide) tYb_0 (fun _ _ _ => trivial) rfl hl.1 rfl (Nat.le_of_ble_eq_true rfl) dX1_join_9 ⟨(show 1 ≤ 2 from by omega), (show 4 ≤ 34 from by omega)⟩ (fun u_ H locs hp hP hD hS => ?_)
  obtain ⟨q_1, rfl⟩ : ∃ z, z = u_ := ⟨_, rfl⟩
  have hP : va_P D.1 clAll [(t, .inr (1, [.ref a, .ref c])), (a, .inr (2, [.int (iI ((w : Nat) : Int)), .int (iI ((g : Nat) : Int)), .ref b])), (b, .inr (3, [.ref v, .int (iI ((un P : Nat) : Int)), .int (zI false)])), (v, .inl (D.2 2, n, .inr (.inl (wd P)))), (c, .inr (3, [.ref v3, .int (iI ((un S : Nat) : Int)), .int (zI false)])), (v3, .inl (D.2 2, n2, .inr (.inl (wd S)))), (q_1, .inl (D.2 6, 4, .inr (.inr (.inr (.inr (fun k_ => some (E.2.1 k_)))))))] H := hP
  have hD : va_D A [(t, .inr (1, [.ref a, .ref c])), (a, .inr (2, [.int (iI ((w : Nat) : Int)), .int (iI ((g : Nat) : Int)), .ref b])), (b, .inr (3, [.ref v, .int (iI ((un P : Nat) : Int)), .int (zI false)])), (v, .inl (D.2 2, n, .inr (.inl (wd P)))), (c, .inr (3, [.ref v3, .int (iI ((un S : Nat) : Int)), .int (zI false)])), (v3, .inl (D.2 2, n2, .inr (.inl (wd S)))), (q_1, .inl (D.2 6, 4, .inr (.inr (.inr (.inr (fun k_ => some (E.2.1 k_)))))))] := hD
  refine W.eq (g2 := F0 m0 12 ls [.ref q_1]) rfl ?_
  refine W.widen (k := 1) (n := 4) (Nat.le_refl _) (Nat.le_refl _) ?_
  refine lv_iload_n kx kb dX1_join_12 rfl (lv_at hl 1 rfl) ?_
  refine ta_wald C hK hP 6 rfl 3 (by omega) dX1_join_13 ?_
  refine W.eq (g2 := F0 m0 14 ls [.ref (E.2.1 3)]) rfl ?_
  refine lv_aload_n kx kb dX1_join_14 rfl (lv_at hl 0 rfl) ?_
  refine va_get (D := D.1) (ci := 1) (v := .ref a) (C := RX1) (T := TX1) (N := 2) kx kb hts in_X1 hown hK hP 0 rfl rfl 0 (by decide) (hts _ q152) (fun _ h9 => h9) rfl dX1_join_15 ?_
  refine va_getN (D := D.1) (ci := 2) (v := .ref b) (C := RX2) (T := TX2) (N := 3) kx kb hts in_X2 hown hK hP 1 rfl rfl 2 (by decide) (va_Nw.use rfl (hX.1 _ q142 rfl)) (fun _ h9 => h9) rfl dX1_join_18 ?_
  refine lv_aload_n kx kb dX1_join_21 rfl (lv_at hl 0 rfl) ?_
  refine va_get (D := D.1) (ci := 1) (v := .ref c) (C := RX1) (T := TX1) (N := 2) kx kb hts in_X1 hown hK hP 0 rfl rfl 1 (by decide) (hts _ q153) (fun _ h9 => h9) rfl dX1_join_22 ?_
  refine t_callB (n := 2) (wr := [(t, .inr (1, [.ref a, .ref c])), (a, .inr (2, [.int (iI ((w : Nat) : Int)), .int (iI ((g : Nat) : Int)), .ref b])), (q_1, .inl (D.2 6, 4, .inr (.inr (.inr (.inr (fun k_ => some (E.2.1 k_)))))))]) C (met_X9_join l D E (E.2.1 3) b v n P c v3 n2 S (by first | assumption | omega) (by first | assumption | omega)) (by decide +kernel) (Nat.le_of_ble_eq_true rfl) rfl q1291 q1293 (va_Decl.abs (hX.1 _ q1292 rfl)) ⟨by decide +kernel, by decide +kernel⟩ q1309 q1310 q1311 (by decide +kernel) (fun _ => rfl) ⟨Nat.le_of_ble_eq_true rfl, Nat.le_of_ble_eq_true rfl⟩ (tw_at hX hS (k := 3) (by decide)) hK hX hP hD hS hA [2, 3, 4, 5] [0, 1, 6] rfl rfl (by decide) (by decide) (by decide) tYb_0 (fun _ _ _ => trivial) rfl hl.1 rfl (Nat.le_of_ble_eq_true rfl) dX1_join_25 ⟨(show 1 ≤ 2 from by omega), (show 4 ≤ 34 from by omega)⟩ (fun u_ H locs hp hP hD hS => ?_)
  have hP : va_P D.1 clAll [(t, .inr (1, [.ref a, .ref c])), (a, .inr (2, [.int (iI ((w : Nat) : Int)), .int (iI ((g : Nat) : Int)), .ref b])), (q_1, .inl (D.2 6, 4, .inr (.inr (.inr (.inr (fun k_ => some (E.2.1 k_))))))), (b, .inr (3, [.ref v, .int (iI ((un (anB P S) : Nat) : Int)), .int (zI false)])), (v, .inl (D.2 2, n, .inr (.inl (wd (anB P S))))), (c, .inr (3, [.ref v3, .int (iI ((un S : Nat) : Int)), .int (zI false)])), (v3, .inl (D.2 2, n2, .inr (.inl (wd S))))] H := hP
  have hD : va_D A [(t, .inr (1, [.ref a, .ref c])), (a, .inr (2, [.int (iI ((w : Nat) : Int)), .int (iI ((g : Nat) : Int)), .ref b])), (q_1, .inl (D.2 6, 4, .inr (.inr (.inr (.inr (fun k_ => some (E.2.1 k_))))))), (b, .inr (3, [.ref v, .int (iI ((un (anB P S) : Nat) : Int)), .int (zI false)])), (v, .inl (D.2 2, n, .inr (.inl (wd (anB P S))))), (c, .inr (3, [.ref v3, .int (iI ((un S : Nat) : Int)), .int (zI false)])), (v3, .inl (D.2 2, n2, .inr (.inl (wd S))))] := hD
  refine W.eq (g2 := F0 m0 28 ls []) rfl ?_
  refine lv_aload_n kx kb dX1_join_28 rfl (lv_at hl 0 rfl) ?_
  refine t_callRV C (met_X1_ink l D E t a b v n w g (anB P S) c v3 n2 S (by first | assumption | omega) (by first | assumption | omega) (hBj) (by first | assumption | omega) (hjz) (by first | assumption | omega)) (cwV 0 hts (lw_V q531 q532 q533 q59 q534) rfl rfl rfl (by decide +kernel) ⟨Nat.le_of_ble_eq_true rfl, Nat.le_of_ble_eq_true rfl⟩) (va_recv hK hP (ci := 1) (q0 := 0) rfl rfl) hK hX hP hD hS hA [0, 1, 3, 4, 5, 6] rfl (by decide) tYb_0 (fun _ _ _ => trivial) rfl hl.1 rfl (Nat.le_of_ble_eq_true rfl) dX1_join_29 ⟨(show 1 ≤ 2 from by omega), (show 4 ≤ 34 from by omega)⟩ ?_
  refine W.eq (g2 := F0 m0 32 ls [.int (iI ((fb_ct (anB P S) 1024 : Nat) : Int))]) rfl ?_
  subst hQ
  exact tm_iret C () trivial (hP.sub [0, 1, 3, 4, 5, 6] rfl) (hD.sub [0, 1, 3, 4, 5, 6] (by decide) rfl) hS (show 1 ≤ 2 from by omega) (show 4 ≤ 34 from by omega) rfl rfl dX1_join_32
