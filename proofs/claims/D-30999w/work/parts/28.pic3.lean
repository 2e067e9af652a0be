set_option maxRecDepth 100000
set_option maxHeartbeats 4000000 in
set_option maxRecDepth 100000 in
theorem met_X2_thins (l : Launch) (D : TG) (E : TE) (a : Nat) (b : Nat) (v : Nat) (n : Nat) (w : Nat) (g : Nat) (P : Nat → Bool) (sec : Bool) (hw : 1 ≤ w ∧ w ≤ 32) (hg : 1 ≤ g ∧ g ≤ 32) (hB : BB P n) (hPz : ∀ j_, w * g ≤ j_ → P j_ = false) : tMet l yX2_thins cX2_thins 4 (some .boolean) 6 150 (2 + fb_ct (thn w g (!sec) P) (w * g)) (4 + 30 * fb_ct (thn w g (!sec) P) (w * g)) [.ref a, .int (zI sec)] D E [(a, .inr (2, [.int (iI ((w : Nat) : Int)), .int (iI ((g : Nat) : Int)), .ref b])), (b, .inr (3, [.ref v, .int (iI ((un P : Nat) : Int)), .int (zI false)])), (v, .inl (D.2 2, n, .inr (.inl (wd P))))] tY0 (S := Unit) (fun u_ => True) (fun u_ => some (.int (zI (fb_ct (thn w g (!sec) P) (w * g) != 0)))) (fun u_ => [(a, .inr (2, [.int (iI ((w : Nat) : Int)), .int (iI ((g : Nat) : Int)), .ref b])), (b, .inr (3, [.ref v, .int (iI ((un (hlf w g (!sec) P) : Nat) : Int)), .int (zI false)])), (v, .inl (D.2 2, n, .inr (.inl (wd (hlf w g (!sec) P)))))]) := by
  refine tu_met (by decide +kernel) (Nat.le_of_ble_eq_true rfl) ?_
  intro p0 e0 s0 m0 below meth c0 A ls args Q hag hQ C hK hX hY hP hD hA hAe hl
  obtain ⟨kx, kb, hml, hown, hts, -⟩ := id C
  have hS : va_S A s0.heap s0.heap [] := va_S.rf
  have hl : lv_has ls 4 [(0, .ref a), (1, .int (zI sec))] := hl
  have hwg := wg_le hw hg
  have hBn := hB.1
  have hBm := hB.2.1
  have hul := un_le hB
  refine va_new (D := D.1) (ci := 3) (fs := [.null, .int (iI 0), .int (zI false)]) (C := RJ0) (T := TJ0) (N := 3) kx kb hts in_J0 tyJ0 tyJ0_ok hown (hts _ q109) (hts _ q110) (hts _ q61) hK hP hD hS hA rfl (fun j hj => by rcases (show j = 0 ∨ j = 1 ∨ j = 2 by omega) with rfl | rfl | rfl <;> rfl) (show 1 ≤ 2 + fb_ct (thn w g (!sec) P) (w * g) from by omega) (show 3 ≤ 4 + 30 * fb_ct (thn w g (!sec) P) (w * g) from by omega) dX2_thins_0 (fun q_1 H hP hD hS => ?_)
  have hP : va_P D.1 clAll [(a, .inr (2, [.int (iI ((w : Nat) : Int)), .int (iI ((g : Nat) : Int)), .ref b])), (b, .inr (3, [.ref v, .int (iI ((un P : Nat) : Int)), .int (zI false)])), (v, .inl (D.2 2, n, .inr (.inl (wd P)))), (q_1, .inr (3, [.null, .int (iI 0), .int (zI false)]))] H := hP
  have hD : va_D A [(a, .inr (2, [.int (iI ((w : Nat) : Int)), .int (iI ((g : Nat) : Int)), .ref b])), (b, .inr (3, [.ref v, .int (iI ((un P : Nat) : Int)), .int (zI false)])), (v, .inl (D.2 2, n, .inr (.inl (wd P)))), (q_1, .inr (3, [.null, .int (iI 0), .int (zI false)]))] := hD
  refine lv_dup kx kb dX2_thins_3 rfl ?_
  refine t_callI (wr := [(a, .inr (2, [.int (iI ((w : Nat) : Int)), .int (iI ((g : Nat) : Int)), .ref b])), (b, .inr (3, [.ref v, .int (iI ((un P : Nat) : Int)), .int (zI false)])), (v, .inl (D.2 2, n, .inr (.inl (wd P))))]) C (met_J0_init l D E q_1) (cwI 0 hts (lw_meth q113) rfl rfl rfl (hts _ q61) (hts _ q111) (hts _ q112) rfl (by decide +kernel) ⟨Nat.le_of_ble_eq_true rfl, Nat.le_of_ble_eq_true rfl⟩) hK hX hP hD hS hA [3] [0, 1, 2] rfl rfl (by decide) (by decide) (by decide) tYb_0 (fun _ _ _ => trivial) rfl hl.1 rfl (Nat.le_of_ble_eq_true rfl) dX2_thins_4 ⟨(show 2 ≤ 2 + fb_ct (thn w g (!sec) P) (w * g) from by omega), (show 4 ≤ 4 + 30 * fb_ct (thn w g (!sec) P) (w * g) from by omega)⟩ (fun u_ H locs hp hP hD hS => ?_)
  obtain ⟨w_2, rfl⟩ : ∃ z, z = u_ := ⟨_, rfl⟩
  have hP : va_P D.1 clAll [(a, .inr (2, [.int (iI ((w : Nat) : Int)), .int (iI ((g : Nat) : Int)), .ref b])), (b, .inr (3, [.ref v, .int (iI ((un P : Nat) : Int)), .int (zI false)])), (v, .inl (D.2 2, n, .inr (.inl (wd P)))), (q_1, .inr (3, [.ref w_2, .int (iI ((un (fun _ => false) : Nat) : Int)), .int (zI false)])), (w_2, .inl (D.2 2, 1, .inr (.inl (wd (fun _ => false)))))] H := hP
  have hD : va_D A [(a, .inr (2, [.int (iI ((w : Nat) : Int)), .int (iI ((g : Nat) : Int)), .ref b])), (b, .inr (3, [.ref v, .int (iI ((un P : Nat) : Int)), .int (zI false)])), (v, .inl (D.2 2, n, .inr (.inl (wd P)))), (q_1, .inr (3, [.ref w_2, .int (iI ((un (fun _ => false) : Nat) : Int)), .int (zI false)])), (w_2, .inl (D.2 2, 1, .inr (.inl (wd (fun _ => false)))))] := hD
  refine W.eq (g2 := F0 m0 7 ls [.ref q_1]) rfl ?_
  refine W.widen (k := 2) (n := 4) (Nat.le_refl _) (Nat.le_refl _) ?_
  refine lv_astore_n (lv' := [(2, .ref q_1), (0, .ref a), (1, .int (zI sec))]) kx kb dX2_thins_7 rfl hl (by decide) rfl (fun ls hl => ?_)
  refine lv_aload_n kx kb dX2_thins_8 rfl (lv_at hl 1 rfl) ?_
  refine va_get (D := D.1) (ci := 2) (v := .ref b) (C := RX2) (T := TX2) (N := 3) kx kb hts in_X2 hown hK hP 0 rfl rfl 2 (by decide) (hts _ q141) (fun _ h9 => h9) rfl dX2_thins_9 ?_
  refine lv_iconst (v := iI 0) kx kb dX2_thins_12 rfl ?_
  refine t_callRV C (met_J0_nextSetBit l D E b v n P 0 (by first | assumption | omega) (by first | assumption | omega)) (cwV 1 hts (lw_V q582 q583 q584 q61 q585) rfl rfl rfl (by decide +kernel) ⟨Nat.le_of_ble_eq_true rfl, Nat.le_of_ble_eq_true rfl⟩) (va_recv hK hP (ci := 3) (q0 := 1) rfl rfl) hK hX hP hD hS hA [1, 2] rfl (by decide) tYb_0 (fun _ _ _ => trivial) rfl hl.1 rfl (Nat.le_of_ble_eq_true rfl) dX2_thins_13 ⟨(show 2 ≤ 2 + fb_ct (thn w g (!sec) P) (w * g) from by omega), (show 4 ≤ 4 + 30 * fb_ct (thn w g (!sec) P) (w * g) from by omega)⟩ ?_
  refine W.eq (g2 := F0 m0 16 ls [.int (iI (nxt P 0))]) rfl ?_
  refine lv_istore_n (lv' := [(3, .int (iI (nxt P 0))), (2, .ref q_1), (0, .ref a), (1, .int (zI sec))]) kx kb dX2_thins_16 rfl hl (by decide) rfl (fun ls hl => ?_)
  have cut17 : ∀ (fuel : Nat) (z : Int) (dv : Nat) (nd : Nat) (i : Nat), (z = nxt P i ∧ i ≤ 1024) → (BB (dmI w g (!sec) P i) nd) → (1024 - i) < fuel → ∀ (H : Heap) (locs : List Loc), va_P D.1 clAll [(a, .inr (2, [.int (iI ((w : Nat) : Int)), .int (iI ((g : Nat) : Int)), .ref b])), (b, .inr (3, [.ref v, .int (iI ((un P : Nat) : Int)), .int (zI false)])), (v, .inl (D.2 2, n, .inr (.inl (wd P)))), (q_1, .inr (3, [.ref dv, .int (iI ((un (dmI w g (!sec) P i) : Nat) : Int)), .int (zI false)])), (dv, .inl (D.2 2, nd, .inr (.inl (wd (dmI w g (!sec) P i)))))] H → va_D A [(a, .inr (2, [.int (iI ((w : Nat) : Int)), .int (iI ((g : Nat) : Int)), .ref b])), (b, .inr (3, [.ref v, .int (iI ((un P : Nat) : Int)), .int (zI false)])), (v, .inl (D.2 2, n, .inr (.inl (wd P)))), (q_1, .inr (3, [.ref dv, .int (iI ((un (dmI w g (!sec) P i) : Nat) : Int)), .int (zI false)])), (dv, .inl (D.2 2, nd, .inr (.inl (wd (dmI w g (!sec) P i)))))] → va_S A s0.heap H locs → ∀ ls : Array Slot, lv_has ls 4 [(3, .int (iI z)), (2, .ref q_1), (0, .ref a), (1, .int (zI sec))] → W p0 l e0 ({ frames := 6, cells := 2 + fb_ct (thn w g (!sec) P) (w * g), slots := 4 + 30 * fb_ct (thn w g (!sec) P) (w * g), locals := 150 } : Room) s0 m0 args below meth c0 H locs (0 + 1 + 1 + fb_ct (thn w g (!sec) P) i) (0 + 3 + 1 + 30 * fb_ct (thn w g (!sec) P) i) Q (F0 m0 17 ls []) := by
    intro fuel
    induction fuel with
    | zero =>
      intro z dv nd i hz hnd hfuel17
      exact absurd hfuel17 (Nat.not_lt_zero _)
    | succ fuel ih17 =>
      intro z dv nd i hz hnd hfuel17 H locs hP hD hS ls hl
      have hnx := nxt_rng P hz.2
      rw [← hz.1] at hnx
      refine lv_iload_n kx kb dX2_thins_17 rfl (lv_at hl 0 rfl) ?_
      refine ti_if_lt (tgt := 46) kx kb (by omega) dX2_thins_18 (by decide) (fun h18 => ?_) (fun h18 => ?_)
      · have hng := nxt_neg hz.1 hz.2 h18
        have hte := thn_ext (b := !sec) hPz hng (by omega)
        refine lv_aload_n kx kb dX2_thins_46 rfl (lv_at hl 2 rfl) ?_
        refine va_get (D := D.1) (ci := 2) (v := .ref b) (C := RX2) (T := TX2) (N := 3) kx kb hts in_X2 hown hK hP 0 rfl rfl 2 (by decide) (hts _ q141) (fun _ h9 => h9) rfl dX2_thins_47 ?_
        refine lv_aload_n kx kb dX2_thins_50 rfl (lv_at hl 1 rfl) ?_
        refine t_callV (wr := [(a, .inr (2, [.int (iI ((w : Nat) : Int)), .int (iI ((g : Nat) : Int)), .ref b]))]) C (met_J0_andNot l D E b v n P q_1 dv nd (dmI w g (!sec) P i) (by first | assumption | omega) (hnd)) (cwV 1 hts (lw_V q640 q641 q642 q61 q643) rfl rfl rfl (by decide +kernel) ⟨Nat.le_of_ble_eq_true rfl, Nat.le_of_ble_eq_true rfl⟩) (va_recv hK hP (ci := 3) (q0 := 1) rfl rfl) hK hX hP hD hS hA [1, 2, 3, 4] [0] rfl rfl (by decide) (by decide) (by decide) tYb_0 (fun _ _ _ => trivial) rfl hl.1 rfl (Nat.le_of_ble_eq_true rfl) dX2_thins_51 ⟨(show 0 + 1 + 1 + fb_ct (thn w g (!sec) P) i ≤ 2 + fb_ct (thn w g (!sec) P) (w * g) from by omega), (show 0 + 3 + 1 + 30 * fb_ct (thn w g (!sec) P) i ≤ 4 + 30 * fb_ct (thn w g (!sec) P) (w * g) from by omega)⟩ (fun u_ H locs hp hP hD hS => ?_)
        have hP : va_P D.1 clAll [(a, .inr (2, [.int (iI ((w : Nat) : Int)), .int (iI ((g : Nat) : Int)), .ref b])), (b, .inr (3, [.ref v, .int (iI ((un (anB P (dmI w g (!sec) P i)) : Nat) : Int)), .int (zI false)])), (v, .inl (D.2 2, n, .inr (.inl (wd (anB P (dmI w g (!sec) P i)))))), (q_1, .inr (3, [.ref dv, .int (iI ((un (dmI w g (!sec) P i) : Nat) : Int)), .int (zI false)])), (dv, .inl (D.2 2, nd, .inr (.inl (wd (dmI w g (!sec) P i)))))] H := hP
        have hD : va_D A [(a, .inr (2, [.int (iI ((w : Nat) : Int)), .int (iI ((g : Nat) : Int)), .ref b])), (b, .inr (3, [.ref v, .int (iI ((un (anB P (dmI w g (!sec) P i)) : Nat) : Int)), .int (zI false)])), (v, .inl (D.2 2, n, .inr (.inl (wd (anB P (dmI w g (!sec) P i)))))), (q_1, .inr (3, [.ref dv, .int (iI ((un (dmI w g (!sec) P i) : Nat) : Int)), .int (zI false)])), (dv, .inl (D.2 2, nd, .inr (.inl (wd (dmI w g (!sec) P i)))))] := hD
        refine W.eq (g2 := F0 m0 54 ls []) rfl ?_
        have hP : va_P D.1 clAll [(a, .inr (2, [.int (iI ((w : Nat) : Int)), .int (iI ((g : Nat) : Int)), .ref b])), (b, .inr (3, [.ref v, .int (iI ((un (hlf w g (!sec) P) : Nat) : Int)), .int (zI false)])), (v, .inl (D.2 2, n, .inr (.inl (wd (hlf w g (!sec) P))))), (q_1, .inr (3, [.ref dv, .int (iI ((un (dmI w g (!sec) P i) : Nat) : Int)), .int (zI false)])), (dv, .inl (D.2 2, nd, .inr (.inl (wd (dmI w g (!sec) P i)))))] H := by rw [← dmI_end hPz hng (by omega)]; exact hP
        have hD : va_D A [(a, .inr (2, [.int (iI ((w : Nat) : Int)), .int (iI ((g : Nat) : Int)), .ref b])), (b, .inr (3, [.ref v, .int (iI ((un (hlf w g (!sec) P) : Nat) : Int)), .int (zI false)])), (v, .inl (D.2 2, n, .inr (.inl (wd (hlf w g (!sec) P))))), (q_1, .inr (3, [.ref dv, .int (iI ((un (dmI w g (!sec) P i) : Nat) : Int)), .int (zI false)])), (dv, .inl (D.2 2, nd, .inr (.inl (wd (dmI w g (!sec) P i)))))] := by rw [← dmI_end hPz hng (by omega)]; exact hD
        refine lv_aload_n kx kb dX2_thins_54 rfl (lv_at hl 1 rfl) ?_
        refine t_callRV C (met_J0_isEmpty l D E q_1 dv nd (dmI w g (!sec) P i) (hnd)) (cwV 0 hts (lw_V q644 q645 q646 q61 q647) rfl rfl rfl (by decide +kernel) ⟨Nat.le_of_ble_eq_true rfl, Nat.le_of_ble_eq_true rfl⟩) (va_recv hK hP (ci := 3) (q0 := 3) rfl rfl) hK hX hP hD hS hA [3, 4] rfl (by decide) tYb_0 (fun _ _ _ => trivial) rfl hl.1 rfl (Nat.le_of_ble_eq_true rfl) dX2_thins_55 ⟨(show 0 + 1 + 1 + fb_ct (thn w g (!sec) P) i ≤ 2 + fb_ct (thn w g (!sec) P) (w * g) from by omega), (show 0 + 3 + 1 + 30 * fb_ct (thn w g (!sec) P) i ≤ 4 + 30 * fb_ct (thn w g (!sec) P) (w * g) from by omega)⟩ ?_
        refine W.eq (g2 := F0 m0 58 ls [.int (zI (decide (un (dmI w g (!sec) P i) = 0)))]) rfl ?_
        refine tz_if_ne (tgt := 65) kx kb dX2_thins_58 (by decide) (fun h58 => ?_) (fun h58 => ?_)
        · simp only [decide_eq_true_eq, decide_eq_false_iff_not] at h58
          refine lv_iconst (v := iI 0) kx kb dX2_thins_65 rfl ?_
          refine W.eq (g2 := F0 m0 66 ls [.int (zI false)]) rfl ?_
          subst hQ
          exact tm_zret C () trivial (hP.sub [0, 1, 2] rfl) (hD.sub [0, 1, 2] (by decide) rfl) hS (show 0 + 1 + 1 + fb_ct (thn w g (!sec) P) i ≤ 2 + fb_ct (thn w g (!sec) P) (w * g) from by omega) (show 0 + 3 + 1 + 30 * fb_ct (thn w g (!sec) P) i ≤ 4 + 30 * fb_ct (thn w g (!sec) P) (w * g) from by omega) (by have hun := dmI_BB hB hnd; rw [hte] at hun; rw [show (fb_ct (thn w g (!sec) P) (w * g) != 0) = false from by simp only [bne_eq_false_iff_eq]; omega]) rfl dX2_thins_66
        · simp only [decide_eq_true_eq, decide_eq_false_iff_not] at h58
          refine lv_iconst (v := iI 1) kx kb dX2_thins_61 rfl ?_
          refine lv_goto (tgt := 66) kx kb dX2_thins_62 (by decide) ?_
          refine W.eq (g2 := F0 m0 66 ls [.int (zI true)]) rfl ?_
          subst hQ
          exact tm_zret C () trivial (hP.sub [0, 1, 2] rfl) (hD.sub [0, 1, 2] (by decide) rfl) hS (show 0 + 1 + 1 + fb_ct (thn w g (!sec) P) i ≤ 2 + fb_ct (thn w g (!sec) P) (w * g) from by omega) (show 0 + 3 + 1 + 30 * fb_ct (thn w g (!sec) P) i ≤ 4 + 30 * fb_ct (thn w g (!sec) P) (w * g) from by omega) (by have hun := dmI_BB hB hnd; rw [hte] at hun; rw [show (fb_ct (thn w g (!sec) P) (w * g) != 0) = true from by simp only [bne_iff_ne, ne_eq]; omega]) rfl dX2_thins_66
      · obtain ⟨j, hj1, hj2, hj3, hj4, hj5⟩ := nxt_pos hz.1 hz.2 h18
        clear hz
        subst hj1
        have hsc := sC_le nd j (dmd w g (!sec) P j)
        have hss := sS_le (n := nd) hj4 (dmd w g (!sec) P j)
        have hct := dmI_ct (w := w) (g := g) (b := !sec) hj2 hj3 hj5
        have hjw : j < w * g := Nat.lt_of_not_le (fun q_ => by rw [hPz j q_] at hj2; cases hj2)
        have hmo := fb_ct_mono (thn w g (!sec) P) (show j + 1 ≤ w * g by omega)
        refine lv_aload_n kx kb dX2_thins_21 rfl (lv_at hl 1 rfl) ?_
        refine lv_iload_n kx kb dX2_thins_22 rfl (lv_at hl 0 rfl) ?_
        refine lv_aload_n kx kb dX2_thins_23 rfl (lv_at hl 2 rfl) ?_
        refine lv_iload_n kx kb dX2_thins_24 rfl (lv_at hl 0 rfl) ?_
        refine lv_iload_n kx kb dX2_thins_25 rfl (lv_at hl 3 rfl) ?_
        refine t_callRV C (met_X2_isDoomed l D E a b v n w g P j sec (by first | assumption | omega) (by first | assumption | omega) (by first | assumption | omega) (by first | assumption | omega)) (cwV 2 hts (lw_V q593 q595 qs7 q60 q596) rfl rfl rfl (by decide +kernel) ⟨Nat.le_of_ble_eq_true rfl, Nat.le_of_ble_eq_true rfl⟩) (va_recv hK hP (ci := 2) (q0 := 0) rfl rfl) hK hX hP hD hS hA [0, 1, 2] rfl (by decide) tYb_0 (fun _ _ _ => trivial) rfl hl.1 rfl (Nat.le_of_ble_eq_true rfl) dX2_thins_26 ⟨(show 0 + 1 + 1 + fb_ct (thn w g (!sec) P) i ≤ 2 + fb_ct (thn w g (!sec) P) (w * g) from by omega), (show 0 + 3 + 1 + 30 * fb_ct (thn w g (!sec) P) i ≤ 4 + 30 * fb_ct (thn w g (!sec) P) (w * g) from by omega)⟩ ?_
        refine W.eq (g2 := F0 m0 29 ls [.int (zI (dmd w g (!sec) P j)), .int (iI ((j : Nat) : Int)), .ref q_1]) rfl ?_
        refine t_callV (wr := [(a, .inr (2, [.int (iI ((w : Nat) : Int)), .int (iI ((g : Nat) : Int)), .ref b])), (b, .inr (3, [.ref v, .int (iI ((un P : Nat) : Int)), .int (zI false)])), (v, .inl (D.2 2, n, .inr (.inl (wd P))))]) C (met_J0_set l D E q_1 dv nd (dmI w g (!sec) P i) j (dmd w g (!sec) P j) (hnd) (hj4)) (cwV 2 hts (lw_V q628 q629 q630 q61 q631) rfl rfl rfl (by decide +kernel) ⟨Nat.le_of_ble_eq_true rfl, Nat.le_of_ble_eq_true rfl⟩) (va_recv hK hP (ci := 3) (q0 := 3) rfl rfl) hK hX hP hD hS hA [3, 4] [0, 1, 2] rfl rfl (by decide) (by decide) (by decide) tYb_0 (fun _ _ _ => trivial) rfl hl.1 rfl (Nat.le_of_ble_eq_true rfl) dX2_thins_29 ⟨(show 0 + 1 + 1 + fb_ct (thn w g (!sec) P) i + (sC nd j (dmd w g (!sec) P j)) ≤ 2 + fb_ct (thn w g (!sec) P) (w * g) from by omega), (show 0 + 3 + 1 + 30 * fb_ct (thn w g (!sec) P) i + (sS nd j (dmd w g (!sec) P j)) ≤ 4 + 30 * fb_ct (thn w g (!sec) P) (w * g) from by omega)⟩ (fun u_ H locs hp hP hD hS => ?_)
        obtain ⟨w2_3, rfl⟩ : ∃ z, z = u_ := ⟨_, rfl⟩
        have hP : va_P D.1 clAll [(a, .inr (2, [.int (iI ((w : Nat) : Int)), .int (iI ((g : Nat) : Int)), .ref b])), (b, .inr (3, [.ref v, .int (iI ((un P : Nat) : Int)), .int (zI false)])), (v, .inl (D.2 2, n, .inr (.inl (wd P)))), (q_1, .inr (3, [.ref w2_3, .int (iI ((un (setB (dmI w g (!sec) P i) j (dmd w g (!sec) P j)) : Nat) : Int)), .int (zI false)])), (w2_3, .inl (D.2 2, sN nd j (dmd w g (!sec) P j), .inr (.inl (wd (setB (dmI w g (!sec) P i) j (dmd w g (!sec) P j))))))] H := hP
        have hD : va_D A [(a, .inr (2, [.int (iI ((w : Nat) : Int)), .int (iI ((g : Nat) : Int)), .ref b])), (b, .inr (3, [.ref v, .int (iI ((un P : Nat) : Int)), .int (zI false)])), (v, .inl (D.2 2, n, .inr (.inl (wd P)))), (q_1, .inr (3, [.ref w2_3, .int (iI ((un (setB (dmI w g (!sec) P i) j (dmd w g (!sec) P j)) : Nat) : Int)), .int (zI false)])), (w2_3, .inl (D.2 2, sN nd j (dmd w g (!sec) P j), .inr (.inl (wd (setB (dmI w g (!sec) P i) j (dmd w g (!sec) P j))))))] := hD
        refine W.eq (g2 := F0 m0 32 ls []) rfl ?_
        refine W.widen (k := 0 + 1 + 1 + fb_ct (thn w g (!sec) P) i + (sC nd j (dmd w g (!sec) P j))) (n := 0 + 3 + 1 + 30 * fb_ct (thn w g (!sec) P) i + (sS nd j (dmd w g (!sec) P j))) (Nat.le_refl _) (Nat.le_refl _) ?_
        refine lv_aload_n kx kb dX2_thins_32 rfl (lv_at hl 2 rfl) ?_
        refine va_get (D := D.1) (ci := 2) (v := .ref b) (C := RX2) (T := TX2) (N := 3) kx kb hts in_X2 hown hK hP 0 rfl rfl 2 (by decide) (hts _ q141) (fun _ h9 => h9) rfl dX2_thins_33 ?_
        refine lv_iload_n kx kb dX2_thins_36 rfl (lv_at hl 0 rfl) ?_
        refine lv_iconst (v := iI 1) kx kb dX2_thins_37 rfl ?_
        refine ti_iadd kx kb dX2_thins_38 ?_
        refine t_callRV C (met_J0_nextSetBit l D E b v n P (j + 1) (by first | assumption | omega) (by first | assumption | omega)) (cwV 1 hts (lw_V q582 q583 q584 q61 q585) rfl rfl rfl (by decide +kernel) ⟨Nat.le_of_ble_eq_true rfl, Nat.le_of_ble_eq_true rfl⟩) (va_recv hK hP (ci := 3) (q0 := 1) rfl rfl) hK hX hP hD hS hA [1, 2] rfl (by decide) tYb_0 (fun _ _ _ => trivial) rfl hl.1 rfl (Nat.le_of_ble_eq_true rfl) dX2_thins_39 ⟨(show 0 + 1 + 1 + fb_ct (thn w g (!sec) P) i + (sC nd j (dmd w g (!sec) P j)) ≤ 2 + fb_ct (thn w g (!sec) P) (w * g) from by omega), (show 0 + 3 + 1 + 30 * fb_ct (thn w g (!sec) P) i + (sS nd j (dmd w g (!sec) P j)) ≤ 4 + 30 * fb_ct (thn w g (!sec) P) (w * g) from by omega)⟩ ?_
        refine W.eq (g2 := F0 m0 42 ls [.int (iI (nxt P (j + 1)))]) rfl ?_
        refine lv_istore_n (lv' := [(3, .int (iI (nxt P (j + 1)))), (2, .ref q_1), (0, .ref a), (1, .int (zI sec))]) kx kb dX2_thins_42 rfl hl (by decide) rfl (fun ls hl => ?_)
        refine lv_goto (tgt := 17) kx kb dX2_thins_43 (by decide) ?_
        have hP : va_P D.1 clAll [(a, .inr (2, [.int (iI ((w : Nat) : Int)), .int (iI ((g : Nat) : Int)), .ref b])), (b, .inr (3, [.ref v, .int (iI ((un P : Nat) : Int)), .int (zI false)])), (v, .inl (D.2 2, n, .inr (.inl (wd P)))), (q_1, .inr (3, [.ref w2_3, .int (iI ((un (dmI w g (!sec) P (j + 1)) : Nat) : Int)), .int (zI false)])), (w2_3, .inl (D.2 2, sN nd j (dmd w g (!sec) P j), .inr (.inl (wd (dmI w g (!sec) P (j + 1))))))] H := by rw [← dmI_s hj2 hj3 hj5]; exact hP
        have hD : va_D A [(a, .inr (2, [.int (iI ((w : Nat) : Int)), .int (iI ((g : Nat) : Int)), .ref b])), (b, .inr (3, [.ref v, .int (iI ((un P : Nat) : Int)), .int (zI false)])), (v, .inl (D.2 2, n, .inr (.inl (wd P)))), (q_1, .inr (3, [.ref w2_3, .int (iI ((un (dmI w g (!sec) P (j + 1)) : Nat) : Int)), .int (zI false)])), (w2_3, .inl (D.2 2, sN nd j (dmd w g (!sec) P j), .inr (.inl (wd (dmI w g (!sec) P (j + 1))))))] := by rw [← dmI_s hj2 hj3 hj5]; exact hD
        refine W.widen (k := 0 + 1 + 1 + fb_ct (thn w g (!sec) P) (j + 1)) (n := 0 + 3 + 1 + 30 * fb_ct (thn w g (!sec) P) (j + 1)) (by omega) (by omega) ?_
        exact ih17 (nxt P (j + 1)) w2_3 (sN nd j (dmd w g (!sec) P j)) (j + 1) (⟨rfl, by omega⟩) (by rw [← dmI_s hj2 hj3 hj5]; exact BB_set hnd (by omega) _) (by omega) H locs hP hD hS ls hl
  have hP : va_P D.1 clAll [(a, .inr (2, [.int (iI ((w : Nat) : Int)), .int (iI ((g : Nat) : Int)), .ref b])), (b, .inr (3, [.ref v, .int (iI ((un P : Nat) : Int)), .int (zI false)])), (v, .inl (D.2 2, n, .inr (.inl (wd P)))), (q_1, .inr (3, [.ref w_2, .int (iI ((un (dmI w g (!sec) P 0) : Nat) : Int)), .int (zI false)])), (w_2, .inl (D.2 2, 1, .inr (.inl (wd (dmI w g (!sec) P 0)))))] H := by rw [dmI_0]; exact hP
  have hD : va_D A [(a, .inr (2, [.int (iI ((w : Nat) : Int)), .int (iI ((g : Nat) : Int)), .ref b])), (b, .inr (3, [.ref v, .int (iI ((un P : Nat) : Int)), .int (zI false)])), (v, .inl (D.2 2, n, .inr (.inl (wd P)))), (q_1, .inr (3, [.ref w_2, .int (iI ((un (dmI w g (!sec) P 0) : Nat) : Int)), .int (zI false)])), (w_2, .inl (D.2 2, 1, .inr (.inl (wd (dmI w g (!sec) P 0)))))] := by rw [dmI_0]; exact hD
  refine W.widen (k := 0 + 1 + 1 + fb_ct (thn w g (!sec) P) 0) (n := 0 + 3 + 1 + 30 * fb_ct (thn w g (!sec) P) 0) (by omega) (by omega) ?_
  exact cut17 ((1024 - 0) + 1) (nxt P 0) w_2 1 0 (⟨rfl, by omega⟩) (by rw [dmI_0]; exact BB_none (by omega)) (Nat.lt_succ_self _) H locs hP hD hS ls hl
set_option maxHeartbeats 4000000 in
set_option maxRecDepth 100000 in
theorem met_X2_thin (l : Launch) (D : TG) (E : TE) (a : Nat) (b : Nat) (v : Nat) (n : Nat) (w : Nat) (g : Nat) (P : Nat → Bool) (hw : 1 ≤ w ∧ w ≤ 32) (hg : 1 ≤ g ∧ g ≤ 32) (hB : BB P n) (hPz : ∀ j_, w * g ≤ j_ → P j_ = false) : tMet l yX2_thin cX2_thin 2 (some .int) 7 173 (4 + 5 * fb_ct P (w * g)) (8 + 38 * fb_ct P (w * g)) [.ref a] D E [(a, .inr (2, [.int (iI ((w : Nat) : Int)), .int (iI ((g : Nat) : Int)), .ref b])), (b, .inr (3, [.ref v, .int (iI ((un P : Nat) : Int)), .int (zI false)])), (v, .inl (D.2 2, n, .inr (.inl (wd P))))] tY0 (S := Unit) (fun u_ => True) (fun u_ => some (.int (iI (((thR w g P).1 : Nat) : Int)))) (fun u_ => [(a, .inr (2, [.int (iI ((w : Nat) : Int)), .int (iI ((g : Nat) : Int)), .ref b])), (b, .inr (3, [.ref v, .int (iI ((un ((thR w g P).2) : Nat) : Int)), .int (zI false)])), (v, .inl (D.2 2, n, .inr (.inl (wd ((thR w g P).2)))))]) := by
  refine tu_met (by decide +kernel) (Nat.le_of_ble_eq_true rfl) ?_
  intro p0 e0 s0 m0 below meth c0 A ls args Q hag hQ C hK hX hY hP hD hA hAe hl
  obtain ⟨kx, kb, hml, hown, hts, -⟩ := id C
  have hS : va_S A s0.heap s0.heap [] := va_S.rf
  have hl : lv_has ls 2 [(0, .ref a)] := hl
  have hwg := wg_le hw hg
  have hBn := hB.1
  have hBm := hB.2.1
  have hul := un_le hB
  refine lv_iconst (v := iI 0) kx kb dX2_thin_0 rfl ?_
  refine lv_istore_n (lv' := [(1, .int (iI 0)), (0, .ref a)]) kx kb dX2_thin_1 rfl hl (by decide) rfl (fun ls hl => ?_)
  have cut2 : ∀ (fuel : Nat) (s : Nat) (Pk : Nat → Bool), (BB Pk n) → (∀ j_, w * g ≤ j_ → Pk j_ = false) → ((thR w g P).1 = s + (thR w g Pk).1 ∧ (thR w g P).2 = (thR w g Pk).2) → (s + fb_ct Pk (w * g) ≤ fb_ct P (w * g)) → (fb_ct Pk (w * g)) < fuel → ∀ (H : Heap) (locs : List Loc), va_P D.1 clAll [(a, .inr (2, [.int (iI ((w : Nat) : Int)), .int (iI ((g : Nat) : Int)), .ref b])), (b, .inr (3, [.ref v, .int (iI ((un Pk : Nat) : Int)), .int (zI false)])), (v, .inl (D.2 2, n, .inr (.inl (wd Pk))))] H → va_D A [(a, .inr (2, [.int (iI ((w : Nat) : Int)), .int (iI ((g : Nat) : Int)), .ref b])), (b, .inr (3, [.ref v, .int (iI ((un Pk : Nat) : Int)), .int (zI false)])), (v, .inl (D.2 2, n, .inr (.inl (wd Pk))))] → va_S A s0.heap H locs → ∀ ls : Array Slot, lv_has ls 2 [(1, .int (iI (s : Int))), (0, .ref a)] → W p0 l e0 ({ frames := 7, cells := 4 + 5 * fb_ct P (w * g), slots := 8 + 38 * fb_ct P (w * g), locals := 173 } : Room) s0 m0 args below meth c0 H locs (5 * (fb_ct P (w * g) - fb_ct Pk (w * g))) (38 * (fb_ct P (w * g) - fb_ct Pk (w * g))) Q (F0 m0 2 ls []) := by
    intro fuel
    induction fuel with
    | zero =>
      intro s Pk hBk hPk hs hsc hfuel2
      exact absurd hfuel2 (Nat.not_lt_zero _)
    | succ fuel ih2 =>
      intro s Pk hBk hPk hs hsc hfuel2 H locs hP hD hS ls hl
      have hct := thP_ct w g Pk
      have htd : thN w g Pk = fb_ct (thn w g (!false) Pk) (w * g) + fb_ct (thn w g (!true) (hlf w g (!false) Pk)) (w * g) := rfl
      have htp : thP w g Pk = hlf w g (!true) (hlf w g (!false) Pk) := rfl
      rw [htp] at hct
      refine lv_aload_n kx kb dX2_thin_2 rfl (lv_at hl 1 rfl) ?_
      refine lv_iconst (v := iI 0) kx kb dX2_thin_3 rfl ?_
      refine t_callV (wr := []) C (met_X2_thins l D E a b v n w g Pk false (by first | assumption | omega) (by first | assumption | omega) (hBk) (hPk)) (cwV 1 hts (lw_V q578 q580 qs6 q60 q581) rfl rfl rfl (by decide +kernel) ⟨Nat.le_of_ble_eq_true rfl, Nat.le_of_ble_eq_true rfl⟩) (va_recv hK hP (ci := 2) (q0 := 0) rfl rfl) hK hX hP hD hS hA [0, 1, 2] [] rfl rfl (by decide) (by decide) (by decide) tYb_0 (fun _ _ _ => trivial) rfl hl.1 rfl (Nat.le_of_ble_eq_true rfl) dX2_thin_4 ⟨(show 5 * (fb_ct P (w * g) - fb_ct Pk (w * g)) + (2 + fb_ct (thn w g (!false) Pk) (w * g)) ≤ 4 + 5 * fb_ct P (w * g) from by omega), (show 38 * (fb_ct P (w * g) - fb_ct Pk (w * g)) + (4 + 30 * fb_ct (thn w g (!false) Pk) (w * g)) ≤ 8 + 38 * fb_ct P (w * g) from by omega)⟩ (fun u_ H locs hp hP hD hS => ?_)
      have hP : va_P D.1 clAll [(a, .inr (2, [.int (iI ((w : Nat) : Int)), .int (iI ((g : Nat) : Int)), .ref b])), (b, .inr (3, [.ref v, .int (iI ((un (hlf w g (!false) Pk) : Nat) : Int)), .int (zI false)])), (v, .inl (D.2 2, n, .inr (.inl (wd (hlf w g (!false) Pk)))))] H := hP
      have hD : va_D A [(a, .inr (2, [.int (iI ((w : Nat) : Int)), .int (iI ((g : Nat) : Int)), .ref b])), (b, .inr (3, [.ref v, .int (iI ((un (hlf w g (!false) Pk) : Nat) : Int)), .int (zI false)])), (v, .inl (D.2 2, n, .inr (.inl (wd (hlf w g (!false) Pk)))))] := hD
      refine W.eq (g2 := F0 m0 7 ls [.int (zI (fb_ct (thn w g (!false) Pk) (w * g) != 0))]) rfl ?_
      refine W.widen (k := 5 * (fb_ct P (w * g) - fb_ct Pk (w * g)) + (2 + fb_ct (thn w g (!false) Pk) (w * g))) (n := 38 * (fb_ct P (w * g) - fb_ct Pk (w * g)) + (4 + 30 * fb_ct (thn w g (!false) Pk) (w * g))) (Nat.le_refl _) (Nat.le_refl _) ?_
      refine lv_aload_n kx kb dX2_thin_7 rfl (lv_at hl 1 rfl) ?_
      refine lv_iconst (v := iI 1) kx kb dX2_thin_8 rfl ?_
      refine t_callV (wr := []) C (met_X2_thins l D E a b v n w g (hlf w g (!false) Pk) true (by first | assumption | omega) (by first | assumption | omega) (hlf_BB hBk) (hlf_none hPk)) (cwV 1 hts (lw_V q578 q580 qs6 q60 q581) rfl rfl rfl (by decide +kernel) ⟨Nat.le_of_ble_eq_true rfl, Nat.le_of_ble_eq_true rfl⟩) (va_recv hK hP (ci := 2) (q0 := 0) rfl rfl) hK hX hP hD hS hA [0, 1, 2] [] rfl rfl (by decide) (by decide) (by decide) tYb_0 (fun _ _ _ => trivial) rfl hl.1 rfl (Nat.le_of_ble_eq_true rfl) dX2_thin_9 ⟨(show 5 * (fb_ct P (w * g) - fb_ct Pk (w * g)) + (2 + fb_ct (thn w g (!false) Pk) (w * g)) + (2 + fb_ct (thn w g (!true) (hlf w g (!false) Pk)) (w * g)) ≤ 4 + 5 * fb_ct P (w * g) from by omega), (show 38 * (fb_ct P (w * g) - fb_ct Pk (w * g)) + (4 + 30 * fb_ct (thn w g (!false) Pk) (w * g)) + (4 + 30 * fb_ct (thn w g (!true) (hlf w g (!false) Pk)) (w * g)) ≤ 8 + 38 * fb_ct P (w * g) from by omega)⟩ (fun u_ H locs hp hP hD hS => ?_)
      have hP : va_P D.1 clAll [(a, .inr (2, [.int (iI ((w : Nat) : Int)), .int (iI ((g : Nat) : Int)), .ref b])), (b, .inr (3, [.ref v, .int (iI ((un (hlf w g (!true) (hlf w g (!false) Pk)) : Nat) : Int)), .int (zI false)])), (v, .inl (D.2 2, n, .inr (.inl (wd (hlf w g (!true) (hlf w g (!false) Pk))))))] H := hP
      have hD : va_D A [(a, .inr (2, [.int (iI ((w : Nat) : Int)), .int (iI ((g : Nat) : Int)), .ref b])), (b, .inr (3, [.ref v, .int (iI ((un (hlf w g (!true) (hlf w g (!false) Pk)) : Nat) : Int)), .int (zI false)])), (v, .inl (D.2 2, n, .inr (.inl (wd (hlf w g (!true) (hlf w g (!false) Pk))))))] := hD
      refine W.eq (g2 := F0 m0 12 ls [.int (zI (fb_ct (thn w g (!true) (hlf w g (!false) Pk)) (w * g) != 0)), .int (zI (fb_ct (thn w g (!false) Pk) (w * g) != 0))]) rfl ?_
      refine W.widen (k := 5 * (fb_ct P (w * g) - fb_ct Pk (w * g)) + (2 + fb_ct (thn w g (!false) Pk) (w * g)) + (2 + fb_ct (thn w g (!true) (hlf w g (!false) Pk)) (w * g))) (n := 38 * (fb_ct P (w * g) - fb_ct Pk (w * g)) + (4 + 30 * fb_ct (thn w g (!false) Pk) (w * g)) + (4 + 30 * fb_ct (thn w g (!true) (hlf w g (!false) Pk)) (w * g))) (Nat.le_refl _) (Nat.le_refl _) ?_
      refine tz_ior kx kb dX2_thin_12 ?_
      refine tz_if_eq (tgt := 22) kx kb dX2_thin_13 (by decide) (fun h13 => ?_) (fun h13 => ?_)
      · have htn : thN w g Pk = 0 := by rw [htd]; rw [Bool.or_eq_false_iff, bne_eq_false_iff_eq, bne_eq_false_iff_eq] at h13; omega
        have hst := thR_stop htn
        rw [hst, htp] at hs
        refine lv_iload_n kx kb dX2_thin_22 rfl (lv_at hl 0 rfl) ?_
        have hP : va_P D.1 clAll [(a, .inr (2, [.int (iI ((w : Nat) : Int)), .int (iI ((g : Nat) : Int)), .ref b])), (b, .inr (3, [.ref v, .int (iI ((un ((thR w g P).2) : Nat) : Int)), .int (zI false)])), (v, .inl (D.2 2, n, .inr (.inl (wd (thR w g P).2))))] H := by rw [hs.2]; exact hP
        have hD : va_D A [(a, .inr (2, [.int (iI ((w : Nat) : Int)), .int (iI ((g : Nat) : Int)), .ref b])), (b, .inr (3, [.ref v, .int (iI ((un ((thR w g P).2) : Nat) : Int)), .int (zI false)])), (v, .inl (D.2 2, n, .inr (.inl (wd (thR w g P).2))))] := by rw [hs.2]; exact hD
        subst hQ
        exact tm_iret C () trivial hP hD hS (show 5 * (fb_ct P (w * g) - fb_ct Pk (w * g)) + (2 + fb_ct (thn w g (!false) Pk) (w * g)) + (2 + fb_ct (thn w g (!true) (hlf w g (!false) Pk)) (w * g)) ≤ 4 + 5 * fb_ct P (w * g) from by omega) (show 38 * (fb_ct P (w * g) - fb_ct Pk (w * g)) + (4 + 30 * fb_ct (thn w g (!false) Pk) (w * g)) + (4 + 30 * fb_ct (thn w g (!true) (hlf w g (!false) Pk)) (w * g)) ≤ 8 + 38 * fb_ct P (w * g) from by omega) (by rw [hs.1]; simp) rfl dX2_thin_23
      · have htn : thN w g Pk ≠ 0 := by intro q_; rw [htd] at q_; rw [show fb_ct (thn w g (!false) Pk) (w * g) = 0 from by omega, show fb_ct (thn w g (!true) (hlf w g (!false) Pk)) (w * g) = 0 from by omega] at h13; exact absurd h13 (by decide)
        refine ti_iinc (a := (s : Int)) (lv' := [(1, .int (iI ((s : Int) + 1))), (0, .ref a)]) kx kb dX2_thin_16 hl (k := 0) rfl (by decide) rfl (fun ls hl => ?_)
        refine lv_goto (tgt := 2) kx kb dX2_thin_19 (by decide) ?_
        refine W.widen (k := 5 * (fb_ct P (w * g) - fb_ct (hlf w g (!true) (hlf w g (!false) Pk)) (w * g))) (n := 38 * (fb_ct P (w * g) - fb_ct (hlf w g (!true) (hlf w g (!false) Pk)) (w * g))) (by omega) (by omega) ?_
        exact ih2 (s + 1) (hlf w g (!true) (hlf w g (!false) Pk)) (hlf_BB (hlf_BB hBk)) (hlf_none (hlf_none hPk)) (⟨by rw [hs.1, thR_go htn]; show _ = s + 1 + (thR w g (thP w g Pk)).1; omega, by rw [hs.2, thR_go htn]; rfl⟩) (by omega) (by omega) H locs hP hD hS ls hl
  refine W.widen (k := 5 * (fb_ct P (w * g) - fb_ct P (w * g))) (n := 38 * (fb_ct P (w * g) - fb_ct P (w * g))) (by omega) (by omega) ?_
  exact cut2 ((fb_ct P (w * g)) + 1) 0 P (hB) (hPz) (⟨by omega, rfl⟩) (by omega) (Nat.lt_succ_self _) s0.heap [] hP hD hS ls hl
set_option maxHeartbeats 4000000 in
set_option maxRecDepth 100000 in
theorem met_X2_touches (l : Launch) (D : TG) (E : TE) (a : Nat) (b : Nat) (w : Nat) (g : Nat) (c : Nat) (v3 : Nat) (n2 : Nat) (Q_ : Nat → Bool) (hw : 1 ≤ w ∧ w ≤ 32) (hg : 1 ≤ g ∧ g ≤ 32) (hB2 : BB Q_ n2) (hQz : ∀ j_, w * g ≤ j_ → Q_ j_ = false) : tRd l yX2_touches cX2_touches 5 (some .boolean) 3 68 [.ref a, .ref c] D E [(a, .inr (2, [.int (iI ((w : Nat) : Int)), .int (iI ((g : Nat) : Int)), .ref b])), (c, .inr (3, [.ref v3, .int (iI ((un Q_ : Nat) : Int)), .int (zI false)])), (v3, .inl (D.2 2, n2, .inr (.inl (wd Q_))))] tY0 (some (.int (zI (tchI w g Q_ 1024)))) := by
  refine tu_rd (by decide +kernel) (Nat.le_of_ble_eq_true rfl) ?_
  intro p0 e0 s0 m0 below meth c0 A ls args Q hag hQ C hK hX hY hP hD hA hAe hl
  obtain ⟨kx, kb, hml, hown, hts, -⟩ := id C
  have hS : va_S A s0.heap s0.heap [] := va_S.rf
  have hl : lv_has ls 5 [(0, .ref a), (1, .ref c)] := hl
  have hwg := wg_le hw hg
  refine lv_iconst (v := iI 0) kx kb dX2_touches_0 rfl ?_
  refine lv_istore_n (lv' := [(2, .int (iI 0)), (0, .ref a), (1, .ref c)]) kx kb dX2_touches_1 rfl hl (by decide) rfl (fun ls hl => ?_)
  refine lv_aload_n kx kb dX2_touches_2 rfl (lv_at hl 2 rfl) ?_
  refine lv_iconst (v := iI 0) kx kb dX2_touches_3 rfl ?_
  refine t_callRV C (met_J0_nextSetBit l D E c v3 n2 Q_ 0 (hB2) (by first | assumption | omega)) (cwV 1 hts (lw_V q582 q583 q584 q61 q585) rfl rfl rfl (by decide +kernel) ⟨Nat.le_of_ble_eq_true rfl, Nat.le_of_ble_eq_true rfl⟩) (va_recv hK hP (ci := 3) (q0 := 1) rfl rfl) hK hX hP hD hS hA [1, 2] rfl (by decide) tYb_0 (fun _ _ _ => trivial) rfl hl.1 rfl (Nat.le_of_ble_eq_true rfl) dX2_touches_4 ⟨(show 0 ≤ 0 from by omega), (show 0 ≤ 0 from by omega)⟩ ?_
  refine W.eq (g2 := F0 m0 7 ls [.int (iI (nxt Q_ 0))]) rfl ?_
  refine lv_istore_n (lv' := [(3, .int (iI (nxt Q_ 0))), (2, .int (iI 0)), (0, .ref a), (1, .ref c)]) kx kb dX2_touches_7 rfl hl (by decide) rfl (fun ls hl => ?_)
  have cut8 : ∀ (fuel : Nat) (z : Int) (t : Bool) (i : Nat), (z = nxt Q_ i ∧ i ≤ 1024) → (t = tchI w g Q_ i) → (1024 - i) < fuel → ∀ ls : Array Slot, lv_has ls 5 [(3, .int (iI z)), (2, .int (zI t)), (0, .ref a), (1, .ref c)] → W p0 l e0 ({ frames := 3, cells := 0, slots := 0, locals := 68 } : Room) s0 m0 args below meth c0 s0.heap [] (0) (0) Q (F0 m0 8 ls []) := by
    intro fuel
    induction fuel with
    | zero =>
      intro z t i hz ht hfuel8
      exact absurd hfuel8 (Nat.not_lt_zero _)
    | succ fuel ih8 =>
      intro z t i hz ht hfuel8  ls hl
      have hnx := nxt_rng Q_ hz.2
      rw [← hz.1] at hnx
      refine lv_iload_n kx kb dX2_touches_8 rfl (lv_at hl 0 rfl) ?_
      refine ti_if_lt (tgt := 62) kx kb (by omega) dX2_touches_9 (by decide) (fun h9 => ?_) (fun h9 => ?_)
      · refine lv_iload_n kx kb dX2_touches_62 rfl (lv_at hl 1 rfl) ?_
        subst hQ
        exact tr_zret C rfl (by rw [ht, tchI_skip (i := i) (j := 1024) hz.2 (nxt_neg hz.1 hz.2 h9)]) dX2_touches_63
      · refine lv_iload_n kx kb dX2_touches_12 rfl (lv_at hl 1 rfl) ?_
        refine tz_if_ne (tgt := 62) kx kb dX2_touches_13 (by decide) (fun h13 => ?_) (fun h13 => ?_)
        · refine lv_iload_n kx kb dX2_touches_62 rfl (lv_at hl 1 rfl) ?_
          subst hQ
          exact tr_zret C rfl (by rw [h13, tchI_mono hz.2 (ht.symm.trans h13)]) dX2_touches_63
        · obtain ⟨j, hj1, hj2, hj3, hj4, hj5⟩ := nxt_pos hz.1 hz.2 h9
          clear hz
          subst hj1
          have hjw : j < w * g := Nat.lt_of_not_le (fun q_ => by rw [hQz j q_] at hj2; cases hj2)
          refine lv_iconst (v := iI 0) kx kb dX2_touches_16 rfl ?_
          refine lv_istore (lv' := [(4, .int (iI 0)), (3, .int (iI ((j : Nat) : Int))), (2, .int (zI t)), (0, .ref a), (1, .ref c)]) kx kb dX2_touches_17 hl (by decide) rfl (fun ls hl => ?_)
          have cut19 : ∀ (fuel : Nat) (k : Int) (q : Nat), (q ≤ 4 ∧ k = 2 * (q : Int)) → (∀ p_ : Nat, p_ < q → nbB w g j (2 * (p_ : Int)) = true) → (4 - q) < fuel → ∀ ls : Array Slot, lv_has ls 5 [(4, .int (iI k)), (3, .int (iI ((j : Nat) : Int))), (2, .int (zI t)), (0, .ref a), (1, .ref c)] → W p0 l e0 ({ frames := 3, cells := 0, slots := 0, locals := 68 } : Room) s0 m0 args below meth c0 s0.heap [] (0) (0) Q (F0 m0 19 ls []) := by
            intro fuel
            induction fuel with
            | zero =>
              intro k q hq hq2 hfuel19
              exact absurd hfuel19 (Nat.not_lt_zero _)
            | succ fuel ih19 =>
              intro k q hq hq2 hfuel19  ls hl
              refine lv_iload kx kb dX2_touches_19 (lv_at hl 0 rfl) ?_
              refine lv_bipush (v := iI 8) kx kb dX2_touches_21 rfl ?_
              refine ti_icmp_ge (tgt := 51) kx kb (by omega) dX2_touches_23 (by decide) (fun h23 => ?_) (fun h23 => ?_)
              · have hq2a : ∀ p_ : Nat, p_ < 4 → nbB w g j (2 * (p_ : Int)) = true := fun p_ h_ => hq2 p_ (by omega)
                refine lv_aload_n kx kb dX2_touches_51 rfl (lv_at hl 4 rfl) ?_
                refine lv_iload_n kx kb dX2_touches_52 rfl (lv_at hl 1 rfl) ?_
                refine lv_iconst (v := iI 1) kx kb dX2_touches_53 rfl ?_
                refine ti_iadd kx kb dX2_touches_54 ?_
                refine t_callRV C (met_J0_nextSetBit l D E c v3 n2 Q_ (j + 1) (hB2) (by first | assumption | omega)) (cwV 1 hts (lw_V q582 q583 q584 q61 q585) rfl rfl rfl (by decide +kernel) ⟨Nat.le_of_ble_eq_true rfl, Nat.le_of_ble_eq_true rfl⟩) (va_recv hK hP (ci := 3) (q0 := 1) rfl rfl) hK hX hP hD hS hA [1, 2] rfl (by decide) tYb_0 (fun _ _ _ => trivial) rfl hl.1 rfl (Nat.le_of_ble_eq_true rfl) dX2_touches_55 ⟨(show 0 ≤ 0 from by omega), (show 0 ≤ 0 from by omega)⟩ ?_
                refine W.eq (g2 := F0 m0 58 ls [.int (iI (nxt Q_ (j + 1)))]) rfl ?_
                refine lv_istore_n (lv' := [(3, .int (iI (nxt Q_ (j + 1)))), (4, .int (iI k)), (2, .int (zI t)), (0, .ref a), (1, .ref c)]) kx kb dX2_touches_58 rfl hl (by decide) rfl (fun ls hl => ?_)
                refine lv_goto (tgt := 8) kx kb dX2_touches_59 (by decide) ?_
                exact ih8 (nxt Q_ (j + 1)) t (j + 1) (⟨rfl, by omega⟩) (by rw [tchI_s, tchI_skip hj3 hj5, ← ht, h13, hj2]; rw [brd_not hq2a]; rfl) (by omega) ls (lv_sub hl [0, 2, 3, 4] rfl)
              · refine lv_aload_n kx kb dX2_touches_26 rfl (lv_at hl 3 rfl) ?_
                refine lv_iload_n kx kb dX2_touches_27 rfl (lv_at hl 1 rfl) ?_
                refine lv_iload kx kb dX2_touches_28 (lv_at hl 0 rfl) ?_
                refine t_callRV C (met_X2_beside l D E a b w g j k (by first | assumption | omega) (by first | assumption | omega) (by first | assumption | omega) (by first | assumption | omega)) (cwV 2 hts (lw_V q942 q943 q944 q60 q945) rfl rfl rfl (by decide +kernel) ⟨Nat.le_of_ble_eq_true rfl, Nat.le_of_ble_eq_true rfl⟩) (va_recv hK hP (ci := 2) (q0 := 0) rfl rfl) hK hX hP hD hS hA [0] rfl (by decide) tYb_0 (fun _ _ _ => trivial) rfl hl.1 rfl (Nat.le_of_ble_eq_true rfl) dX2_touches_30 ⟨(show 0 ≤ 0 from by omega), (show 0 ≤ 0 from by omega)⟩ ?_
                refine W.eq (g2 := F0 m0 33 ls [.int (iI (if nbB w g j k then ((nbC w j k : Nat) : Int) else -1))]) rfl ?_
                refine lv_iconst (v := iI (-1)) kx kb dX2_touches_33 rfl ?_
                refine ti_icmp_eq (tgt := 40) kx kb (by have hnr : nbB w g j k = true → nbC w j k < w * g := (fun h_ => by have h9_ := cel_int ((isBd_t _ _ _ _).mp h_); unfold nbC; omega); split; (rename_i h8_; have := hnr h8_; omega); omega) dX2_touches_34 (by decide) (fun h34 => ?_) (fun h34 => ?_)
                · have hnb : nbB w g j (2 * (q : Int)) = false := by cases hb_ : nbB w g j k; (rw [← hq.2]; exact hb_); rw [hb_, if_pos rfl] at h34; omega
                  refine lv_iconst (v := iI 1) kx kb dX2_touches_40 rfl ?_
                  refine lv_istore_n (lv' := [(2, .int (iI 1)), (4, .int (iI k)), (3, .int (iI ((j : Nat) : Int))), (0, .ref a), (1, .ref c)]) kx kb dX2_touches_41 rfl hl (by decide) rfl (fun ls hl => ?_)
                  refine lv_goto (tgt := 51) kx kb dX2_touches_42 (by decide) ?_
                  refine lv_aload_n kx kb dX2_touches_51 rfl (lv_at hl 4 rfl) ?_
                  refine lv_iload_n kx kb dX2_touches_52 rfl (lv_at hl 2 rfl) ?_
                  refine lv_iconst (v := iI 1) kx kb dX2_touches_53 rfl ?_
                  refine ti_iadd kx kb dX2_touches_54 ?_
                  refine t_callRV C (met_J0_nextSetBit l D E c v3 n2 Q_ (j + 1) (hB2) (by first | assumption | omega)) (cwV 1 hts (lw_V q582 q583 q584 q61 q585) rfl rfl rfl (by decide +kernel) ⟨Nat.le_of_ble_eq_true rfl, Nat.le_of_ble_eq_true rfl⟩) (va_recv hK hP (ci := 3) (q0 := 1) rfl rfl) hK hX hP hD hS hA [1, 2] rfl (by decide) tYb_0 (fun _ _ _ => trivial) rfl hl.1 rfl (Nat.le_of_ble_eq_true rfl) dX2_touches_55 ⟨(show 0 ≤ 0 from by omega), (show 0 ≤ 0 from by omega)⟩ ?_
                  refine W.eq (g2 := F0 m0 58 ls [.int (iI (nxt Q_ (j + 1)))]) rfl ?_
                  refine lv_istore_n (lv' := [(3, .int (iI (nxt Q_ (j + 1)))), (2, .int (iI 1)), (4, .int (iI k)), (0, .ref a), (1, .ref c)]) kx kb dX2_touches_58 rfl hl (by decide) rfl (fun ls hl => ?_)
                  refine lv_goto (tgt := 8) kx kb dX2_touches_59 (by decide) ?_
                  exact ih8 (nxt Q_ (j + 1)) true (j + 1) (⟨rfl, by omega⟩) (by rw [tchI_s, tchI_skip hj3 hj5, ← ht, h13, hj2]; rw [brd_of hw hg hjw (by omega) hnb]; rfl) (by omega) ls (lv_sub hl [0, 1, 3, 4] rfl)
                · refine lv_goto (tgt := 45) kx kb dX2_touches_37 (by decide) ?_
                  have hnb : nbB w g j (2 * (q : Int)) = true := by cases hb_ : nbB w g j k; (rw [hb_] at h34; exact absurd rfl h34); rw [← hq.2]; exact hb_
                  refine ti_iinc (a := k) (lv' := [(4, .int (iI (k + 2))), (3, .int (iI ((j : Nat) : Int))), (2, .int (zI t)), (0, .ref a), (1, .ref c)]) kx kb dX2_touches_45 hl (k := 0) rfl (by decide) rfl (fun ls hl => ?_)
                  refine lv_goto (tgt := 19) kx kb dX2_touches_48 (by decide) ?_
                  exact ih19 (k + 2) (q + 1) (by omega) (fun p_ h_ => by by_cases e_ : p_ = q; (rw [e_]; exact hnb); exact hq2 p_ (by omega)) (by omega) ls hl
          exact cut19 ((4 - 0) + 1) 0 0 (by omega) (fun p_ h_ => by omega) (Nat.lt_succ_self _) ls hl
  exact cut8 ((1024 - 0) + 1) (nxt Q_ 0) false 0 (⟨rfl, by omega⟩) (by rfl) (Nat.lt_succ_self _) ls hl
