set_option maxRecDepth 100000
set_option maxHeartbeats 4000000 in
set_option maxRecDepth 100000 in
theorem met_J0_set (l : Launch) (D : TG) (E : TE) (b : Nat) (w : Nat) (n : Nat) (P : Nat → Bool) (i : Nat) (v : Bool) (hB : BB P n) (hi : i < 1024) : tMet l yJ0_set cJ0_set 3 none 5 128 (sC n i v) (sS n i v) [.ref b, .int (iI ((i : Nat) : Int)), .int (zI v)] D E [(b, .inr (3, [.ref w, .int (iI ((un P : Nat) : Int)), .int (zI false)])), (w, .inl (D.2 2, n, .inr (.inl (wd P))))] tY0 (S := Nat) (fun u_ => True) (fun u_ => none) (fun u_ => [(b, .inr (3, [.ref u_, .int (iI ((un (setB P i v) : Nat) : Int)), .int (zI false)])), (u_, .inl (D.2 2, sN n i v, .inr (.inl (wd (setB P i v)))))]) := by
  refine tu_met (by decide +kernel) (Nat.le_of_ble_eq_true rfl) ?_
  intro p0 e0 s0 m0 below meth c0 A ls args Q hag hQ C hK hX hY hP hD hA hAe hl
  obtain ⟨kx, kb, hml, hown, hts, -⟩ := id C
  have hS : va_S A s0.heap s0.heap [] := va_S.rf
  have hl : lv_has ls 3 [(0, .ref b), (1, .int (iI ((i : Nat) : Int))), (2, .int (zI v))] := hl
  have hBn := hB.1
  have hBm := hB.2.1
  have hul := un_le hB
  refine lv_iload_n kx kb dJ0_set_0 rfl (lv_at hl 2 rfl) ?_
  refine tz_if_eq (tgt := 12) kx kb dJ0_set_1 (by decide) (fun h1 => ?_) (fun h1 => ?_)
  · refine lv_aload_n kx kb dJ0_set_12 rfl (lv_at hl 0 rfl) ?_
    refine lv_iload_n kx kb dJ0_set_13 rfl (lv_at hl 1 rfl) ?_
    refine t_callV (wr := []) C (met_J0_clear l D E b w n P i (by first | assumption | omega) (by first | assumption | omega)) (cwV 1 hts (lw_V q636 q637 q638 q61 q639) rfl rfl rfl (by decide +kernel) ⟨Nat.le_of_ble_eq_true rfl, Nat.le_of_ble_eq_true rfl⟩) (va_recv hK hP (ci := 3) (q0 := 0) rfl rfl) hK hX hP hD hS hA [0, 1] [] rfl rfl (by decide) (by decide) (by decide) tYb_0 (fun _ _ _ => trivial) rfl hl.1 rfl (Nat.le_of_ble_eq_true rfl) dJ0_set_14 ⟨(show 0 ≤ sC n i v from by omega), (show 0 ≤ sS n i v from by omega)⟩ (fun u_ H locs hp hP hD hS => ?_)
    have hP : va_P D.1 clAll [(b, .inr (3, [.ref w, .int (iI ((un (del P i) : Nat) : Int)), .int (zI false)])), (w, .inl (D.2 2, n, .inr (.inl (wd (del P i)))))] H := hP
    have hD : va_D A [(b, .inr (3, [.ref w, .int (iI ((un (del P i) : Nat) : Int)), .int (zI false)])), (w, .inl (D.2 2, n, .inr (.inl (wd (del P i)))))] := hD
    refine W.eq (g2 := F0 m0 17 ls []) rfl ?_
    have hsC : sC n i v = 0 := by rw [h1]; rfl
    have hsS : sS n i v = 0 := by rw [h1]; rfl
    have hP : va_P D.1 clAll [(b, .inr (3, [.ref w, .int (iI ((un (setB P i v) : Nat) : Int)), .int (zI false)])), (w, .inl (D.2 2, sN n i v, .inr (.inl (wd (setB P i v)))))] H := by rw [h1]; exact hP
    have hD : va_D A [(b, .inr (3, [.ref w, .int (iI ((un (setB P i v) : Nat) : Int)), .int (zI false)])), (w, .inl (D.2 2, sN n i v, .inr (.inl (wd (setB P i v)))))] := by rw [h1]; exact hD
    subst hQ
    exact tm_vret C w trivial hP hD hS (show 0 ≤ sC n i v from by omega) (show 0 ≤ sS n i v from by omega) rfl rfl dJ0_set_17
  · refine lv_aload_n kx kb dJ0_set_4 rfl (lv_at hl 0 rfl) ?_
    refine lv_iload_n kx kb dJ0_set_5 rfl (lv_at hl 1 rfl) ?_
    have hsC : sC n i v = gC n (i / 64 + 1) := by rw [h1]; rfl
    have hsS : sS n i v = gS n (i / 64 + 1) := by rw [h1]; rfl
    refine t_callV (wr := []) C (met_J0_set_2 l D E b w n P i (by first | assumption | omega) (by first | assumption | omega)) (cwV 1 hts (lw_V q632 q633 q634 q61 q635) rfl rfl rfl (by decide +kernel) ⟨Nat.le_of_ble_eq_true rfl, Nat.le_of_ble_eq_true rfl⟩) (va_recv hK hP (ci := 3) (q0 := 0) rfl rfl) hK hX hP hD hS hA [0, 1] [] rfl rfl (by decide) (by decide) (by decide) tYb_0 (fun _ _ _ => trivial) rfl hl.1 rfl (Nat.le_of_ble_eq_true rfl) dJ0_set_6 ⟨(show 0 + (gC n (i / 64 + 1)) ≤ sC n i v from by omega), (show 0 + (gS n (i / 64 + 1)) ≤ sS n i v from by omega)⟩ (fun u_ H locs hp hP hD hS => ?_)
    obtain ⟨w2_1, rfl⟩ : ∃ z, z = u_ := ⟨_, rfl⟩
    have hP : va_P D.1 clAll [(b, .inr (3, [.ref w2_1, .int (iI ((un (ins P i) : Nat) : Int)), .int (zI false)])), (w2_1, .inl (D.2 2, gN n (i / 64 + 1), .inr (.inl (wd (ins P i)))))] H := hP
    have hD : va_D A [(b, .inr (3, [.ref w2_1, .int (iI ((un (ins P i) : Nat) : Int)), .int (zI false)])), (w2_1, .inl (D.2 2, gN n (i / 64 + 1), .inr (.inl (wd (ins P i)))))] := hD
    refine W.eq (g2 := F0 m0 9 ls []) rfl ?_
    refine W.widen (k := 0 + (gC n (i / 64 + 1))) (n := 0 + (gS n (i / 64 + 1))) (Nat.le_refl _) (Nat.le_refl _) ?_
    refine lv_goto (tgt := 17) kx kb dJ0_set_9 (by decide) ?_
    have hP : va_P D.1 clAll [(b, .inr (3, [.ref w2_1, .int (iI ((un (setB P i v) : Nat) : Int)), .int (zI false)])), (w2_1, .inl (D.2 2, sN n i v, .inr (.inl (wd (setB P i v)))))] H := by rw [h1]; exact hP
    have hD : va_D A [(b, .inr (3, [.ref w2_1, .int (iI ((un (setB P i v) : Nat) : Int)), .int (zI false)])), (w2_1, .inl (D.2 2, sN n i v, .inr (.inl (wd (setB P i v)))))] := by rw [h1]; exact hD
    subst hQ
    exact tm_vret C w2_1 trivial hP hD hS (show 0 + (gC n (i / 64 + 1)) ≤ sC n i v from by omega) (show 0 + (gS n (i / 64 + 1)) ≤ sS n i v from by omega) rfl rfl dJ0_set_17
set_option maxHeartbeats 4000000 in
set_option maxRecDepth 100000 in
theorem met_J0_flip (l : Launch) (D : TG) (E : TE) (b : Nat) (w : Nat) (n : Nat) (P : Nat → Bool) (N : Nat) (hB : BB P n) (hN : 1 ≤ N ∧ N ≤ 1024) : tMet l yJ0_flip cJ0_flip 10 none 4 106 (gC n ((N - 1) / 64 + 1)) (gS n ((N - 1) / 64 + 1)) [.ref b, .int (iI 0), .int (iI ((N : Nat) : Int))] D E [(b, .inr (3, [.ref w, .int (iI ((un P : Nat) : Int)), .int (zI false)])), (w, .inl (D.2 2, n, .inr (.inl (wd P))))] tY0 (S := Nat) (fun u_ => True) (fun u_ => none) (fun u_ => [(b, .inr (3, [.ref u_, .int (iI ((un (flp P N) : Nat) : Int)), .int (zI false)])), (u_, .inl (D.2 2, gN n ((N - 1) / 64 + 1), .inr (.inl (wd (flp P N)))))]) := by
  refine tu_met (by decide +kernel) (Nat.le_of_ble_eq_true rfl) ?_
  intro p0 e0 s0 m0 below meth c0 A ls args Q hag hQ C hK hX hY hP hD hA hAe hl
  obtain ⟨kx, kb, hml, hown, hts, -⟩ := id C
  have hS : va_S A s0.heap s0.heap [] := va_S.rf
  have hl : lv_has ls 10 [(0, .ref b), (1, .int (iI 0)), (2, .int (iI ((N : Nat) : Int)))] := hl
  have hBn := hB.1
  have hBm := hB.2.1
  have hul := un_le hB
  have hg := gN_le ⟨hB.1, hB.2.1⟩ (show (N - 1) / 64 + 1 ≤ 16 by omega)
  refine lv_iload_n kx kb dJ0_flip_0 rfl (lv_at hl 1 rfl) ?_
  refine lv_iload_n kx kb dJ0_flip_1 rfl (lv_at hl 2 rfl) ?_
  refine t_callRS C (met_J0_checkRange l D E 0 ((N : Nat) : Int) (by first | assumption | omega)) (va_cwS 2 hts (lw_S q171 q172 q61 q173) rfl rfl rfl (by decide +kernel) ⟨Nat.le_of_ble_eq_true rfl, Nat.le_of_ble_eq_true rfl⟩) hK hX hP hD hS hA [] rfl (by decide) tYb_0 (fun _ _ _ => trivial) rfl hl.1 rfl (Nat.le_of_ble_eq_true rfl) dJ0_flip_2 ⟨(show 0 ≤ gC n ((N - 1) / 64 + 1) from by omega), (show 0 ≤ gS n ((N - 1) / 64 + 1) from by omega)⟩ ?_
  refine W.eq (g2 := F0 m0 5 ls []) rfl ?_
  refine lv_iload_n kx kb dJ0_flip_5 rfl (lv_at hl 1 rfl) ?_
  refine lv_iload_n kx kb dJ0_flip_6 rfl (lv_at hl 2 rfl) ?_
  refine ti_icmp_ne (tgt := 11) kx kb (by omega) dJ0_flip_7 (by decide) (fun h7 => ?_) (fun h7 => ?_)
  · refine lv_iload_n kx kb dJ0_flip_11 rfl (lv_at hl 1 rfl) ?_
    refine W.eq (g2 := F0 m0 12 ls [.int (iI ((0 : Nat) : Int))]) (by rfl) ?_
    refine t_callRS C (met_J0_wordIndex l D E 0 (by first | assumption | omega)) (va_cwS 1 hts (lw_S q119 q120 q61 q121) rfl rfl rfl (by decide +kernel) ⟨Nat.le_of_ble_eq_true rfl, Nat.le_of_ble_eq_true rfl⟩) hK hX hP hD hS hA [] rfl (by decide) tYb_0 (fun _ _ _ => trivial) rfl hl.1 rfl (Nat.le_of_ble_eq_true rfl) dJ0_flip_12 ⟨(show 0 ≤ gC n ((N - 1) / 64 + 1) from by omega), (show 0 ≤ gS n ((N - 1) / 64 + 1) from by omega)⟩ ?_
    refine W.eq (g2 := F0 m0 15 ls [.int (iI ((0 / 64 : Nat) : Int))]) rfl ?_
    refine lv_istore_n (lv' := [(3, .int (iI ((0 / 64 : Nat) : Int))), (0, .ref b), (1, .int (iI 0)), (2, .int (iI ((N : Nat) : Int)))]) kx kb dJ0_flip_15 rfl hl (by decide) rfl (fun ls hl => ?_)
    refine lv_iload_n kx kb dJ0_flip_16 rfl (lv_at hl 3 rfl) ?_
    refine lv_iconst (v := iI 1) kx kb dJ0_flip_17 rfl ?_
    refine ti_isub kx kb dJ0_flip_18 ?_
    refine W.eq (g2 := F0 m0 19 ls [.int (iI ((N - 1 : Nat) : Int))]) (by rw [show ((N : Nat) : Int) - 1 = ((N - 1 : Nat) : Int) from by omega]) ?_
    refine t_callRS C (met_J0_wordIndex l D E (N - 1) (by first | assumption | omega)) (va_cwS 1 hts (lw_S q119 q120 q61 q121) rfl rfl rfl (by decide +kernel) ⟨Nat.le_of_ble_eq_true rfl, Nat.le_of_ble_eq_true rfl⟩) hK hX hP hD hS hA [] rfl (by decide) tYb_0 (fun _ _ _ => trivial) rfl hl.1 rfl (Nat.le_of_ble_eq_true rfl) dJ0_flip_19 ⟨(show 0 ≤ gC n ((N - 1) / 64 + 1) from by omega), (show 0 ≤ gS n ((N - 1) / 64 + 1) from by omega)⟩ ?_
    refine W.eq (g2 := F0 m0 22 ls [.int (iI (((N - 1) / 64 : Nat) : Int))]) rfl ?_
    refine lv_istore (lv' := [(4, .int (iI (((N - 1) / 64 : Nat) : Int))), (3, .int (iI ((0 / 64 : Nat) : Int))), (0, .ref b), (1, .int (iI 0)), (2, .int (iI ((N : Nat) : Int)))]) kx kb dJ0_flip_22 hl (by decide) rfl (fun ls hl => ?_)
    refine lv_aload_n kx kb dJ0_flip_24 rfl (lv_at hl 2 rfl) ?_
    refine lv_iload kx kb dJ0_flip_25 (lv_at hl 0 rfl) ?_
    refine t_callV (wr := []) C (met_J0_expandTo l D E b w n P (un P) ((N - 1) / 64) (by first | assumption | omega) (by first | assumption | omega) (by first | assumption | omega)) (cwV 1 hts (lw_V q503 q505 qs2 q61 q506) rfl rfl rfl (by decide +kernel) ⟨Nat.le_of_ble_eq_true rfl, Nat.le_of_ble_eq_true rfl⟩) (va_recv hK hP (ci := 3) (q0 := 0) rfl rfl) hK hX hP hD hS hA [0, 1] [] rfl rfl (by decide) (by decide) (by decide) tYb_0 (fun _ _ _ => trivial) rfl hl.1 rfl (Nat.le_of_ble_eq_true rfl) dJ0_flip_27 ⟨(show 0 + (gC n (((N - 1) / 64) + 1)) ≤ gC n ((N - 1) / 64 + 1) from by omega), (show 0 + (gS n (((N - 1) / 64) + 1)) ≤ gS n ((N - 1) / 64 + 1) from by omega)⟩ (fun u_ H locs hp hP hD hS => ?_)
    obtain ⟨w2_1, rfl⟩ : ∃ z, z = u_ := ⟨_, rfl⟩
    have hP : va_P D.1 clAll [(b, .inr (3, [.ref w2_1, .int (iI ((max (un P) (((N - 1) / 64) + 1) : Nat) : Int)), .int (zI false)])), (w2_1, .inl (D.2 2, gN n (((N - 1) / 64) + 1), .inr (.inl (wd P))))] H := hP
    have hD : va_D A [(b, .inr (3, [.ref w2_1, .int (iI ((max (un P) (((N - 1) / 64) + 1) : Nat) : Int)), .int (zI false)])), (w2_1, .inl (D.2 2, gN n (((N - 1) / 64) + 1), .inr (.inl (wd P))))] := hD
    refine W.eq (g2 := F0 m0 30 ls []) rfl ?_
    refine W.widen (k := 0 + (gC n (((N - 1) / 64) + 1))) (n := 0 + (gS n (((N - 1) / 64) + 1))) (Nat.le_refl _) (Nat.le_refl _) ?_
    refine lv_ldc2 (v := (-1)) kx kb hown (hts _ q520) dJ0_flip_30 ?_
    refine lv_iload_n kx kb dJ0_flip_33 rfl (lv_at hl 3 rfl) ?_
    refine lv_lshl kx kb dJ0_flip_34 rfl ?_
    refine W.eq (g2 := F0 m0 35 ls [.long (-1 : Int64)]) (by rfl) ?_
    refine lv_lstore (lv' := [(5, .long (-1 : Int64)), (4, .int (iI (((N - 1) / 64 : Nat) : Int))), (3, .int (iI ((0 / 64 : Nat) : Int))), (0, .ref b), (1, .int (iI 0)), (2, .int (iI ((N : Nat) : Int)))]) kx kb dJ0_flip_35 hl (by decide) rfl (fun ls hl => ?_)
    refine lv_ldc2 (v := (-1)) kx kb hown (hts _ q520) dJ0_flip_37 ?_
    refine lv_iload_n kx kb dJ0_flip_40 rfl (lv_at hl 5 rfl) ?_
    refine ti_ineg kx kb dJ0_flip_41 ?_
    refine lv_lushr kx kb dJ0_flip_42 rfl ?_
    refine W.eq (g2 := F0 m0 43 ls [.long (flM N)]) (by rfl) ?_
    refine lv_lstore (lv' := [(7, .long (flM N)), (5, .long (-1 : Int64)), (4, .int (iI (((N - 1) / 64 : Nat) : Int))), (3, .int (iI ((0 / 64 : Nat) : Int))), (0, .ref b), (1, .int (iI 0)), (2, .int (iI ((N : Nat) : Int)))]) kx kb dJ0_flip_43 hl (by decide) rfl (fun ls hl => ?_)
    refine lv_iload_n kx kb dJ0_flip_45 rfl (lv_at hl 3 rfl) ?_
    refine lv_iload kx kb dJ0_flip_46 (lv_at hl 2 rfl) ?_
    refine ti_icmp_ne (tgt := 68) kx kb (by omega) dJ0_flip_48 (by decide) (fun h48 => ?_) (fun h48 => ?_)
    · refine lv_aload_n kx kb dJ0_flip_68 rfl (lv_at hl 4 rfl) ?_
      refine va_get (D := D.1) (ci := 3) (v := .ref w2_1) (C := RJ0) (T := TJ0) (N := 3) kx kb hts in_J0 hown hK hP 0 rfl rfl 0 (by decide) (hts _ q122) (fun _ h9 => h9) rfl dJ0_flip_69 ?_
      refine lv_iload_n kx kb dJ0_flip_72 rfl (lv_at hl 3 rfl) ?_
      refine lv_dup2_11 kx kb dJ0_flip_73 rfl rfl ?_
      refine ta_lald C hK hP 1 rfl 0 (by omega) dJ0_flip_74 ?_
      refine lv_lload kx kb dJ0_flip_75 (lv_at hl 1 rfl) ?_
      refine lv_lxor kx kb dJ0_flip_77 ?_
      refine ta_last C hK hP hD hS 1 rfl 0 (by omega) dJ0_flip_78 (fun H locs hP hD hS => ?_)
      have hP : va_P D.1 clAll [(b, .inr (3, [.ref w2_1, .int (iI ((max (un P) (((N - 1) / 64) + 1) : Nat) : Int)), .int (zI false)])), (w2_1, .inl (D.2 2, gN n (((N - 1) / 64) + 1), .inr (.inl (va_up (wd P) 0 (((wd P) 0) ^^^ (-1 : Int64))))))] H := hP
      have hD : va_D A [(b, .inr (3, [.ref w2_1, .int (iI ((max (un P) (((N - 1) / 64) + 1) : Nat) : Int)), .int (zI false)])), (w2_1, .inl (D.2 2, gN n (((N - 1) / 64) + 1), .inr (.inl (va_up (wd P) 0 (((wd P) 0) ^^^ (-1 : Int64))))))] := hD
      have hP : va_P D.1 clAll [(b, .inr (3, [.ref w2_1, .int (iI ((max (un P) (((N - 1) / 64) + 1) : Nat) : Int)), .int (zI false)])), (w2_1, .inl (D.2 2, gN n (((N - 1) / 64) + 1), .inr (.inl (flw (wd (flp P N)) (wd P) 1))))] H := by rw [← flp_go (show 0 < (N - 1) / 64 by omega), flw_0]; exact hP
      have hD : va_D A [(b, .inr (3, [.ref w2_1, .int (iI ((max (un P) (((N - 1) / 64) + 1) : Nat) : Int)), .int (zI false)])), (w2_1, .inl (D.2 2, gN n (((N - 1) / 64) + 1), .inr (.inl (flw (wd (flp P N)) (wd P) 1))))] := by rw [← flp_go (show 0 < (N - 1) / 64 by omega), flw_0]; exact hD
      refine lv_iload_n kx kb dJ0_flip_79 rfl (lv_at hl 3 rfl) ?_
      refine lv_iconst (v := iI 1) kx kb dJ0_flip_80 rfl ?_
      refine ti_iadd kx kb dJ0_flip_81 ?_
      refine W.eq (g2 := F0 m0 82 ls [.int (iI 1)]) (by rfl) ?_
      refine lv_istore (lv' := [(9, .int (iI 1)), (7, .long (flM N)), (5, .long (-1 : Int64)), (4, .int (iI (((N - 1) / 64 : Nat) : Int))), (3, .int (iI ((0 / 64 : Nat) : Int))), (0, .ref b), (1, .int (iI 0)), (2, .int (iI ((N : Nat) : Int)))]) kx kb dJ0_flip_82 hl (by decide) rfl (fun ls hl => ?_)
      have cut84 : ∀ (fuel : Nat) (i : Nat) (k1 : Nat → Int64), (1 ≤ i ∧ i ≤ (N - 1) / 64) → (k1 = flw (wd (flp P N)) (wd P) i) → ((N - 1) / 64 - i) < fuel → ∀ (H : Heap) (locs : List Loc), va_P D.1 clAll [(b, .inr (3, [.ref w2_1, .int (iI ((max (un P) (((N - 1) / 64) + 1) : Nat) : Int)), .int (zI false)])), (w2_1, .inl (D.2 2, gN n (((N - 1) / 64) + 1), .inr (.inl k1)))] H → va_D A [(b, .inr (3, [.ref w2_1, .int (iI ((max (un P) (((N - 1) / 64) + 1) : Nat) : Int)), .int (zI false)])), (w2_1, .inl (D.2 2, gN n (((N - 1) / 64) + 1), .inr (.inl k1)))] → va_S A s0.heap H locs → ∀ ls : Array Slot, lv_has ls 10 [(9, .int (iI (i : Int))), (7, .long (flM N)), (5, .long (-1 : Int64)), (4, .int (iI (((N - 1) / 64 : Nat) : Int))), (3, .int (iI ((0 / 64 : Nat) : Int))), (0, .ref b), (1, .int (iI 0)), (2, .int (iI ((N : Nat) : Int)))] → W p0 l e0 ({ frames := 4, cells := gC n ((N - 1) / 64 + 1), slots := gS n ((N - 1) / 64 + 1), locals := 106 } : Room) s0 m0 args below meth c0 H locs (0 + (gC n (((N - 1) / 64) + 1))) (0 + (gS n (((N - 1) / 64) + 1))) Q (F0 m0 84 ls []) := by
        intro fuel
        induction fuel with
        | zero =>
          intro i k1 hi hk1 hfuel84
          exact absurd hfuel84 (Nat.not_lt_zero _)
        | succ fuel ih84 =>
          intro i k1 hi hk1 hfuel84 H locs hP hD hS ls hl
          refine lv_iload kx kb dJ0_flip_84 (lv_at hl 0 rfl) ?_
          refine lv_iload kx kb dJ0_flip_86 (lv_at hl 3 rfl) ?_
          refine ti_icmp_ge (tgt := 110) kx kb (by omega) dJ0_flip_88 (by decide) (fun h88 => ?_) (fun h88 => ?_)
          · refine lv_aload_n kx kb dJ0_flip_110 rfl (lv_at hl 5 rfl) ?_
            refine va_get (D := D.1) (ci := 3) (v := .ref w2_1) (C := RJ0) (T := TJ0) (N := 3) kx kb hts in_J0 hown hK hP 0 rfl rfl 0 (by decide) (hts _ q122) (fun _ h9 => h9) rfl dJ0_flip_111 ?_
            refine lv_iload kx kb dJ0_flip_114 (lv_at hl 3 rfl) ?_
            refine lv_dup2_11 kx kb dJ0_flip_116 rfl rfl ?_
            refine ta_lald C hK hP 1 rfl (((((N - 1) / 64 : Nat) : Int)).toNat) (by omega) dJ0_flip_117 ?_
            refine lv_lload kx kb dJ0_flip_118 (lv_at hl 1 rfl) ?_
            refine lv_lxor kx kb dJ0_flip_120 ?_
            refine ta_last C hK hP hD hS 1 rfl ((N - 1) / 64) (by omega) dJ0_flip_121 (fun H locs hP hD hS => ?_)
            have hP : va_P D.1 clAll [(b, .inr (3, [.ref w2_1, .int (iI ((max (un P) (((N - 1) / 64) + 1) : Nat) : Int)), .int (zI false)])), (w2_1, .inl (D.2 2, gN n (((N - 1) / 64) + 1), .inr (.inl (va_up k1 ((N - 1) / 64) ((k1 (((((N - 1) / 64 : Nat) : Int)).toNat)) ^^^ (flM N))))))] H := hP
            have hD : va_D A [(b, .inr (3, [.ref w2_1, .int (iI ((max (un P) (((N - 1) / 64) + 1) : Nat) : Int)), .int (zI false)])), (w2_1, .inl (D.2 2, gN n (((N - 1) / 64) + 1), .inr (.inl (va_up k1 ((N - 1) / 64) ((k1 (((((N - 1) / 64 : Nat) : Int)).toNat)) ^^^ (flM N))))))] := hD
            have hfe : va_up k1 ((N - 1) / 64) (k1 ((N - 1) / 64) ^^^ flM N) = wd (flp P N) := by rw [hk1, show i = (N - 1) / 64 from by omega, flw_at]; exact flp_end hN
            have hP : va_P D.1 clAll [(b, .inr (3, [.ref w2_1, .int (iI ((max (un P) (((N - 1) / 64) + 1) : Nat) : Int)), .int (zI false)])), (w2_1, .inl (D.2 2, gN n (((N - 1) / 64) + 1), .inr (.inl (wd (flp P N)))))] H := by rw [← hfe]; exact hP
            have hD : va_D A [(b, .inr (3, [.ref w2_1, .int (iI ((max (un P) (((N - 1) / 64) + 1) : Nat) : Int)), .int (zI false)])), (w2_1, .inl (D.2 2, gN n (((N - 1) / 64) + 1), .inr (.inl (wd (flp P N)))))] := by rw [← hfe]; exact hD
            refine lv_aload_n kx kb dJ0_flip_122 rfl (lv_at hl 5 rfl) ?_
            refine t_callV (wr := []) C (met_J0_recalculateWordsInUse l D E b w2_1 (gN n (((N - 1) / 64) + 1)) (flp P N) (max (un P) (((N - 1) / 64) + 1)) (BB_flp hB hN) (by omega) (fun k_ hk_ => flp_farz hB hk_)) (cwV 0 hts (lw_V q521 q523 qs4 q61 q524) rfl rfl rfl (by decide +kernel) ⟨Nat.le_of_ble_eq_true rfl, Nat.le_of_ble_eq_true rfl⟩) (va_recv hK hP (ci := 3) (q0 := 0) rfl rfl) hK hX hP hD hS hA [0, 1] [] rfl rfl (by decide) (by decide) (by decide) tYb_0 (fun _ _ _ => trivial) rfl hl.1 rfl (Nat.le_of_ble_eq_true rfl) dJ0_flip_123 ⟨(show 0 + (gC n (((N - 1) / 64) + 1)) ≤ gC n ((N - 1) / 64 + 1) from by omega), (show 0 + (gS n (((N - 1) / 64) + 1)) ≤ gS n ((N - 1) / 64 + 1) from by omega)⟩ (fun u_ H locs hp hP hD hS => ?_)
            have hP : va_P D.1 clAll [(b, .inr (3, [.ref w2_1, .int (iI ((un (flp P N) : Nat) : Int)), .int (zI false)])), (w2_1, .inl (D.2 2, (gN n (((N - 1) / 64) + 1)), .inr (.inl (wd (flp P N)))))] H := hP
            have hD : va_D A [(b, .inr (3, [.ref w2_1, .int (iI ((un (flp P N) : Nat) : Int)), .int (zI false)])), (w2_1, .inl (D.2 2, (gN n (((N - 1) / 64) + 1)), .inr (.inl (wd (flp P N)))))] := hD
            refine W.eq (g2 := F0 m0 126 ls []) rfl ?_
            refine lv_aload_n kx kb dJ0_flip_126 rfl (lv_at hl 5 rfl) ?_
            refine t_callRV C (met_J0_checkInvariants l D E b) (cwV 0 hts (lw_V q525 q527 qs5 q61 q528) rfl rfl rfl (by decide +kernel) ⟨Nat.le_of_ble_eq_true rfl, Nat.le_of_ble_eq_true rfl⟩) (va_recv hK hP (ci := 3) (q0 := 0) rfl rfl) hK hX hP hD hS hA [] rfl (by decide) tYb_0 (fun _ _ _ => trivial) rfl hl.1 rfl (Nat.le_of_ble_eq_true rfl) dJ0_flip_127 ⟨(show 0 + (gC n (((N - 1) / 64) + 1)) ≤ gC n ((N - 1) / 64 + 1) from by omega), (show 0 + (gS n (((N - 1) / 64) + 1)) ≤ gS n ((N - 1) / 64 + 1) from by omega)⟩ ?_
            refine W.eq (g2 := F0 m0 130 ls []) rfl ?_
            subst hQ
            exact tm_vret C w2_1 trivial hP hD hS (show 0 + (gC n (((N - 1) / 64) + 1)) ≤ gC n ((N - 1) / 64 + 1) from by omega) (show 0 + (gS n (((N - 1) / 64) + 1)) ≤ gS n ((N - 1) / 64 + 1) from by omega) rfl rfl dJ0_flip_130
          · refine lv_aload_n kx kb dJ0_flip_91 rfl (lv_at hl 5 rfl) ?_
            refine va_get (D := D.1) (ci := 3) (v := .ref w2_1) (C := RJ0) (T := TJ0) (N := 3) kx kb hts in_J0 hown hK hP 0 rfl rfl 0 (by decide) (hts _ q122) (fun _ h9 => h9) rfl dJ0_flip_92 ?_
            refine lv_iload kx kb dJ0_flip_95 (lv_at hl 0 rfl) ?_
            refine lv_dup2_11 kx kb dJ0_flip_97 rfl rfl ?_
            refine ta_lald C hK hP 1 rfl i (by omega) dJ0_flip_98 ?_
            refine lv_ldc2 (v := (-1)) kx kb hown (hts _ q520) dJ0_flip_99 ?_
            refine lv_lxor kx kb dJ0_flip_102 ?_
            refine ta_last C hK hP hD hS 1 rfl i (by omega) dJ0_flip_103 (fun H locs hP hD hS => ?_)
            have hP : va_P D.1 clAll [(b, .inr (3, [.ref w2_1, .int (iI ((max (un P) (((N - 1) / 64) + 1) : Nat) : Int)), .int (zI false)])), (w2_1, .inl (D.2 2, gN n (((N - 1) / 64) + 1), .inr (.inl (va_up k1 i ((k1 i) ^^^ (-1 : Int64))))))] H := hP
            have hD : va_D A [(b, .inr (3, [.ref w2_1, .int (iI ((max (un P) (((N - 1) / 64) + 1) : Nat) : Int)), .int (zI false)])), (w2_1, .inl (D.2 2, gN n (((N - 1) / 64) + 1), .inr (.inl (va_up k1 i ((k1 i) ^^^ (-1 : Int64))))))] := hD
            refine ti_iinc (a := (i : Int)) (lv' := [(9, .int (iI ((i : Int) + 1))), (7, .long (flM N)), (5, .long (-1 : Int64)), (4, .int (iI (((N - 1) / 64 : Nat) : Int))), (3, .int (iI ((0 / 64 : Nat) : Int))), (0, .ref b), (1, .int (iI 0)), (2, .int (iI ((N : Nat) : Int)))]) kx kb dJ0_flip_104 hl (k := 0) rfl (by decide) rfl (fun ls hl => ?_)
            refine lv_goto (tgt := 84) kx kb dJ0_flip_107 (by decide) ?_
            exact ih84 (i + 1) (va_up k1 i ((k1 i) ^^^ (-1 : Int64))) (by omega) (by rw [hk1, flw_at]; exact flp_go (by omega)) (by omega) H locs hP hD hS ls hl
      exact cut84 (((N - 1) / 64 - 1) + 1) 1 (flw (wd (flp P N)) (wd P) 1) (by omega) (rfl) (Nat.lt_succ_self _) H locs hP hD hS ls hl
    · refine lv_aload_n kx kb dJ0_flip_51 rfl (lv_at hl 4 rfl) ?_
      refine va_get (D := D.1) (ci := 3) (v := .ref w2_1) (C := RJ0) (T := TJ0) (N := 3) kx kb hts in_J0 hown hK hP 0 rfl rfl 0 (by decide) (hts _ q122) (fun _ h9 => h9) rfl dJ0_flip_52 ?_
      refine lv_iload_n kx kb dJ0_flip_55 rfl (lv_at hl 3 rfl) ?_
      refine lv_dup2_11 kx kb dJ0_flip_56 rfl rfl ?_
      refine ta_lald C hK hP 1 rfl ((N - 1) / 64) (by omega) dJ0_flip_57 ?_
      refine lv_lload kx kb dJ0_flip_58 (lv_at hl 1 rfl) ?_
      refine lv_lload kx kb dJ0_flip_60 (lv_at hl 0 rfl) ?_
      refine lv_land kx kb dJ0_flip_62 ?_
      refine lv_lxor kx kb dJ0_flip_63 ?_
      refine ta_last C hK hP hD hS 1 rfl ((N - 1) / 64) (by omega) dJ0_flip_64 (fun H locs hP hD hS => ?_)
      have hP : va_P D.1 clAll [(b, .inr (3, [.ref w2_1, .int (iI ((max (un P) (((N - 1) / 64) + 1) : Nat) : Int)), .int (zI false)])), (w2_1, .inl (D.2 2, gN n (((N - 1) / 64) + 1), .inr (.inl (va_up (wd P) ((N - 1) / 64) (((wd P) ((N - 1) / 64)) ^^^ ((-1 : Int64) &&& (flM N)))))))] H := hP
      have hD : va_D A [(b, .inr (3, [.ref w2_1, .int (iI ((max (un P) (((N - 1) / 64) + 1) : Nat) : Int)), .int (zI false)])), (w2_1, .inl (D.2 2, gN n (((N - 1) / 64) + 1), .inr (.inl (va_up (wd P) ((N - 1) / 64) (((wd P) ((N - 1) / 64)) ^^^ ((-1 : Int64) &&& (flM N)))))))] := hD
      have hP : va_P D.1 clAll [(b, .inr (3, [.ref w2_1, .int (iI ((max (un P) (((N - 1) / 64) + 1) : Nat) : Int)), .int (zI false)])), (w2_1, .inl (D.2 2, gN n (((N - 1) / 64) + 1), .inr (.inl (wd (flp P N)))))] H := by rw [← flp_one hN (by omega)]; exact hP
      have hD : va_D A [(b, .inr (3, [.ref w2_1, .int (iI ((max (un P) (((N - 1) / 64) + 1) : Nat) : Int)), .int (zI false)])), (w2_1, .inl (D.2 2, gN n (((N - 1) / 64) + 1), .inr (.inl (wd (flp P N)))))] := by rw [← flp_one hN (by omega)]; exact hD
      refine lv_goto (tgt := 122) kx kb dJ0_flip_65 (by decide) ?_
      refine lv_aload_n kx kb dJ0_flip_122 rfl (lv_at hl 4 rfl) ?_
      refine t_callV (wr := []) C (met_J0_recalculateWordsInUse l D E b w2_1 (gN n (((N - 1) / 64) + 1)) (flp P N) (max (un P) (((N - 1) / 64) + 1)) (BB_flp hB hN) (by omega) (fun k_ hk_ => flp_farz hB hk_)) (cwV 0 hts (lw_V q521 q523 qs4 q61 q524) rfl rfl rfl (by decide +kernel) ⟨Nat.le_of_ble_eq_true rfl, Nat.le_of_ble_eq_true rfl⟩) (va_recv hK hP (ci := 3) (q0 := 0) rfl rfl) hK hX hP hD hS hA [0, 1] [] rfl rfl (by decide) (by decide) (by decide) tYb_0 (fun _ _ _ => trivial) rfl hl.1 rfl (Nat.le_of_ble_eq_true rfl) dJ0_flip_123 ⟨(show 0 + (gC n (((N - 1) / 64) + 1)) ≤ gC n ((N - 1) / 64 + 1) from by omega), (show 0 + (gS n (((N - 1) / 64) + 1)) ≤ gS n ((N - 1) / 64 + 1) from by omega)⟩ (fun u_ H locs hp hP hD hS => ?_)
      have hP : va_P D.1 clAll [(b, .inr (3, [.ref w2_1, .int (iI ((un (flp P N) : Nat) : Int)), .int (zI false)])), (w2_1, .inl (D.2 2, (gN n (((N - 1) / 64) + 1)), .inr (.inl (wd (flp P N)))))] H := hP
      have hD : va_D A [(b, .inr (3, [.ref w2_1, .int (iI ((un (flp P N) : Nat) : Int)), .int (zI false)])), (w2_1, .inl (D.2 2, (gN n (((N - 1) / 64) + 1)), .inr (.inl (wd (flp P N)))))] := hD
      refine W.eq (g2 := F0 m0 126 ls []) rfl ?_
      refine lv_aload_n kx kb dJ0_flip_126 rfl (lv_at hl 4 rfl) ?_
      refine t_callRV C (met_J0_checkInvariants l D E b) (cwV 0 hts (lw_V q525 q527 qs5 q61 q528) rfl rfl rfl (by decide +kernel) ⟨Nat.le_of_ble_eq_true rfl, Nat.le_of_ble_eq_true rfl⟩) (va_recv hK hP (ci := 3) (q0 := 0) rfl rfl) hK hX hP hD hS hA [] rfl (by decide) tYb_0 (fun _ _ _ => trivial) rfl hl.1 rfl (Nat.le_of_ble_eq_true rfl) dJ0_flip_127 ⟨(show 0 + (gC n (((N - 1) / 64) + 1)) ≤ gC n ((N - 1) / 64 + 1) from by omega), (show 0 + (gS n (((N - 1) / 64) + 1)) ≤ gS n ((N - 1) / 64 + 1) from by omega)⟩ ?_
      refine W.eq (g2 := F0 m0 130 ls []) rfl ?_
      subst hQ
      exact tm_vret C w2_1 trivial hP hD hS (show 0 + (gC n (((N - 1) / 64) + 1)) ≤ gC n ((N - 1) / 64 + 1) from by omega) (show 0 + (gS n (((N - 1) / 64) + 1)) ≤ gS n ((N - 1) / 64 + 1) from by omega) rfl rfl dJ0_flip_130
  · omega
set_option maxHeartbeats 4000000 in
set_option maxRecDepth 100000 in
theorem met_J0_or (l : Launch) (D : TG) (E : TE) (b : Nat) (w : Nat) (n : Nat) (P : Nat → Bool) (c : Nat) (v : Nat) (n2 : Nat) (Q_ : Nat → Bool) (hB : BB P n) (hB2 : BB Q_ n2) : tMet l yJ0_or cJ0_or 4 none 3 84 (gC n (un Q_)) (gS n (un Q_)) [.ref b, .ref c] D E [(b, .inr (3, [.ref w, .int (iI ((un P : Nat) : Int)), .int (zI false)])), (w, .inl (D.2 2, n, .inr (.inl (wd P)))), (c, .inr (3, [.ref v, .int (iI ((un Q_ : Nat) : Int)), .int (zI false)])), (v, .inl (D.2 2, n2, .inr (.inl (wd Q_))))] tY0 (S := Nat) (fun u_ => True) (fun u_ => none) (fun u_ => [(b, .inr (3, [.ref u_, .int (iI ((un (orB P Q_) : Nat) : Int)), .int (zI false)])), (u_, .inl (D.2 2, gN n (un Q_), .inr (.inl (wd (orB P Q_))))), (c, .inr (3, [.ref v, .int (iI ((un Q_ : Nat) : Int)), .int (zI false)])), (v, .inl (D.2 2, n2, .inr (.inl (wd Q_))))]) := by
  refine tu_met (by decide +kernel) (Nat.le_of_ble_eq_true rfl) ?_
  intro p0 e0 s0 m0 below meth c0 A ls args Q hag hQ C hK hX hY hP hD hA hAe hl
  obtain ⟨kx, kb, hml, hown, hts, -⟩ := id C
  have hS : va_S A s0.heap s0.heap [] := va_S.rf
  have hl : lv_has ls 4 [(0, .ref b), (1, .ref c)] := hl
  have hBn := hB.1
  have hBm := hB.2.1
  have hul := un_le hB
  have hul2 := un_le hB2
  have hBn2 := hB2.1
  have hBm2 := hB2.2.1
  have hg := gN_le ⟨hB.1, hB.2.1⟩ hul2.2
  refine lv_aload_n kx kb dJ0_or_0 rfl (lv_at hl 0 rfl) ?_
  refine lv_aload_n kx kb dJ0_or_1 rfl (lv_at hl 1 rfl) ?_
  refine lv_acmp_ne (rx := some b) (ry := some c) (tgt := 6) kx kb dJ0_or_2 (by decide) (fun h2 => ?_) (fun h2 => ?_)
  · refine lv_aload_n kx kb dJ0_or_6 rfl (lv_at hl 0 rfl) ?_
    refine va_get (D := D.1) (ci := 3) (v := .int (iI ((un P : Nat) : Int))) (C := RJ0) (T := TJ0) (N := 3) kx kb hts in_J0 hown hK hP 0 rfl rfl 1 (by decide) (hts _ q123) (fun _ h9 => h9) rfl dJ0_or_7 ?_
    refine lv_aload_n kx kb dJ0_or_10 rfl (lv_at hl 1 rfl) ?_
    refine va_get (D := D.1) (ci := 3) (v := .int (iI ((un Q_ : Nat) : Int))) (C := RJ0) (T := TJ0) (N := 3) kx kb hts in_J0 hown hK hP 2 rfl rfl 1 (by decide) (hts _ q123) (fun _ h9 => h9) rfl dJ0_or_11 ?_
    refine ti_mmin kx kb (hml.trans hl.1.symm) hown (hts _ q561) (hts _ q290) (hts _ q74) (hts _ q291) (Nat.le_of_ble_eq_true rfl) (Nat.le_of_ble_eq_true rfl) (show 0 ≤ gC n (un Q_) from by omega) (show 0 ≤ gS n (un Q_) from by omega) (by omega) dJ0_or_14 ?_
    refine W.eq (g2 := F0 m0 17 ls [.int (iI ((min (un P) (un Q_) : Nat) : Int))]) (by rw [show min ((un P : Nat) : Int) ((un Q_ : Nat) : Int) = ((min (un P) (un Q_) : Nat) : Int) from by omega]) ?_
    refine lv_istore_n (lv' := [(2, .int (iI ((min (un P) (un Q_) : Nat) : Int))), (0, .ref b), (1, .ref c)]) kx kb dJ0_or_17 rfl hl (by decide) rfl (fun ls hl => ?_)
    refine lv_aload_n kx kb dJ0_or_18 rfl (lv_at hl 1 rfl) ?_
    refine va_get (D := D.1) (ci := 3) (v := .int (iI ((un P : Nat) : Int))) (C := RJ0) (T := TJ0) (N := 3) kx kb hts in_J0 hown hK hP 0 rfl rfl 1 (by decide) (hts _ q123) (fun _ h9 => h9) rfl dJ0_or_19 ?_
    refine lv_aload_n kx kb dJ0_or_22 rfl (lv_at hl 2 rfl) ?_
    refine va_get (D := D.1) (ci := 3) (v := .int (iI ((un Q_ : Nat) : Int))) (C := RJ0) (T := TJ0) (N := 3) kx kb hts in_J0 hown hK hP 2 rfl rfl 1 (by decide) (hts _ q123) (fun _ h9 => h9) rfl dJ0_or_23 ?_
    refine ti_icmp_ge (tgt := 45) kx kb (by omega) dJ0_or_26 (by decide) (fun h26 => ?_) (fun h26 => ?_)
    · have hP : va_P D.1 clAll [(b, .inr (3, [.ref w, .int (iI ((max (un P) (un Q_) : Nat) : Int)), .int (zI false)])), (w, .inl (D.2 2, gN n (un Q_), .inr (.inl (wd P)))), (c, .inr (3, [.ref v, .int (iI ((un Q_ : Nat) : Int)), .int (zI false)])), (v, .inl (D.2 2, n2, .inr (.inl (wd Q_))))] s0.heap := by rw [show max (un P) (un Q_) = un P from by omega, show gN n (un Q_) = n from if_pos (by omega)]; exact hP
      have hD : va_D A [(b, .inr (3, [.ref w, .int (iI ((max (un P) (un Q_) : Nat) : Int)), .int (zI false)])), (w, .inl (D.2 2, gN n (un Q_), .inr (.inl (wd P)))), (c, .inr (3, [.ref v, .int (iI ((un Q_ : Nat) : Int)), .int (zI false)])), (v, .inl (D.2 2, n2, .inr (.inl (wd Q_))))] := by rw [show max (un P) (un Q_) = un P from by omega, show gN n (un Q_) = n from if_pos (by omega)]; exact hD
      refine lv_iconst (v := iI 0) kx kb dJ0_or_45 rfl ?_
      refine lv_istore_n (lv' := [(3, .int (iI 0)), (2, .int (iI ((min (un P) (un Q_) : Nat) : Int))), (0, .ref b), (1, .ref c)]) kx kb dJ0_or_46 rfl hl (by decide) rfl (fun ls hl => ?_)
      have cut47 : ∀ (fuel : Nat) (i : Nat) (k1 : Nat → Int64), (i ≤ min (un P) (un Q_)) → (k1 = flw (wd (orB P Q_)) (wd P) i) → (min (un P) (un Q_) - i) < fuel → ∀ (H : Heap) (locs : List Loc), va_P D.1 clAll [(b, .inr (3, [.ref w, .int (iI ((max (un P) (un Q_) : Nat) : Int)), .int (zI false)])), (w, .inl (D.2 2, gN n (un Q_), .inr (.inl k1))), (c, .inr (3, [.ref v, .int (iI ((un Q_ : Nat) : Int)), .int (zI false)])), (v, .inl (D.2 2, n2, .inr (.inl (wd Q_))))] H → va_D A [(b, .inr (3, [.ref w, .int (iI ((max (un P) (un Q_) : Nat) : Int)), .int (zI false)])), (w, .inl (D.2 2, gN n (un Q_), .inr (.inl k1))), (c, .inr (3, [.ref v, .int (iI ((un Q_ : Nat) : Int)), .int (zI false)])), (v, .inl (D.2 2, n2, .inr (.inl (wd Q_))))] → va_S A s0.heap H locs → ∀ ls : Array Slot, lv_has ls 4 [(3, .int (iI (i : Int))), (2, .int (iI ((min (un P) (un Q_) : Nat) : Int))), (0, .ref b), (1, .ref c)] → W p0 l e0 ({ frames := 3, cells := gC n (un Q_), slots := gS n (un Q_), locals := 84 } : Room) s0 m0 args below meth c0 H locs (0) (0) Q (F0 m0 47 ls []) := by
        intro fuel
        induction fuel with
        | zero =>
          intro i k1 hi hk1 hfuel47
          exact absurd hfuel47 (Nat.not_lt_zero _)
        | succ fuel ih47 =>
          intro i k1 hi hk1 hfuel47 H locs hP hD hS ls hl
          refine lv_iload_n kx kb dJ0_or_47 rfl (lv_at hl 0 rfl) ?_
          refine lv_iload_n kx kb dJ0_or_48 rfl (lv_at hl 1 rfl) ?_
          refine ti_icmp_ge (tgt := 73) kx kb (by omega) dJ0_or_49 (by decide) (fun h49 => ?_) (fun h49 => ?_)
          · refine lv_iload_n kx kb dJ0_or_73 rfl (lv_at hl 1 rfl) ?_
            refine lv_aload_n kx kb dJ0_or_74 rfl (lv_at hl 3 rfl) ?_
            refine va_get (D := D.1) (ci := 3) (v := .int (iI ((un Q_ : Nat) : Int))) (C := RJ0) (T := TJ0) (N := 3) kx kb hts in_J0 hown hK hP 2 rfl rfl 1 (by decide) (hts _ q123) (fun _ h9 => h9) rfl dJ0_or_75 ?_
            refine ti_icmp_ge (tgt := 100) kx kb (by omega) dJ0_or_78 (by decide) (fun h78 => ?_) (fun h78 => ?_)
            · have hk1b : k1 = flw (wd (orB P Q_)) (wd P) (min (un P) (un Q_)) := by rw [hk1, show i = min (un P) (un Q_) from by omega]
              have hP : va_P D.1 clAll [(b, .inr (3, [.ref w, .int (iI ((max (un P) (un Q_) : Nat) : Int)), .int (zI false)])), (w, .inl (D.2 2, gN n (un Q_), .inr (.inl (wd (orB P Q_))))), (c, .inr (3, [.ref v, .int (iI ((un Q_ : Nat) : Int)), .int (zI false)])), (v, .inl (D.2 2, n2, .inr (.inl (wd Q_))))] H := by rw [← flw_wd (P := P) (Q := orB P Q_) (min (un P) (un Q_)) (fun k_ hk_ => orB_z (un_z hB2 (by omega))), ← hk1b]; exact hP
              have hD : va_D A [(b, .inr (3, [.ref w, .int (iI ((max (un P) (un Q_) : Nat) : Int)), .int (zI false)])), (w, .inl (D.2 2, gN n (un Q_), .inr (.inl (wd (orB P Q_))))), (c, .inr (3, [.ref v, .int (iI ((un Q_ : Nat) : Int)), .int (zI false)])), (v, .inl (D.2 2, n2, .inr (.inl (wd Q_))))] := by rw [← flw_wd (P := P) (Q := orB P Q_) (min (un P) (un Q_)) (fun k_ hk_ => orB_z (un_z hB2 (by omega))), ← hk1b]; exact hD
              have hP : va_P D.1 clAll [(b, .inr (3, [.ref w, .int (iI ((un (orB P Q_) : Nat) : Int)), .int (zI false)])), (w, .inl (D.2 2, gN n (un Q_), .inr (.inl (wd (orB P Q_))))), (c, .inr (3, [.ref v, .int (iI ((un Q_ : Nat) : Int)), .int (zI false)])), (v, .inl (D.2 2, n2, .inr (.inl (wd Q_))))] H := by rw [un_or hB hB2]; exact hP
              have hD : va_D A [(b, .inr (3, [.ref w, .int (iI ((un (orB P Q_) : Nat) : Int)), .int (zI false)])), (w, .inl (D.2 2, gN n (un Q_), .inr (.inl (wd (orB P Q_))))), (c, .inr (3, [.ref v, .int (iI ((un Q_ : Nat) : Int)), .int (zI false)])), (v, .inl (D.2 2, n2, .inr (.inl (wd Q_))))] := by rw [un_or hB hB2]; exact hD
              refine lv_aload_n kx kb dJ0_or_100 rfl (lv_at hl 2 rfl) ?_
              refine t_callRV C (met_J0_checkInvariants l D E b) (cwV 0 hts (lw_V q525 q527 qs5 q61 q528) rfl rfl rfl (by decide +kernel) ⟨Nat.le_of_ble_eq_true rfl, Nat.le_of_ble_eq_true rfl⟩) (va_recv hK hP (ci := 3) (q0 := 0) rfl rfl) hK hX hP hD hS hA [] rfl (by decide) tYb_0 (fun _ _ _ => trivial) rfl hl.1 rfl (Nat.le_of_ble_eq_true rfl) dJ0_or_101 ⟨(show 0 ≤ gC n (un Q_) from by omega), (show 0 ≤ gS n (un Q_) from by omega)⟩ ?_
              refine W.eq (g2 := F0 m0 104 ls []) rfl ?_
              subst hQ
              exact tm_vret C w trivial hP hD hS (show 0 ≤ gC n (un Q_) from by omega) (show 0 ≤ gS n (un Q_) from by omega) rfl rfl dJ0_or_104
            · refine lv_aload_n kx kb dJ0_or_81 rfl (lv_at hl 3 rfl) ?_
              refine va_get (D := D.1) (ci := 3) (v := .ref v) (C := RJ0) (T := TJ0) (N := 3) kx kb hts in_J0 hown hK hP 2 rfl rfl 0 (by decide) (hts _ q122) (fun _ h9 => h9) rfl dJ0_or_82 ?_
              refine lv_iload_n kx kb dJ0_or_85 rfl (lv_at hl 1 rfl) ?_
              refine lv_aload_n kx kb dJ0_or_86 rfl (lv_at hl 2 rfl) ?_
              refine va_get (D := D.1) (ci := 3) (v := .ref w) (C := RJ0) (T := TJ0) (N := 3) kx kb hts in_J0 hown hK hP 0 rfl rfl 0 (by decide) (hts _ q122) (fun _ h9 => h9) rfl dJ0_or_87 ?_
              refine lv_iload_n kx kb dJ0_or_90 rfl (lv_at hl 1 rfl) ?_
              refine lv_aload_n kx kb dJ0_or_91 rfl (lv_at hl 2 rfl) ?_
              refine va_get (D := D.1) (ci := 3) (v := .int (iI ((max (un P) (un Q_) : Nat) : Int))) (C := RJ0) (T := TJ0) (N := 3) kx kb hts in_J0 hown hK hP 0 rfl rfl 1 (by decide) (hts _ q123) (fun _ h9 => h9) rfl dJ0_or_92 ?_
              refine lv_iload_n kx kb dJ0_or_95 rfl (lv_at hl 1 rfl) ?_
              refine ti_isub kx kb dJ0_or_96 ?_
              refine ta_copyl kx kb (hml.trans hl.1.symm) hown (hts _ q562) (hts _ q294) (hts _ q293) (hts _ q76) hK hP hD hS 3 1 rfl rfl (min (un P) (un Q_)) (min (un P) (un Q_)) (un Q_ - min (un P) (un Q_)) (by omega) (Nat.le_of_ble_eq_true rfl) (Nat.le_of_ble_eq_true rfl) dJ0_or_97 (fun H locs hP hD hS => ?_)
              have hP : va_P D.1 clAll [(b, .inr (3, [.ref w, .int (iI ((max (un P) (un Q_) : Nat) : Int)), .int (zI false)])), (w, .inl (D.2 2, gN n (un Q_), .inr (.inl (va_cpy (wd Q_) k1 (min (un P) (un Q_)) (min (un P) (un Q_)) (un Q_ - min (un P) (un Q_)))))), (c, .inr (3, [.ref v, .int (iI ((un Q_ : Nat) : Int)), .int (zI false)])), (v, .inl (D.2 2, n2, .inr (.inl (wd Q_))))] H := hP
              have hD : va_D A [(b, .inr (3, [.ref w, .int (iI ((max (un P) (un Q_) : Nat) : Int)), .int (zI false)])), (w, .inl (D.2 2, gN n (un Q_), .inr (.inl (va_cpy (wd Q_) k1 (min (un P) (un Q_)) (min (un P) (un Q_)) (un Q_ - min (un P) (un Q_)))))), (c, .inr (3, [.ref v, .int (iI ((un Q_ : Nat) : Int)), .int (zI false)])), (v, .inl (D.2 2, n2, .inr (.inl (wd Q_))))] := hD
              have hk1b : k1 = flw (wd (orB P Q_)) (wd P) (min (un P) (un Q_)) := by rw [hk1, show i = min (un P) (un Q_) from by omega]
              have hP : va_P D.1 clAll [(b, .inr (3, [.ref w, .int (iI ((max (un P) (un Q_) : Nat) : Int)), .int (zI false)])), (w, .inl (D.2 2, gN n (un Q_), .inr (.inl (wd (orB P Q_))))), (c, .inr (3, [.ref v, .int (iI ((un Q_ : Nat) : Int)), .int (zI false)])), (v, .inl (D.2 2, n2, .inr (.inl (wd Q_))))] H := by rw [← wd_cpy2 (P := P) (Q := Q_) (R := orB P Q_) (m := min (un P) (un Q_)) (n := un Q_) (fun k_ h1_ h2_ => orB_z2 (un_z hB (by omega))) (fun k_ hk_ => orB_z (un_z hB2 hk_)) (by omega), ← hk1b]; exact hP
              have hD : va_D A [(b, .inr (3, [.ref w, .int (iI ((max (un P) (un Q_) : Nat) : Int)), .int (zI false)])), (w, .inl (D.2 2, gN n (un Q_), .inr (.inl (wd (orB P Q_))))), (c, .inr (3, [.ref v, .int (iI ((un Q_ : Nat) : Int)), .int (zI false)])), (v, .inl (D.2 2, n2, .inr (.inl (wd Q_))))] := by rw [← wd_cpy2 (P := P) (Q := Q_) (R := orB P Q_) (m := min (un P) (un Q_)) (n := un Q_) (fun k_ h1_ h2_ => orB_z2 (un_z hB (by omega))) (fun k_ hk_ => orB_z (un_z hB2 hk_)) (by omega), ← hk1b]; exact hD
              have hP : va_P D.1 clAll [(b, .inr (3, [.ref w, .int (iI ((un (orB P Q_) : Nat) : Int)), .int (zI false)])), (w, .inl (D.2 2, gN n (un Q_), .inr (.inl (wd (orB P Q_))))), (c, .inr (3, [.ref v, .int (iI ((un Q_ : Nat) : Int)), .int (zI false)])), (v, .inl (D.2 2, n2, .inr (.inl (wd Q_))))] H := by rw [un_or hB hB2]; exact hP
              have hD : va_D A [(b, .inr (3, [.ref w, .int (iI ((un (orB P Q_) : Nat) : Int)), .int (zI false)])), (w, .inl (D.2 2, gN n (un Q_), .inr (.inl (wd (orB P Q_))))), (c, .inr (3, [.ref v, .int (iI ((un Q_ : Nat) : Int)), .int (zI false)])), (v, .inl (D.2 2, n2, .inr (.inl (wd Q_))))] := by rw [un_or hB hB2]; exact hD
              refine lv_aload_n kx kb dJ0_or_100 rfl (lv_at hl 2 rfl) ?_
              refine t_callRV C (met_J0_checkInvariants l D E b) (cwV 0 hts (lw_V q525 q527 qs5 q61 q528) rfl rfl rfl (by decide +kernel) ⟨Nat.le_of_ble_eq_true rfl, Nat.le_of_ble_eq_true rfl⟩) (va_recv hK hP (ci := 3) (q0 := 0) rfl rfl) hK hX hP hD hS hA [] rfl (by decide) tYb_0 (fun _ _ _ => trivial) rfl hl.1 rfl (Nat.le_of_ble_eq_true rfl) dJ0_or_101 ⟨(show 0 ≤ gC n (un Q_) from by omega), (show 0 ≤ gS n (un Q_) from by omega)⟩ ?_
              refine W.eq (g2 := F0 m0 104 ls []) rfl ?_
              subst hQ
              exact tm_vret C w trivial hP hD hS (show 0 ≤ gC n (un Q_) from by omega) (show 0 ≤ gS n (un Q_) from by omega) rfl rfl dJ0_or_104
          · refine lv_aload_n kx kb dJ0_or_52 rfl (lv_at hl 2 rfl) ?_
            refine va_get (D := D.1) (ci := 3) (v := .ref w) (C := RJ0) (T := TJ0) (N := 3) kx kb hts in_J0 hown hK hP 0 rfl rfl 0 (by decide) (hts _ q122) (fun _ h9 => h9) rfl dJ0_or_53 ?_
            refine lv_iload_n kx kb dJ0_or_56 rfl (lv_at hl 0 rfl) ?_
            refine lv_dup2_11 kx kb dJ0_or_57 rfl rfl ?_
            refine ta_lald C hK hP 1 rfl i (by omega) dJ0_or_58 ?_
            refine lv_aload_n kx kb dJ0_or_59 rfl (lv_at hl 3 rfl) ?_
            refine va_get (D := D.1) (ci := 3) (v := .ref v) (C := RJ0) (T := TJ0) (N := 3) kx kb hts in_J0 hown hK hP 2 rfl rfl 0 (by decide) (hts _ q122) (fun _ h9 => h9) rfl dJ0_or_60 ?_
            refine lv_iload_n kx kb dJ0_or_63 rfl (lv_at hl 0 rfl) ?_
            refine ta_lald C hK hP 3 rfl i (by omega) dJ0_or_64 ?_
            refine lv_lor kx kb dJ0_or_65 ?_
            refine ta_last C hK hP hD hS 1 rfl i (by omega) dJ0_or_66 (fun H locs hP hD hS => ?_)
            have hP : va_P D.1 clAll [(b, .inr (3, [.ref w, .int (iI ((max (un P) (un Q_) : Nat) : Int)), .int (zI false)])), (w, .inl (D.2 2, gN n (un Q_), .inr (.inl (va_up k1 i ((k1 i) ||| ((wd Q_) i)))))), (c, .inr (3, [.ref v, .int (iI ((un Q_ : Nat) : Int)), .int (zI false)])), (v, .inl (D.2 2, n2, .inr (.inl (wd Q_))))] H := hP
            have hD : va_D A [(b, .inr (3, [.ref w, .int (iI ((max (un P) (un Q_) : Nat) : Int)), .int (zI false)])), (w, .inl (D.2 2, gN n (un Q_), .inr (.inl (va_up k1 i ((k1 i) ||| ((wd Q_) i)))))), (c, .inr (3, [.ref v, .int (iI ((un Q_ : Nat) : Int)), .int (zI false)])), (v, .inl (D.2 2, n2, .inr (.inl (wd Q_))))] := hD
            refine ti_iinc (a := (i : Int)) (lv' := [(3, .int (iI ((i : Int) + 1))), (2, .int (iI ((min (un P) (un Q_) : Nat) : Int))), (0, .ref b), (1, .ref c)]) kx kb dJ0_or_67 hl (k := 0) rfl (by decide) rfl (fun ls hl => ?_)
            refine lv_goto (tgt := 47) kx kb dJ0_or_70 (by decide) ?_
            exact ih47 (i + 1) (va_up k1 i ((k1 i) ||| ((wd Q_) i))) (by omega) (by rw [hk1, flw_at, wd_or]; exact flw_up rfl) (by omega) H locs hP hD hS ls hl
      exact cut47 ((min (un P) (un Q_) - 0) + 1) 0 (wd P) (by omega) (by rw [flw_0]) (Nat.lt_succ_self _) s0.heap [] hP hD hS ls hl
    · refine lv_aload_n kx kb dJ0_or_29 rfl (lv_at hl 1 rfl) ?_
      refine lv_aload_n kx kb dJ0_or_30 rfl (lv_at hl 2 rfl) ?_
      refine va_get (D := D.1) (ci := 3) (v := .int (iI ((un Q_ : Nat) : Int))) (C := RJ0) (T := TJ0) (N := 3) kx kb hts in_J0 hown hK hP 2 rfl rfl 1 (by decide) (hts _ q123) (fun _ h9 => h9) rfl dJ0_or_31 ?_
      refine t_callV (wr := [(c, .inr (3, [.ref v, .int (iI ((un Q_ : Nat) : Int)), .int (zI false)])), (v, .inl (D.2 2, n2, .inr (.inl (wd Q_))))]) C (met_J0_ensureCapacity l D E b w n P (un P) (un Q_) (by first | assumption | omega) (by first | assumption | omega)) (cwV 1 hts (lw_V q507 q509 qs3 q61 q510) rfl rfl rfl (by decide +kernel) ⟨Nat.le_of_ble_eq_true rfl, Nat.le_of_ble_eq_true rfl⟩) (va_recv hK hP (ci := 3) (q0 := 0) rfl rfl) hK hX hP hD hS hA [0, 1] [2, 3] rfl rfl (by decide) (by decide) (by decide) tYb_0 (fun _ _ _ => trivial) rfl hl.1 rfl (Nat.le_of_ble_eq_true rfl) dJ0_or_34 ⟨(show 0 + (gC n (un Q_)) ≤ gC n (un Q_) from by omega), (show 0 + (gS n (un Q_)) ≤ gS n (un Q_) from by omega)⟩ (fun u_ H locs hp hP hD hS => ?_)
      obtain ⟨w2_1, rfl⟩ : ∃ z, z = u_ := ⟨_, rfl⟩
      have hP : va_P D.1 clAll [(c, .inr (3, [.ref v, .int (iI ((un Q_ : Nat) : Int)), .int (zI false)])), (v, .inl (D.2 2, n2, .inr (.inl (wd Q_)))), (b, .inr (3, [.ref w2_1, .int (iI (((un P) : Nat) : Int)), .int (zI false)])), (w2_1, .inl (D.2 2, gN n (un Q_), .inr (.inl (wd P))))] H := hP
      have hD : va_D A [(c, .inr (3, [.ref v, .int (iI ((un Q_ : Nat) : Int)), .int (zI false)])), (v, .inl (D.2 2, n2, .inr (.inl (wd Q_)))), (b, .inr (3, [.ref w2_1, .int (iI (((un P) : Nat) : Int)), .int (zI false)])), (w2_1, .inl (D.2 2, gN n (un Q_), .inr (.inl (wd P))))] := hD
      refine W.eq (g2 := F0 m0 37 ls []) rfl ?_
      refine W.widen (k := 0 + (gC n (un Q_))) (n := 0 + (gS n (un Q_))) (Nat.le_refl _) (Nat.le_refl _) ?_
      refine lv_aload_n kx kb dJ0_or_37 rfl (lv_at hl 1 rfl) ?_
      refine lv_aload_n kx kb dJ0_or_38 rfl (lv_at hl 2 rfl) ?_
      refine va_get (D := D.1) (ci := 3) (v := .int (iI ((un Q_ : Nat) : Int))) (C := RJ0) (T := TJ0) (N := 3) kx kb hts in_J0 hown hK hP 0 rfl rfl 1 (by decide) (hts _ q123) (fun _ h9 => h9) rfl dJ0_or_39 ?_
      refine va_put (D := D.1) (ci := 3) (v := .int (iI ((un Q_ : Nat) : Int))) (ty := .int) (C := RJ0) (T := TJ0) (N := 3) kx kb hts in_J0 tyJ0 tyJ0_ok nmJ0 hown hK hP hD hS 2 rfl rfl 1 (by decide) (hts _ q123) (fun _ h9 => h9) rfl (by decide +kernel) rfl rfl (Nat.le_of_ble_eq_true rfl) dJ0_or_42 (fun H locs hP hD hS => ?_)
      have hP : va_P D.1 clAll [(c, .inr (3, [.ref v, .int (iI ((un Q_ : Nat) : Int)), .int (zI false)])), (v, .inl (D.2 2, n2, .inr (.inl (wd Q_)))), (b, .inr (3, [.ref w2_1, .int (iI ((un Q_ : Nat) : Int)), .int (zI false)])), (w2_1, .inl (D.2 2, gN n (un Q_), .inr (.inl (wd P))))] H := hP
      have hD : va_D A [(c, .inr (3, [.ref v, .int (iI ((un Q_ : Nat) : Int)), .int (zI false)])), (v, .inl (D.2 2, n2, .inr (.inl (wd Q_)))), (b, .inr (3, [.ref w2_1, .int (iI ((un Q_ : Nat) : Int)), .int (zI false)])), (w2_1, .inl (D.2 2, gN n (un Q_), .inr (.inl (wd P))))] := hD
      have hP : va_P D.1 clAll [(c, .inr (3, [.ref v, .int (iI ((un Q_ : Nat) : Int)), .int (zI false)])), (v, .inl (D.2 2, n2, .inr (.inl (wd Q_)))), (b, .inr (3, [.ref w2_1, .int (iI ((max (un P) (un Q_) : Nat) : Int)), .int (zI false)])), (w2_1, .inl (D.2 2, gN n (un Q_), .inr (.inl (wd P))))] H := by rw [show max (un P) (un Q_) = un Q_ from by omega]; exact hP
      have hD : va_D A [(c, .inr (3, [.ref v, .int (iI ((un Q_ : Nat) : Int)), .int (zI false)])), (v, .inl (D.2 2, n2, .inr (.inl (wd Q_)))), (b, .inr (3, [.ref w2_1, .int (iI ((max (un P) (un Q_) : Nat) : Int)), .int (zI false)])), (w2_1, .inl (D.2 2, gN n (un Q_), .inr (.inl (wd P))))] := by rw [show max (un P) (un Q_) = un Q_ from by omega]; exact hD
      refine lv_iconst (v := iI 0) kx kb dJ0_or_45 rfl ?_
      refine lv_istore_n (lv' := [(3, .int (iI 0)), (2, .int (iI ((min (un P) (un Q_) : Nat) : Int))), (0, .ref b), (1, .ref c)]) kx kb dJ0_or_46 rfl hl (by decide) rfl (fun ls hl => ?_)
      have cut47 : ∀ (fuel : Nat) (i : Nat) (k1 : Nat → Int64), (i ≤ min (un P) (un Q_)) → (k1 = flw (wd (orB P Q_)) (wd P) i) → (min (un P) (un Q_) - i) < fuel → ∀ (H : Heap) (locs : List Loc), va_P D.1 clAll [(c, .inr (3, [.ref v, .int (iI ((un Q_ : Nat) : Int)), .int (zI false)])), (v, .inl (D.2 2, n2, .inr (.inl (wd Q_)))), (b, .inr (3, [.ref w2_1, .int (iI ((max (un P) (un Q_) : Nat) : Int)), .int (zI false)])), (w2_1, .inl (D.2 2, gN n (un Q_), .inr (.inl k1)))] H → va_D A [(c, .inr (3, [.ref v, .int (iI ((un Q_ : Nat) : Int)), .int (zI false)])), (v, .inl (D.2 2, n2, .inr (.inl (wd Q_)))), (b, .inr (3, [.ref w2_1, .int (iI ((max (un P) (un Q_) : Nat) : Int)), .int (zI false)])), (w2_1, .inl (D.2 2, gN n (un Q_), .inr (.inl k1)))] → va_S A s0.heap H locs → ∀ ls : Array Slot, lv_has ls 4 [(3, .int (iI (i : Int))), (2, .int (iI ((min (un P) (un Q_) : Nat) : Int))), (0, .ref b), (1, .ref c)] → W p0 l e0 ({ frames := 3, cells := gC n (un Q_), slots := gS n (un Q_), locals := 84 } : Room) s0 m0 args below meth c0 H locs (0 + (gC n (un Q_))) (0 + (gS n (un Q_))) Q (F0 m0 47 ls []) := by
        intro fuel
        induction fuel with
        | zero =>
          intro i k1 hi hk1 hfuel47
          exact absurd hfuel47 (Nat.not_lt_zero _)
        | succ fuel ih47 =>
          intro i k1 hi hk1 hfuel47 H locs hP hD hS ls hl
          refine lv_iload_n kx kb dJ0_or_47 rfl (lv_at hl 0 rfl) ?_
          refine lv_iload_n kx kb dJ0_or_48 rfl (lv_at hl 1 rfl) ?_
          refine ti_icmp_ge (tgt := 73) kx kb (by omega) dJ0_or_49 (by decide) (fun h49 => ?_) (fun h49 => ?_)
          · refine lv_iload_n kx kb dJ0_or_73 rfl (lv_at hl 1 rfl) ?_
            refine lv_aload_n kx kb dJ0_or_74 rfl (lv_at hl 3 rfl) ?_
            refine va_get (D := D.1) (ci := 3) (v := .int (iI ((un Q_ : Nat) : Int))) (C := RJ0) (T := TJ0) (N := 3) kx kb hts in_J0 hown hK hP 0 rfl rfl 1 (by decide) (hts _ q123) (fun _ h9 => h9) rfl dJ0_or_75 ?_
            refine ti_icmp_ge (tgt := 100) kx kb (by omega) dJ0_or_78 (by decide) (fun h78 => ?_) (fun h78 => ?_)
            · have hk1b : k1 = flw (wd (orB P Q_)) (wd P) (min (un P) (un Q_)) := by rw [hk1, show i = min (un P) (un Q_) from by omega]
              have hP : va_P D.1 clAll [(c, .inr (3, [.ref v, .int (iI ((un Q_ : Nat) : Int)), .int (zI false)])), (v, .inl (D.2 2, n2, .inr (.inl (wd Q_)))), (b, .inr (3, [.ref w2_1, .int (iI ((max (un P) (un Q_) : Nat) : Int)), .int (zI false)])), (w2_1, .inl (D.2 2, gN n (un Q_), .inr (.inl (wd (orB P Q_)))))] H := by rw [← flw_wd (P := P) (Q := orB P Q_) (min (un P) (un Q_)) (fun k_ hk_ => orB_z (un_z hB2 (by omega))), ← hk1b]; exact hP
              have hD : va_D A [(c, .inr (3, [.ref v, .int (iI ((un Q_ : Nat) : Int)), .int (zI false)])), (v, .inl (D.2 2, n2, .inr (.inl (wd Q_)))), (b, .inr (3, [.ref w2_1, .int (iI ((max (un P) (un Q_) : Nat) : Int)), .int (zI false)])), (w2_1, .inl (D.2 2, gN n (un Q_), .inr (.inl (wd (orB P Q_)))))] := by rw [← flw_wd (P := P) (Q := orB P Q_) (min (un P) (un Q_)) (fun k_ hk_ => orB_z (un_z hB2 (by omega))), ← hk1b]; exact hD
              have hP : va_P D.1 clAll [(c, .inr (3, [.ref v, .int (iI ((un Q_ : Nat) : Int)), .int (zI false)])), (v, .inl (D.2 2, n2, .inr (.inl (wd Q_)))), (b, .inr (3, [.ref w2_1, .int (iI ((un (orB P Q_) : Nat) : Int)), .int (zI false)])), (w2_1, .inl (D.2 2, gN n (un Q_), .inr (.inl (wd (orB P Q_)))))] H := by rw [un_or hB hB2]; exact hP
              have hD : va_D A [(c, .inr (3, [.ref v, .int (iI ((un Q_ : Nat) : Int)), .int (zI false)])), (v, .inl (D.2 2, n2, .inr (.inl (wd Q_)))), (b, .inr (3, [.ref w2_1, .int (iI ((un (orB P Q_) : Nat) : Int)), .int (zI false)])), (w2_1, .inl (D.2 2, gN n (un Q_), .inr (.inl (wd (orB P Q_)))))] := by rw [un_or hB hB2]; exact hD
              refine lv_aload_n kx kb dJ0_or_100 rfl (lv_at hl 2 rfl) ?_
              refine t_callRV C (met_J0_checkInvariants l D E b) (cwV 0 hts (lw_V q525 q527 qs5 q61 q528) rfl rfl rfl (by decide +kernel) ⟨Nat.le_of_ble_eq_true rfl, Nat.le_of_ble_eq_true rfl⟩) (va_recv hK hP (ci := 3) (q0 := 2) rfl rfl) hK hX hP hD hS hA [] rfl (by decide) tYb_0 (fun _ _ _ => trivial) rfl hl.1 rfl (Nat.le_of_ble_eq_true rfl) dJ0_or_101 ⟨(show 0 + (gC n (un Q_)) ≤ gC n (un Q_) from by omega), (show 0 + (gS n (un Q_)) ≤ gS n (un Q_) from by omega)⟩ ?_
              refine W.eq (g2 := F0 m0 104 ls []) rfl ?_
              subst hQ
              exact tm_vret C w2_1 trivial (hP.sub [2, 3, 0, 1] rfl) (hD.sub [2, 3, 0, 1] (by decide) rfl) hS (show 0 + (gC n (un Q_)) ≤ gC n (un Q_) from by omega) (show 0 + (gS n (un Q_)) ≤ gS n (un Q_) from by omega) rfl rfl dJ0_or_104
            · refine lv_aload_n kx kb dJ0_or_81 rfl (lv_at hl 3 rfl) ?_
              refine va_get (D := D.1) (ci := 3) (v := .ref v) (C := RJ0) (T := TJ0) (N := 3) kx kb hts in_J0 hown hK hP 0 rfl rfl 0 (by decide) (hts _ q122) (fun _ h9 => h9) rfl dJ0_or_82 ?_
              refine lv_iload_n kx kb dJ0_or_85 rfl (lv_at hl 1 rfl) ?_
              refine lv_aload_n kx kb dJ0_or_86 rfl (lv_at hl 2 rfl) ?_
              refine va_get (D := D.1) (ci := 3) (v := .ref w2_1) (C := RJ0) (T := TJ0) (N := 3) kx kb hts in_J0 hown hK hP 2 rfl rfl 0 (by decide) (hts _ q122) (fun _ h9 => h9) rfl dJ0_or_87 ?_
              refine lv_iload_n kx kb dJ0_or_90 rfl (lv_at hl 1 rfl) ?_
              refine lv_aload_n kx kb dJ0_or_91 rfl (lv_at hl 2 rfl) ?_
              refine va_get (D := D.1) (ci := 3) (v := .int (iI ((max (un P) (un Q_) : Nat) : Int))) (C := RJ0) (T := TJ0) (N := 3) kx kb hts in_J0 hown hK hP 2 rfl rfl 1 (by decide) (hts _ q123) (fun _ h9 => h9) rfl dJ0_or_92 ?_
              refine lv_iload_n kx kb dJ0_or_95 rfl (lv_at hl 1 rfl) ?_
              refine ti_isub kx kb dJ0_or_96 ?_
              refine ta_copyl kx kb (hml.trans hl.1.symm) hown (hts _ q562) (hts _ q294) (hts _ q293) (hts _ q76) hK hP hD hS 1 3 rfl rfl (min (un P) (un Q_)) (min (un P) (un Q_)) (un Q_ - min (un P) (un Q_)) (by omega) (Nat.le_of_ble_eq_true rfl) (Nat.le_of_ble_eq_true rfl) dJ0_or_97 (fun H locs hP hD hS => ?_)
              have hP : va_P D.1 clAll [(c, .inr (3, [.ref v, .int (iI ((un Q_ : Nat) : Int)), .int (zI false)])), (v, .inl (D.2 2, n2, .inr (.inl (wd Q_)))), (b, .inr (3, [.ref w2_1, .int (iI ((max (un P) (un Q_) : Nat) : Int)), .int (zI false)])), (w2_1, .inl (D.2 2, gN n (un Q_), .inr (.inl (va_cpy (wd Q_) k1 (min (un P) (un Q_)) (min (un P) (un Q_)) (un Q_ - min (un P) (un Q_))))))] H := hP
              have hD : va_D A [(c, .inr (3, [.ref v, .int (iI ((un Q_ : Nat) : Int)), .int (zI false)])), (v, .inl (D.2 2, n2, .inr (.inl (wd Q_)))), (b, .inr (3, [.ref w2_1, .int (iI ((max (un P) (un Q_) : Nat) : Int)), .int (zI false)])), (w2_1, .inl (D.2 2, gN n (un Q_), .inr (.inl (va_cpy (wd Q_) k1 (min (un P) (un Q_)) (min (un P) (un Q_)) (un Q_ - min (un P) (un Q_))))))] := hD
              have hk1b : k1 = flw (wd (orB P Q_)) (wd P) (min (un P) (un Q_)) := by rw [hk1, show i = min (un P) (un Q_) from by omega]
              have hP : va_P D.1 clAll [(c, .inr (3, [.ref v, .int (iI ((un Q_ : Nat) : Int)), .int (zI false)])), (v, .inl (D.2 2, n2, .inr (.inl (wd Q_)))), (b, .inr (3, [.ref w2_1, .int (iI ((max (un P) (un Q_) : Nat) : Int)), .int (zI false)])), (w2_1, .inl (D.2 2, gN n (un Q_), .inr (.inl (wd (orB P Q_)))))] H := by rw [← wd_cpy2 (P := P) (Q := Q_) (R := orB P Q_) (m := min (un P) (un Q_)) (n := un Q_) (fun k_ h1_ h2_ => orB_z2 (un_z hB (by omega))) (fun k_ hk_ => orB_z (un_z hB2 hk_)) (by omega), ← hk1b]; exact hP
              have hD : va_D A [(c, .inr (3, [.ref v, .int (iI ((un Q_ : Nat) : Int)), .int (zI false)])), (v, .inl (D.2 2, n2, .inr (.inl (wd Q_)))), (b, .inr (3, [.ref w2_1, .int (iI ((max (un P) (un Q_) : Nat) : Int)), .int (zI false)])), (w2_1, .inl (D.2 2, gN n (un Q_), .inr (.inl (wd (orB P Q_)))))] := by rw [← wd_cpy2 (P := P) (Q := Q_) (R := orB P Q_) (m := min (un P) (un Q_)) (n := un Q_) (fun k_ h1_ h2_ => orB_z2 (un_z hB (by omega))) (fun k_ hk_ => orB_z (un_z hB2 hk_)) (by omega), ← hk1b]; exact hD
              have hP : va_P D.1 clAll [(c, .inr (3, [.ref v, .int (iI ((un Q_ : Nat) : Int)), .int (zI false)])), (v, .inl (D.2 2, n2, .inr (.inl (wd Q_)))), (b, .inr (3, [.ref w2_1, .int (iI ((un (orB P Q_) : Nat) : Int)), .int (zI false)])), (w2_1, .inl (D.2 2, gN n (un Q_), .inr (.inl (wd (orB P Q_)))))] H := by rw [un_or hB hB2]; exact hP
              have hD : va_D A [(c, .inr (3, [.ref v, .int (iI ((un Q_ : Nat) : Int)), .int (zI false)])), (v, .inl (D.2 2, n2, .inr (.inl (wd Q_)))), (b, .inr (3, [.ref w2_1, .int (iI ((un (orB P Q_) : Nat) : Int)), .int (zI false)])), (w2_1, .inl (D.2 2, gN n (un Q_), .inr (.inl (wd (orB P Q_)))))] := by rw [un_or hB hB2]; exact hD
              refine lv_aload_n kx kb dJ0_or_100 rfl (lv_at hl 2 rfl) ?_
              refine t_callRV C (met_J0_checkInvariants l D E b) (cwV 0 hts (lw_V q525 q527 qs5 q61 q528) rfl rfl rfl (by decide +kernel) ⟨Nat.le_of_ble_eq_true rfl, Nat.le_of_ble_eq_true rfl⟩) (va_recv hK hP (ci := 3) (q0 := 2) rfl rfl) hK hX hP hD hS hA [] rfl (by decide) tYb_0 (fun _ _ _ => trivial) rfl hl.1 rfl (Nat.le_of_ble_eq_true rfl) dJ0_or_101 ⟨(show 0 + (gC n (un Q_)) ≤ gC n (un Q_) from by omega), (show 0 + (gS n (un Q_)) ≤ gS n (un Q_) from by omega)⟩ ?_
              refine W.eq (g2 := F0 m0 104 ls []) rfl ?_
              subst hQ
              exact tm_vret C w2_1 trivial (hP.sub [2, 3, 0, 1] rfl) (hD.sub [2, 3, 0, 1] (by decide) rfl) hS (show 0 + (gC n (un Q_)) ≤ gC n (un Q_) from by omega) (show 0 + (gS n (un Q_)) ≤ gS n (un Q_) from by omega) rfl rfl dJ0_or_104
          · refine lv_aload_n kx kb dJ0_or_52 rfl (lv_at hl 2 rfl) ?_
            refine va_get (D := D.1) (ci := 3) (v := .ref w2_1) (C := RJ0) (T := TJ0) (N := 3) kx kb hts in_J0 hown hK hP 2 rfl rfl 0 (by decide) (hts _ q122) (fun _ h9 => h9) rfl dJ0_or_53 ?_
            refine lv_iload_n kx kb dJ0_or_56 rfl (lv_at hl 0 rfl) ?_
            refine lv_dup2_11 kx kb dJ0_or_57 rfl rfl ?_
            refine ta_lald C hK hP 3 rfl i (by omega) dJ0_or_58 ?_
            refine lv_aload_n kx kb dJ0_or_59 rfl (lv_at hl 3 rfl) ?_
            refine va_get (D := D.1) (ci := 3) (v := .ref v) (C := RJ0) (T := TJ0) (N := 3) kx kb hts in_J0 hown hK hP 0 rfl rfl 0 (by decide) (hts _ q122) (fun _ h9 => h9) rfl dJ0_or_60 ?_
            refine lv_iload_n kx kb dJ0_or_63 rfl (lv_at hl 0 rfl) ?_
            refine ta_lald C hK hP 1 rfl i (by omega) dJ0_or_64 ?_
            refine lv_lor kx kb dJ0_or_65 ?_
            refine ta_last C hK hP hD hS 3 rfl i (by omega) dJ0_or_66 (fun H locs hP hD hS => ?_)
            have hP : va_P D.1 clAll [(c, .inr (3, [.ref v, .int (iI ((un Q_ : Nat) : Int)), .int (zI false)])), (v, .inl (D.2 2, n2, .inr (.inl (wd Q_)))), (b, .inr (3, [.ref w2_1, .int (iI ((max (un P) (un Q_) : Nat) : Int)), .int (zI false)])), (w2_1, .inl (D.2 2, gN n (un Q_), .inr (.inl (va_up k1 i ((k1 i) ||| ((wd Q_) i))))))] H := hP
            have hD : va_D A [(c, .inr (3, [.ref v, .int (iI ((un Q_ : Nat) : Int)), .int (zI false)])), (v, .inl (D.2 2, n2, .inr (.inl (wd Q_)))), (b, .inr (3, [.ref w2_1, .int (iI ((max (un P) (un Q_) : Nat) : Int)), .int (zI false)])), (w2_1, .inl (D.2 2, gN n (un Q_), .inr (.inl (va_up k1 i ((k1 i) ||| ((wd Q_) i))))))] := hD
            refine ti_iinc (a := (i : Int)) (lv' := [(3, .int (iI ((i : Int) + 1))), (2, .int (iI ((min (un P) (un Q_) : Nat) : Int))), (0, .ref b), (1, .ref c)]) kx kb dJ0_or_67 hl (k := 0) rfl (by decide) rfl (fun ls hl => ?_)
            refine lv_goto (tgt := 47) kx kb dJ0_or_70 (by decide) ?_
            exact ih47 (i + 1) (va_up k1 i ((k1 i) ||| ((wd Q_) i))) (by omega) (by rw [hk1, flw_at, wd_or]; exact flw_up rfl) (by omega) H locs hP hD hS ls hl
      exact cut47 ((min (un P) (un Q_) - 0) + 1) 0 (wd P) (by omega) (by rw [flw_0]) (Nat.lt_succ_self _) H locs hP hD hS ls hl
  · exact absurd (hD.1 0 2 _ _ rfl rfl (Option.some.inj h2)) (by decide)
set_option maxHeartbeats 4000000 in
set_option maxRecDepth 100000 in
theorem met_J0_xor (l : Launch) (D : TG) (E : TE) (b : Nat) (w : Nat) (n : Nat) (P : Nat → Bool) (c : Nat) (v : Nat) (n2 : Nat) (Q_ : Nat → Bool) (hB : BB P n) (hB2 : BB Q_ n2) : tMet l yJ0_xor cJ0_xor 4 none 3 84 (gC n (un Q_)) (gS n (un Q_)) [.ref b, .ref c] D E [(b, .inr (3, [.ref w, .int (iI ((un P : Nat) : Int)), .int (zI false)])), (w, .inl (D.2 2, n, .inr (.inl (wd P)))), (c, .inr (3, [.ref v, .int (iI ((un Q_ : Nat) : Int)), .int (zI false)])), (v, .inl (D.2 2, n2, .inr (.inl (wd Q_))))] tY0 (S := Nat) (fun u_ => True) (fun u_ => none) (fun u_ => [(b, .inr (3, [.ref u_, .int (iI ((un (xorB P Q_) : Nat) : Int)), .int (zI false)])), (u_, .inl (D.2 2, gN n (un Q_), .inr (.inl (wd (xorB P Q_))))), (c, .inr (3, [.ref v, .int (iI ((un Q_ : Nat) : Int)), .int (zI false)])), (v, .inl (D.2 2, n2, .inr (.inl (wd Q_))))]) := by
  refine tu_met (by decide +kernel) (Nat.le_of_ble_eq_true rfl) ?_
  intro p0 e0 s0 m0 below meth c0 A ls args Q hag hQ C hK hX hY hP hD hA hAe hl
  obtain ⟨kx, kb, hml, hown, hts, -⟩ := id C
  have hS : va_S A s0.heap s0.heap [] := va_S.rf
  have hl : lv_has ls 4 [(0, .ref b), (1, .ref c)] := hl
  have hBn := hB.1
  have hBm := hB.2.1
  have hul := un_le hB
  have hul2 := un_le hB2
  have hBn2 := hB2.1
  have hBm2 := hB2.2.1
  have hg := gN_le ⟨hB.1, hB.2.1⟩ hul2.2
  refine lv_aload_n kx kb dJ0_xor_0 rfl (lv_at hl 0 rfl) ?_
  refine va_get (D := D.1) (ci := 3) (v := .int (iI ((un P : Nat) : Int))) (C := RJ0) (T := TJ0) (N := 3) kx kb hts in_J0 hown hK hP 0 rfl rfl 1 (by decide) (hts _ q123) (fun _ h9 => h9) rfl dJ0_xor_1 ?_
  refine lv_aload_n kx kb dJ0_xor_4 rfl (lv_at hl 1 rfl) ?_
  refine va_get (D := D.1) (ci := 3) (v := .int (iI ((un Q_ : Nat) : Int))) (C := RJ0) (T := TJ0) (N := 3) kx kb hts in_J0 hown hK hP 2 rfl rfl 1 (by decide) (hts _ q123) (fun _ h9 => h9) rfl dJ0_xor_5 ?_
  refine ti_mmin kx kb (hml.trans hl.1.symm) hown (hts _ q561) (hts _ q290) (hts _ q74) (hts _ q291) (Nat.le_of_ble_eq_true rfl) (Nat.le_of_ble_eq_true rfl) (show 0 ≤ gC n (un Q_) from by omega) (show 0 ≤ gS n (un Q_) from by omega) (by omega) dJ0_xor_8 ?_
  refine W.eq (g2 := F0 m0 11 ls [.int (iI ((min (un P) (un Q_) : Nat) : Int))]) (by rw [show min ((un P : Nat) : Int) ((un Q_ : Nat) : Int) = ((min (un P) (un Q_) : Nat) : Int) from by omega]) ?_
  refine lv_istore_n (lv' := [(2, .int (iI ((min (un P) (un Q_) : Nat) : Int))), (0, .ref b), (1, .ref c)]) kx kb dJ0_xor_11 rfl hl (by decide) rfl (fun ls hl => ?_)
  refine lv_aload_n kx kb dJ0_xor_12 rfl (lv_at hl 1 rfl) ?_
  refine va_get (D := D.1) (ci := 3) (v := .int (iI ((un P : Nat) : Int))) (C := RJ0) (T := TJ0) (N := 3) kx kb hts in_J0 hown hK hP 0 rfl rfl 1 (by decide) (hts _ q123) (fun _ h9 => h9) rfl dJ0_xor_13 ?_
  refine lv_aload_n kx kb dJ0_xor_16 rfl (lv_at hl 2 rfl) ?_
  refine va_get (D := D.1) (ci := 3) (v := .int (iI ((un Q_ : Nat) : Int))) (C := RJ0) (T := TJ0) (N := 3) kx kb hts in_J0 hown hK hP 2 rfl rfl 1 (by decide) (hts _ q123) (fun _ h9 => h9) rfl dJ0_xor_17 ?_
  refine ti_icmp_ge (tgt := 39) kx kb (by omega) dJ0_xor_20 (by decide) (fun h20 => ?_) (fun h20 => ?_)
  · have hP : va_P D.1 clAll [(b, .inr (3, [.ref w, .int (iI ((max (un P) (un Q_) : Nat) : Int)), .int (zI false)])), (w, .inl (D.2 2, gN n (un Q_), .inr (.inl (wd P)))), (c, .inr (3, [.ref v, .int (iI ((un Q_ : Nat) : Int)), .int (zI false)])), (v, .inl (D.2 2, n2, .inr (.inl (wd Q_))))] s0.heap := by rw [show max (un P) (un Q_) = un P from by omega, show gN n (un Q_) = n from if_pos (by omega)]; exact hP
    have hD : va_D A [(b, .inr (3, [.ref w, .int (iI ((max (un P) (un Q_) : Nat) : Int)), .int (zI false)])), (w, .inl (D.2 2, gN n (un Q_), .inr (.inl (wd P)))), (c, .inr (3, [.ref v, .int (iI ((un Q_ : Nat) : Int)), .int (zI false)])), (v, .inl (D.2 2, n2, .inr (.inl (wd Q_))))] := by rw [show max (un P) (un Q_) = un P from by omega, show gN n (un Q_) = n from if_pos (by omega)]; exact hD
    refine lv_iconst (v := iI 0) kx kb dJ0_xor_39 rfl ?_
    refine lv_istore_n (lv' := [(3, .int (iI 0)), (2, .int (iI ((min (un P) (un Q_) : Nat) : Int))), (0, .ref b), (1, .ref c)]) kx kb dJ0_xor_40 rfl hl (by decide) rfl (fun ls hl => ?_)
    have cut41 : ∀ (fuel : Nat) (i : Nat) (k1 : Nat → Int64), (i ≤ min (un P) (un Q_)) → (k1 = flw (wd (xorB P Q_)) (wd P) i) → (min (un P) (un Q_) - i) < fuel → ∀ (H : Heap) (locs : List Loc), va_P D.1 clAll [(b, .inr (3, [.ref w, .int (iI ((max (un P) (un Q_) : Nat) : Int)), .int (zI false)])), (w, .inl (D.2 2, gN n (un Q_), .inr (.inl k1))), (c, .inr (3, [.ref v, .int (iI ((un Q_ : Nat) : Int)), .int (zI false)])), (v, .inl (D.2 2, n2, .inr (.inl (wd Q_))))] H → va_D A [(b, .inr (3, [.ref w, .int (iI ((max (un P) (un Q_) : Nat) : Int)), .int (zI false)])), (w, .inl (D.2 2, gN n (un Q_), .inr (.inl k1))), (c, .inr (3, [.ref v, .int (iI ((un Q_ : Nat) : Int)), .int (zI false)])), (v, .inl (D.2 2, n2, .inr (.inl (wd Q_))))] → va_S A s0.heap H locs → ∀ ls : Array Slot, lv_has ls 4 [(3, .int (iI (i : Int))), (2, .int (iI ((min (un P) (un Q_) : Nat) : Int))), (0, .ref b), (1, .ref c)] → W p0 l e0 ({ frames := 3, cells := gC n (un Q_), slots := gS n (un Q_), locals := 84 } : Room) s0 m0 args below meth c0 H locs (0) (0) Q (F0 m0 41 ls []) := by
      intro fuel
      induction fuel with
      | zero =>
        intro i k1 hi hk1 hfuel41
        exact absurd hfuel41 (Nat.not_lt_zero _)
      | succ fuel ih41 =>
        intro i k1 hi hk1 hfuel41 H locs hP hD hS ls hl
        refine lv_iload_n kx kb dJ0_xor_41 rfl (lv_at hl 0 rfl) ?_
        refine lv_iload_n kx kb dJ0_xor_42 rfl (lv_at hl 1 rfl) ?_
        refine ti_icmp_ge (tgt := 67) kx kb (by omega) dJ0_xor_43 (by decide) (fun h43 => ?_) (fun h43 => ?_)
        · refine lv_iload_n kx kb dJ0_xor_67 rfl (lv_at hl 1 rfl) ?_
          refine lv_aload_n kx kb dJ0_xor_68 rfl (lv_at hl 3 rfl) ?_
          refine va_get (D := D.1) (ci := 3) (v := .int (iI ((un Q_ : Nat) : Int))) (C := RJ0) (T := TJ0) (N := 3) kx kb hts in_J0 hown hK hP 2 rfl rfl 1 (by decide) (hts _ q123) (fun _ h9 => h9) rfl dJ0_xor_69 ?_
          refine ti_icmp_ge (tgt := 94) kx kb (by omega) dJ0_xor_72 (by decide) (fun h72 => ?_) (fun h72 => ?_)
          · have hk1b : k1 = flw (wd (xorB P Q_)) (wd P) (min (un P) (un Q_)) := by rw [hk1, show i = min (un P) (un Q_) from by omega]
            have hP : va_P D.1 clAll [(b, .inr (3, [.ref w, .int (iI ((max (un P) (un Q_) : Nat) : Int)), .int (zI false)])), (w, .inl (D.2 2, gN n (un Q_), .inr (.inl (wd (xorB P Q_))))), (c, .inr (3, [.ref v, .int (iI ((un Q_ : Nat) : Int)), .int (zI false)])), (v, .inl (D.2 2, n2, .inr (.inl (wd Q_))))] H := by rw [← flw_wd (P := P) (Q := xorB P Q_) (min (un P) (un Q_)) (fun k_ hk_ => xorB_z (un_z hB2 (by omega))), ← hk1b]; exact hP
            have hD : va_D A [(b, .inr (3, [.ref w, .int (iI ((max (un P) (un Q_) : Nat) : Int)), .int (zI false)])), (w, .inl (D.2 2, gN n (un Q_), .inr (.inl (wd (xorB P Q_))))), (c, .inr (3, [.ref v, .int (iI ((un Q_ : Nat) : Int)), .int (zI false)])), (v, .inl (D.2 2, n2, .inr (.inl (wd Q_))))] := by rw [← flw_wd (P := P) (Q := xorB P Q_) (min (un P) (un Q_)) (fun k_ hk_ => xorB_z (un_z hB2 (by omega))), ← hk1b]; exact hD
            refine lv_aload_n kx kb dJ0_xor_94 rfl (lv_at hl 2 rfl) ?_
            refine t_callV (wr := [(c, .inr (3, [.ref v, .int (iI ((un Q_ : Nat) : Int)), .int (zI false)])), (v, .inl (D.2 2, n2, .inr (.inl (wd Q_))))]) C (met_J0_recalculateWordsInUse l D E b w (gN n (un Q_)) (xorB P Q_) (max (un P) (un Q_)) (BB_xor hB hB2) (by omega) (fun k_ hk_ => xorB_far hB hB2 hk_)) (cwV 0 hts (lw_V q521 q523 qs4 q61 q524) rfl rfl rfl (by decide +kernel) ⟨Nat.le_of_ble_eq_true rfl, Nat.le_of_ble_eq_true rfl⟩) (va_recv hK hP (ci := 3) (q0 := 0) rfl rfl) hK hX hP hD hS hA [0, 1] [2, 3] rfl rfl (by decide) (by decide) (by decide) tYb_0 (fun _ _ _ => trivial) rfl hl.1 rfl (Nat.le_of_ble_eq_true rfl) dJ0_xor_95 ⟨(show 0 ≤ gC n (un Q_) from by omega), (show 0 ≤ gS n (un Q_) from by omega)⟩ (fun u_ H locs hp hP hD hS => ?_)
            have hP : va_P D.1 clAll [(c, .inr (3, [.ref v, .int (iI ((un Q_ : Nat) : Int)), .int (zI false)])), (v, .inl (D.2 2, n2, .inr (.inl (wd Q_)))), (b, .inr (3, [.ref w, .int (iI ((un (xorB P Q_) : Nat) : Int)), .int (zI false)])), (w, .inl (D.2 2, (gN n (un Q_)), .inr (.inl (wd (xorB P Q_)))))] H := hP
            have hD : va_D A [(c, .inr (3, [.ref v, .int (iI ((un Q_ : Nat) : Int)), .int (zI false)])), (v, .inl (D.2 2, n2, .inr (.inl (wd Q_)))), (b, .inr (3, [.ref w, .int (iI ((un (xorB P Q_) : Nat) : Int)), .int (zI false)])), (w, .inl (D.2 2, (gN n (un Q_)), .inr (.inl (wd (xorB P Q_)))))] := hD
            refine W.eq (g2 := F0 m0 98 ls []) rfl ?_
            refine lv_aload_n kx kb dJ0_xor_98 rfl (lv_at hl 2 rfl) ?_
            refine t_callRV C (met_J0_checkInvariants l D E b) (cwV 0 hts (lw_V q525 q527 qs5 q61 q528) rfl rfl rfl (by decide +kernel) ⟨Nat.le_of_ble_eq_true rfl, Nat.le_of_ble_eq_true rfl⟩) (va_recv hK hP (ci := 3) (q0 := 2) rfl rfl) hK hX hP hD hS hA [] rfl (by decide) tYb_0 (fun _ _ _ => trivial) rfl hl.1 rfl (Nat.le_of_ble_eq_true rfl) dJ0_xor_99 ⟨(show 0 ≤ gC n (un Q_) from by omega), (show 0 ≤ gS n (un Q_) from by omega)⟩ ?_
            refine W.eq (g2 := F0 m0 102 ls []) rfl ?_
            subst hQ
            exact tm_vret C w trivial (hP.sub [2, 3, 0, 1] rfl) (hD.sub [2, 3, 0, 1] (by decide) rfl) hS (show 0 ≤ gC n (un Q_) from by omega) (show 0 ≤ gS n (un Q_) from by omega) rfl rfl dJ0_xor_102
          · refine lv_aload_n kx kb dJ0_xor_75 rfl (lv_at hl 3 rfl) ?_
            refine va_get (D := D.1) (ci := 3) (v := .ref v) (C := RJ0) (T := TJ0) (N := 3) kx kb hts in_J0 hown hK hP 2 rfl rfl 0 (by decide) (hts _ q122) (fun _ h9 => h9) rfl dJ0_xor_76 ?_
            refine lv_iload_n kx kb dJ0_xor_79 rfl (lv_at hl 1 rfl) ?_
            refine lv_aload_n kx kb dJ0_xor_80 rfl (lv_at hl 2 rfl) ?_
            refine va_get (D := D.1) (ci := 3) (v := .ref w) (C := RJ0) (T := TJ0) (N := 3) kx kb hts in_J0 hown hK hP 0 rfl rfl 0 (by decide) (hts _ q122) (fun _ h9 => h9) rfl dJ0_xor_81 ?_
            refine lv_iload_n kx kb dJ0_xor_84 rfl (lv_at hl 1 rfl) ?_
            refine lv_aload_n kx kb dJ0_xor_85 rfl (lv_at hl 3 rfl) ?_
            refine va_get (D := D.1) (ci := 3) (v := .int (iI ((un Q_ : Nat) : Int))) (C := RJ0) (T := TJ0) (N := 3) kx kb hts in_J0 hown hK hP 2 rfl rfl 1 (by decide) (hts _ q123) (fun _ h9 => h9) rfl dJ0_xor_86 ?_
            refine lv_iload_n kx kb dJ0_xor_89 rfl (lv_at hl 1 rfl) ?_
            refine ti_isub kx kb dJ0_xor_90 ?_
            refine ta_copyl kx kb (hml.trans hl.1.symm) hown (hts _ q562) (hts _ q294) (hts _ q293) (hts _ q76) hK hP hD hS 3 1 rfl rfl (min (un P) (un Q_)) (min (un P) (un Q_)) (un Q_ - min (un P) (un Q_)) (by omega) (Nat.le_of_ble_eq_true rfl) (Nat.le_of_ble_eq_true rfl) dJ0_xor_91 (fun H locs hP hD hS => ?_)
            have hP : va_P D.1 clAll [(b, .inr (3, [.ref w, .int (iI ((max (un P) (un Q_) : Nat) : Int)), .int (zI false)])), (w, .inl (D.2 2, gN n (un Q_), .inr (.inl (va_cpy (wd Q_) k1 (min (un P) (un Q_)) (min (un P) (un Q_)) (un Q_ - min (un P) (un Q_)))))), (c, .inr (3, [.ref v, .int (iI ((un Q_ : Nat) : Int)), .int (zI false)])), (v, .inl (D.2 2, n2, .inr (.inl (wd Q_))))] H := hP
            have hD : va_D A [(b, .inr (3, [.ref w, .int (iI ((max (un P) (un Q_) : Nat) : Int)), .int (zI false)])), (w, .inl (D.2 2, gN n (un Q_), .inr (.inl (va_cpy (wd Q_) k1 (min (un P) (un Q_)) (min (un P) (un Q_)) (un Q_ - min (un P) (un Q_)))))), (c, .inr (3, [.ref v, .int (iI ((un Q_ : Nat) : Int)), .int (zI false)])), (v, .inl (D.2 2, n2, .inr (.inl (wd Q_))))] := hD
            have hk1b : k1 = flw (wd (xorB P Q_)) (wd P) (min (un P) (un Q_)) := by rw [hk1, show i = min (un P) (un Q_) from by omega]
            have hP : va_P D.1 clAll [(b, .inr (3, [.ref w, .int (iI ((max (un P) (un Q_) : Nat) : Int)), .int (zI false)])), (w, .inl (D.2 2, gN n (un Q_), .inr (.inl (wd (xorB P Q_))))), (c, .inr (3, [.ref v, .int (iI ((un Q_ : Nat) : Int)), .int (zI false)])), (v, .inl (D.2 2, n2, .inr (.inl (wd Q_))))] H := by rw [← wd_cpy2 (P := P) (Q := Q_) (R := xorB P Q_) (m := min (un P) (un Q_)) (n := un Q_) (fun k_ h1_ h2_ => xorB_z2 (un_z hB (by omega))) (fun k_ hk_ => xorB_z (un_z hB2 hk_)) (by omega), ← hk1b]; exact hP
            have hD : va_D A [(b, .inr (3, [.ref w, .int (iI ((max (un P) (un Q_) : Nat) : Int)), .int (zI false)])), (w, .inl (D.2 2, gN n (un Q_), .inr (.inl (wd (xorB P Q_))))), (c, .inr (3, [.ref v, .int (iI ((un Q_ : Nat) : Int)), .int (zI false)])), (v, .inl (D.2 2, n2, .inr (.inl (wd Q_))))] := by rw [← wd_cpy2 (P := P) (Q := Q_) (R := xorB P Q_) (m := min (un P) (un Q_)) (n := un Q_) (fun k_ h1_ h2_ => xorB_z2 (un_z hB (by omega))) (fun k_ hk_ => xorB_z (un_z hB2 hk_)) (by omega), ← hk1b]; exact hD
            refine lv_aload_n kx kb dJ0_xor_94 rfl (lv_at hl 2 rfl) ?_
            refine t_callV (wr := [(c, .inr (3, [.ref v, .int (iI ((un Q_ : Nat) : Int)), .int (zI false)])), (v, .inl (D.2 2, n2, .inr (.inl (wd Q_))))]) C (met_J0_recalculateWordsInUse l D E b w (gN n (un Q_)) (xorB P Q_) (max (un P) (un Q_)) (BB_xor hB hB2) (by omega) (fun k_ hk_ => xorB_far hB hB2 hk_)) (cwV 0 hts (lw_V q521 q523 qs4 q61 q524) rfl rfl rfl (by decide +kernel) ⟨Nat.le_of_ble_eq_true rfl, Nat.le_of_ble_eq_true rfl⟩) (va_recv hK hP (ci := 3) (q0 := 0) rfl rfl) hK hX hP hD hS hA [0, 1] [2, 3] rfl rfl (by decide) (by decide) (by decide) tYb_0 (fun _ _ _ => trivial) rfl hl.1 rfl (Nat.le_of_ble_eq_true rfl) dJ0_xor_95 ⟨(show 0 ≤ gC n (un Q_) from by omega), (show 0 ≤ gS n (un Q_) from by omega)⟩ (fun u_ H locs hp hP hD hS => ?_)
            have hP : va_P D.1 clAll [(c, .inr (3, [.ref v, .int (iI ((un Q_ : Nat) : Int)), .int (zI false)])), (v, .inl (D.2 2, n2, .inr (.inl (wd Q_)))), (b, .inr (3, [.ref w, .int (iI ((un (xorB P Q_) : Nat) : Int)), .int (zI false)])), (w, .inl (D.2 2, (gN n (un Q_)), .inr (.inl (wd (xorB P Q_)))))] H := hP
            have hD : va_D A [(c, .inr (3, [.ref v, .int (iI ((un Q_ : Nat) : Int)), .int (zI false)])), (v, .inl (D.2 2, n2, .inr (.inl (wd Q_)))), (b, .inr (3, [.ref w, .int (iI ((un (xorB P Q_) : Nat) : Int)), .int (zI false)])), (w, .inl (D.2 2, (gN n (un Q_)), .inr (.inl (wd (xorB P Q_)))))] := hD
            refine W.eq (g2 := F0 m0 98 ls []) rfl ?_
            refine lv_aload_n kx kb dJ0_xor_98 rfl (lv_at hl 2 rfl) ?_
            refine t_callRV C (met_J0_checkInvariants l D E b) (cwV 0 hts (lw_V q525 q527 qs5 q61 q528) rfl rfl rfl (by decide +kernel) ⟨Nat.le_of_ble_eq_true rfl, Nat.le_of_ble_eq_true rfl⟩) (va_recv hK hP (ci := 3) (q0 := 2) rfl rfl) hK hX hP hD hS hA [] rfl (by decide) tYb_0 (fun _ _ _ => trivial) rfl hl.1 rfl (Nat.le_of_ble_eq_true rfl) dJ0_xor_99 ⟨(show 0 ≤ gC n (un Q_) from by omega), (show 0 ≤ gS n (un Q_) from by omega)⟩ ?_
            refine W.eq (g2 := F0 m0 102 ls []) rfl ?_
            subst hQ
            exact tm_vret C w trivial (hP.sub [2, 3, 0, 1] rfl) (hD.sub [2, 3, 0, 1] (by decide) rfl) hS (show 0 ≤ gC n (un Q_) from by omega) (show 0 ≤ gS n (un Q_) from by omega) rfl rfl dJ0_xor_102
        · refine lv_aload_n kx kb dJ0_xor_46 rfl (lv_at hl 2 rfl) ?_
          refine va_get (D := D.1) (ci := 3) (v := .ref w) (C := RJ0) (T := TJ0) (N := 3) kx kb hts in_J0 hown hK hP 0 rfl rfl 0 (by decide) (hts _ q122) (fun _ h9 => h9) rfl dJ0_xor_47 ?_
          refine lv_iload_n kx kb dJ0_xor_50 rfl (lv_at hl 0 rfl) ?_
          refine lv_dup2_11 kx kb dJ0_xor_51 rfl rfl ?_
          refine ta_lald C hK hP 1 rfl i (by omega) dJ0_xor_52 ?_
          refine lv_aload_n kx kb dJ0_xor_53 rfl (lv_at hl 3 rfl) ?_
          refine va_get (D := D.1) (ci := 3) (v := .ref v) (C := RJ0) (T := TJ0) (N := 3) kx kb hts in_J0 hown hK hP 2 rfl rfl 0 (by decide) (hts _ q122) (fun _ h9 => h9) rfl dJ0_xor_54 ?_
          refine lv_iload_n kx kb dJ0_xor_57 rfl (lv_at hl 0 rfl) ?_
          refine ta_lald C hK hP 3 rfl i (by omega) dJ0_xor_58 ?_
          refine lv_lxor kx kb dJ0_xor_59 ?_
          refine ta_last C hK hP hD hS 1 rfl i (by omega) dJ0_xor_60 (fun H locs hP hD hS => ?_)
          have hP : va_P D.1 clAll [(b, .inr (3, [.ref w, .int (iI ((max (un P) (un Q_) : Nat) : Int)), .int (zI false)])), (w, .inl (D.2 2, gN n (un Q_), .inr (.inl (va_up k1 i ((k1 i) ^^^ ((wd Q_) i)))))), (c, .inr (3, [.ref v, .int (iI ((un Q_ : Nat) : Int)), .int (zI false)])), (v, .inl (D.2 2, n2, .inr (.inl (wd Q_))))] H := hP
          have hD : va_D A [(b, .inr (3, [.ref w, .int (iI ((max (un P) (un Q_) : Nat) : Int)), .int (zI false)])), (w, .inl (D.2 2, gN n (un Q_), .inr (.inl (va_up k1 i ((k1 i) ^^^ ((wd Q_) i)))))), (c, .inr (3, [.ref v, .int (iI ((un Q_ : Nat) : Int)), .int (zI false)])), (v, .inl (D.2 2, n2, .inr (.inl (wd Q_))))] := hD
          refine ti_iinc (a := (i : Int)) (lv' := [(3, .int (iI ((i : Int) + 1))), (2, .int (iI ((min (un P) (un Q_) : Nat) : Int))), (0, .ref b), (1, .ref c)]) kx kb dJ0_xor_61 hl (k := 0) rfl (by decide) rfl (fun ls hl => ?_)
          refine lv_goto (tgt := 41) kx kb dJ0_xor_64 (by decide) ?_
          exact ih41 (i + 1) (va_up k1 i ((k1 i) ^^^ ((wd Q_) i))) (by omega) (by rw [hk1, flw_at, wd_xor]; exact flw_up rfl) (by omega) H locs hP hD hS ls hl
    exact cut41 ((min (un P) (un Q_) - 0) + 1) 0 (wd P) (by omega) (by rw [flw_0]) (Nat.lt_succ_self _) s0.heap [] hP hD hS ls hl
  · refine lv_aload_n kx kb dJ0_xor_23 rfl (lv_at hl 1 rfl) ?_
    refine lv_aload_n kx kb dJ0_xor_24 rfl (lv_at hl 2 rfl) ?_
    refine va_get (D := D.1) (ci := 3) (v := .int (iI ((un Q_ : Nat) : Int))) (C := RJ0) (T := TJ0) (N := 3) kx kb hts in_J0 hown hK hP 2 rfl rfl 1 (by decide) (hts _ q123) (fun _ h9 => h9) rfl dJ0_xor_25 ?_
    refine t_callV (wr := [(c, .inr (3, [.ref v, .int (iI ((un Q_ : Nat) : Int)), .int (zI false)])), (v, .inl (D.2 2, n2, .inr (.inl (wd Q_))))]) C (met_J0_ensureCapacity l D E b w n P (un P) (un Q_) (by first | assumption | omega) (by first | assumption | omega)) (cwV 1 hts (lw_V q507 q509 qs3 q61 q510) rfl rfl rfl (by decide +kernel) ⟨Nat.le_of_ble_eq_true rfl, Nat.le_of_ble_eq_true rfl⟩) (va_recv hK hP (ci := 3) (q0 := 0) rfl rfl) hK hX hP hD hS hA [0, 1] [2, 3] rfl rfl (by decide) (by decide) (by decide) tYb_0 (fun _ _ _ => trivial) rfl hl.1 rfl (Nat.le_of_ble_eq_true rfl) dJ0_xor_28 ⟨(show 0 + (gC n (un Q_)) ≤ gC n (un Q_) from by omega), (show 0 + (gS n (un Q_)) ≤ gS n (un Q_) from by omega)⟩ (fun u_ H locs hp hP hD hS => ?_)
    obtain ⟨w2_1, rfl⟩ : ∃ z, z = u_ := ⟨_, rfl⟩
    have hP : va_P D.1 clAll [(c, .inr (3, [.ref v, .int (iI ((un Q_ : Nat) : Int)), .int (zI false)])), (v, .inl (D.2 2, n2, .inr (.inl (wd Q_)))), (b, .inr (3, [.ref w2_1, .int (iI (((un P) : Nat) : Int)), .int (zI false)])), (w2_1, .inl (D.2 2, gN n (un Q_), .inr (.inl (wd P))))] H := hP
    have hD : va_D A [(c, .inr (3, [.ref v, .int (iI ((un Q_ : Nat) : Int)), .int (zI false)])), (v, .inl (D.2 2, n2, .inr (.inl (wd Q_)))), (b, .inr (3, [.ref w2_1, .int (iI (((un P) : Nat) : Int)), .int (zI false)])), (w2_1, .inl (D.2 2, gN n (un Q_), .inr (.inl (wd P))))] := hD
    refine W.eq (g2 := F0 m0 31 ls []) rfl ?_
    refine W.widen (k := 0 + (gC n (un Q_))) (n := 0 + (gS n (un Q_))) (Nat.le_refl _) (Nat.le_refl _) ?_
    refine lv_aload_n kx kb dJ0_xor_31 rfl (lv_at hl 1 rfl) ?_
    refine lv_aload_n kx kb dJ0_xor_32 rfl (lv_at hl 2 rfl) ?_
    refine va_get (D := D.1) (ci := 3) (v := .int (iI ((un Q_ : Nat) : Int))) (C := RJ0) (T := TJ0) (N := 3) kx kb hts in_J0 hown hK hP 0 rfl rfl 1 (by decide) (hts _ q123) (fun _ h9 => h9) rfl dJ0_xor_33 ?_
    refine va_put (D := D.1) (ci := 3) (v := .int (iI ((un Q_ : Nat) : Int))) (ty := .int) (C := RJ0) (T := TJ0) (N := 3) kx kb hts in_J0 tyJ0 tyJ0_ok nmJ0 hown hK hP hD hS 2 rfl rfl 1 (by decide) (hts _ q123) (fun _ h9 => h9) rfl (by decide +kernel) rfl rfl (Nat.le_of_ble_eq_true rfl) dJ0_xor_36 (fun H locs hP hD hS => ?_)
    have hP : va_P D.1 clAll [(c, .inr (3, [.ref v, .int (iI ((un Q_ : Nat) : Int)), .int (zI false)])), (v, .inl (D.2 2, n2, .inr (.inl (wd Q_)))), (b, .inr (3, [.ref w2_1, .int (iI ((un Q_ : Nat) : Int)), .int (zI false)])), (w2_1, .inl (D.2 2, gN n (un Q_), .inr (.inl (wd P))))] H := hP
    have hD : va_D A [(c, .inr (3, [.ref v, .int (iI ((un Q_ : Nat) : Int)), .int (zI false)])), (v, .inl (D.2 2, n2, .inr (.inl (wd Q_)))), (b, .inr (3, [.ref w2_1, .int (iI ((un Q_ : Nat) : Int)), .int (zI false)])), (w2_1, .inl (D.2 2, gN n (un Q_), .inr (.inl (wd P))))] := hD
    have hP : va_P D.1 clAll [(c, .inr (3, [.ref v, .int (iI ((un Q_ : Nat) : Int)), .int (zI false)])), (v, .inl (D.2 2, n2, .inr (.inl (wd Q_)))), (b, .inr (3, [.ref w2_1, .int (iI ((max (un P) (un Q_) : Nat) : Int)), .int (zI false)])), (w2_1, .inl (D.2 2, gN n (un Q_), .inr (.inl (wd P))))] H := by rw [show max (un P) (un Q_) = un Q_ from by omega]; exact hP
    have hD : va_D A [(c, .inr (3, [.ref v, .int (iI ((un Q_ : Nat) : Int)), .int (zI false)])), (v, .inl (D.2 2, n2, .inr (.inl (wd Q_)))), (b, .inr (3, [.ref w2_1, .int (iI ((max (un P) (un Q_) : Nat) : Int)), .int (zI false)])), (w2_1, .inl (D.2 2, gN n (un Q_), .inr (.inl (wd P))))] := by rw [show max (un P) (un Q_) = un Q_ from by omega]; exact hD
    refine lv_iconst (v := iI 0) kx kb dJ0_xor_39 rfl ?_
    refine lv_istore_n (lv' := [(3, .int (iI 0)), (2, .int (iI ((min (un P) (un Q_) : Nat) : Int))), (0, .ref b), (1, .ref c)]) kx kb dJ0_xor_40 rfl hl (by decide) rfl (fun ls hl => ?_)
    have cut41 : ∀ (fuel : Nat) (i : Nat) (k1 : Nat → Int64), (i ≤ min (un P) (un Q_)) → (k1 = flw (wd (xorB P Q_)) (wd P) i) → (min (un P) (un Q_) - i) < fuel → ∀ (H : Heap) (locs : List Loc), va_P D.1 clAll [(c, .inr (3, [.ref v, .int (iI ((un Q_ : Nat) : Int)), .int (zI false)])), (v, .inl (D.2 2, n2, .inr (.inl (wd Q_)))), (b, .inr (3, [.ref w2_1, .int (iI ((max (un P) (un Q_) : Nat) : Int)), .int (zI false)])), (w2_1, .inl (D.2 2, gN n (un Q_), .inr (.inl k1)))] H → va_D A [(c, .inr (3, [.ref v, .int (iI ((un Q_ : Nat) : Int)), .int (zI false)])), (v, .inl (D.2 2, n2, .inr (.inl (wd Q_)))), (b, .inr (3, [.ref w2_1, .int (iI ((max (un P) (un Q_) : Nat) : Int)), .int (zI false)])), (w2_1, .inl (D.2 2, gN n (un Q_), .inr (.inl k1)))] → va_S A s0.heap H locs → ∀ ls : Array Slot, lv_has ls 4 [(3, .int (iI (i : Int))), (2, .int (iI ((min (un P) (un Q_) : Nat) : Int))), (0, .ref b), (1, .ref c)] → W p0 l e0 ({ frames := 3, cells := gC n (un Q_), slots := gS n (un Q_), locals := 84 } : Room) s0 m0 args below meth c0 H locs (0 + (gC n (un Q_))) (0 + (gS n (un Q_))) Q (F0 m0 41 ls []) := by
      intro fuel
      induction fuel with
      | zero =>
        intro i k1 hi hk1 hfuel41
        exact absurd hfuel41 (Nat.not_lt_zero _)
      | succ fuel ih41 =>
        intro i k1 hi hk1 hfuel41 H locs hP hD hS ls hl
        refine lv_iload_n kx kb dJ0_xor_41 rfl (lv_at hl 0 rfl) ?_
        refine lv_iload_n kx kb dJ0_xor_42 rfl (lv_at hl 1 rfl) ?_
        refine ti_icmp_ge (tgt := 67) kx kb (by omega) dJ0_xor_43 (by decide) (fun h43 => ?_) (fun h43 => ?_)
        · refine lv_iload_n kx kb dJ0_xor_67 rfl (lv_at hl 1 rfl) ?_
          refine lv_aload_n kx kb dJ0_xor_68 rfl (lv_at hl 3 rfl) ?_
          refine va_get (D := D.1) (ci := 3) (v := .int (iI ((un Q_ : Nat) : Int))) (C := RJ0) (T := TJ0) (N := 3) kx kb hts in_J0 hown hK hP 0 rfl rfl 1 (by decide) (hts _ q123) (fun _ h9 => h9) rfl dJ0_xor_69 ?_
          refine ti_icmp_ge (tgt := 94) kx kb (by omega) dJ0_xor_72 (by decide) (fun h72 => ?_) (fun h72 => ?_)
          · have hk1b : k1 = flw (wd (xorB P Q_)) (wd P) (min (un P) (un Q_)) := by rw [hk1, show i = min (un P) (un Q_) from by omega]
            have hP : va_P D.1 clAll [(c, .inr (3, [.ref v, .int (iI ((un Q_ : Nat) : Int)), .int (zI false)])), (v, .inl (D.2 2, n2, .inr (.inl (wd Q_)))), (b, .inr (3, [.ref w2_1, .int (iI ((max (un P) (un Q_) : Nat) : Int)), .int (zI false)])), (w2_1, .inl (D.2 2, gN n (un Q_), .inr (.inl (wd (xorB P Q_)))))] H := by rw [← flw_wd (P := P) (Q := xorB P Q_) (min (un P) (un Q_)) (fun k_ hk_ => xorB_z (un_z hB2 (by omega))), ← hk1b]; exact hP
            have hD : va_D A [(c, .inr (3, [.ref v, .int (iI ((un Q_ : Nat) : Int)), .int (zI false)])), (v, .inl (D.2 2, n2, .inr (.inl (wd Q_)))), (b, .inr (3, [.ref w2_1, .int (iI ((max (un P) (un Q_) : Nat) : Int)), .int (zI false)])), (w2_1, .inl (D.2 2, gN n (un Q_), .inr (.inl (wd (xorB P Q_)))))] := by rw [← flw_wd (P := P) (Q := xorB P Q_) (min (un P) (un Q_)) (fun k_ hk_ => xorB_z (un_z hB2 (by omega))), ← hk1b]; exact hD
            refine lv_aload_n kx kb dJ0_xor_94 rfl (lv_at hl 2 rfl) ?_
            refine t_callV (wr := [(c, .inr (3, [.ref v, .int (iI ((un Q_ : Nat) : Int)), .int (zI false)])), (v, .inl (D.2 2, n2, .inr (.inl (wd Q_))))]) C (met_J0_recalculateWordsInUse l D E b w2_1 (gN n (un Q_)) (xorB P Q_) (max (un P) (un Q_)) (BB_xor hB hB2) (by omega) (fun k_ hk_ => xorB_far hB hB2 hk_)) (cwV 0 hts (lw_V q521 q523 qs4 q61 q524) rfl rfl rfl (by decide +kernel) ⟨Nat.le_of_ble_eq_true rfl, Nat.le_of_ble_eq_true rfl⟩) (va_recv hK hP (ci := 3) (q0 := 2) rfl rfl) hK hX hP hD hS hA [2, 3] [0, 1] rfl rfl (by decide) (by decide) (by decide) tYb_0 (fun _ _ _ => trivial) rfl hl.1 rfl (Nat.le_of_ble_eq_true rfl) dJ0_xor_95 ⟨(show 0 + (gC n (un Q_)) ≤ gC n (un Q_) from by omega), (show 0 + (gS n (un Q_)) ≤ gS n (un Q_) from by omega)⟩ (fun u_ H locs hp hP hD hS => ?_)
            have hP : va_P D.1 clAll [(c, .inr (3, [.ref v, .int (iI ((un Q_ : Nat) : Int)), .int (zI false)])), (v, .inl (D.2 2, n2, .inr (.inl (wd Q_)))), (b, .inr (3, [.ref w2_1, .int (iI ((un (xorB P Q_) : Nat) : Int)), .int (zI false)])), (w2_1, .inl (D.2 2, (gN n (un Q_)), .inr (.inl (wd (xorB P Q_)))))] H := hP
            have hD : va_D A [(c, .inr (3, [.ref v, .int (iI ((un Q_ : Nat) : Int)), .int (zI false)])), (v, .inl (D.2 2, n2, .inr (.inl (wd Q_)))), (b, .inr (3, [.ref w2_1, .int (iI ((un (xorB P Q_) : Nat) : Int)), .int (zI false)])), (w2_1, .inl (D.2 2, (gN n (un Q_)), .inr (.inl (wd (xorB P Q_)))))] := hD
            refine W.eq (g2 := F0 m0 98 ls []) rfl ?_
            refine lv_aload_n kx kb dJ0_xor_98 rfl (lv_at hl 2 rfl) ?_
            refine t_callRV C (met_J0_checkInvariants l D E b) (cwV 0 hts (lw_V q525 q527 qs5 q61 q528) rfl rfl rfl (by decide +kernel) ⟨Nat.le_of_ble_eq_true rfl, Nat.le_of_ble_eq_true rfl⟩) (va_recv hK hP (ci := 3) (q0 := 2) rfl rfl) hK hX hP hD hS hA [] rfl (by decide) tYb_0 (fun _ _ _ => trivial) rfl hl.1 rfl (Nat.le_of_ble_eq_true rfl) dJ0_xor_99 ⟨(show 0 + (gC n (un Q_)) ≤ gC n (un Q_) from by omega), (show 0 + (gS n (un Q_)) ≤ gS n (un Q_) from by omega)⟩ ?_
            refine W.eq (g2 := F0 m0 102 ls []) rfl ?_
            subst hQ
            exact tm_vret C w2_1 trivial (hP.sub [2, 3, 0, 1] rfl) (hD.sub [2, 3, 0, 1] (by decide) rfl) hS (show 0 + (gC n (un Q_)) ≤ gC n (un Q_) from by omega) (show 0 + (gS n (un Q_)) ≤ gS n (un Q_) from by omega) rfl rfl dJ0_xor_102
          · refine lv_aload_n kx kb dJ0_xor_75 rfl (lv_at hl 3 rfl) ?_
            refine va_get (D := D.1) (ci := 3) (v := .ref v) (C := RJ0) (T := TJ0) (N := 3) kx kb hts in_J0 hown hK hP 0 rfl rfl 0 (by decide) (hts _ q122) (fun _ h9 => h9) rfl dJ0_xor_76 ?_
            refine lv_iload_n kx kb dJ0_xor_79 rfl (lv_at hl 1 rfl) ?_
            refine lv_aload_n kx kb dJ0_xor_80 rfl (lv_at hl 2 rfl) ?_
            refine va_get (D := D.1) (ci := 3) (v := .ref w2_1) (C := RJ0) (T := TJ0) (N := 3) kx kb hts in_J0 hown hK hP 2 rfl rfl 0 (by decide) (hts _ q122) (fun _ h9 => h9) rfl dJ0_xor_81 ?_
            refine lv_iload_n kx kb dJ0_xor_84 rfl (lv_at hl 1 rfl) ?_
            refine lv_aload_n kx kb dJ0_xor_85 rfl (lv_at hl 3 rfl) ?_
            refine va_get (D := D.1) (ci := 3) (v := .int (iI ((un Q_ : Nat) : Int))) (C := RJ0) (T := TJ0) (N := 3) kx kb hts in_J0 hown hK hP 0 rfl rfl 1 (by decide) (hts _ q123) (fun _ h9 => h9) rfl dJ0_xor_86 ?_
            refine lv_iload_n kx kb dJ0_xor_89 rfl (lv_at hl 1 rfl) ?_
            refine ti_isub kx kb dJ0_xor_90 ?_
            refine ta_copyl kx kb (hml.trans hl.1.symm) hown (hts _ q562) (hts _ q294) (hts _ q293) (hts _ q76) hK hP hD hS 1 3 rfl rfl (min (un P) (un Q_)) (min (un P) (un Q_)) (un Q_ - min (un P) (un Q_)) (by omega) (Nat.le_of_ble_eq_true rfl) (Nat.le_of_ble_eq_true rfl) dJ0_xor_91 (fun H locs hP hD hS => ?_)
            have hP : va_P D.1 clAll [(c, .inr (3, [.ref v, .int (iI ((un Q_ : Nat) : Int)), .int (zI false)])), (v, .inl (D.2 2, n2, .inr (.inl (wd Q_)))), (b, .inr (3, [.ref w2_1, .int (iI ((max (un P) (un Q_) : Nat) : Int)), .int (zI false)])), (w2_1, .inl (D.2 2, gN n (un Q_), .inr (.inl (va_cpy (wd Q_) k1 (min (un P) (un Q_)) (min (un P) (un Q_)) (un Q_ - min (un P) (un Q_))))))] H := hP
            have hD : va_D A [(c, .inr (3, [.ref v, .int (iI ((un Q_ : Nat) : Int)), .int (zI false)])), (v, .inl (D.2 2, n2, .inr (.inl (wd Q_)))), (b, .inr (3, [.ref w2_1, .int (iI ((max (un P) (un Q_) : Nat) : Int)), .int (zI false)])), (w2_1, .inl (D.2 2, gN n (un Q_), .inr (.inl (va_cpy (wd Q_) k1 (min (un P) (un Q_)) (min (un P) (un Q_)) (un Q_ - min (un P) (un Q_))))))] := hD
            have hk1b : k1 = flw (wd (xorB P Q_)) (wd P) (min (un P) (un Q_)) := by rw [hk1, show i = min (un P) (un Q_) from by omega]
            have hP : va_P D.1 clAll [(c, .inr (3, [.ref v, .int (iI ((un Q_ : Nat) : Int)), .int (zI false)])), (v, .inl (D.2 2, n2, .inr (.inl (wd Q_)))), (b, .inr (3, [.ref w2_1, .int (iI ((max (un P) (un Q_) : Nat) : Int)), .int (zI false)])), (w2_1, .inl (D.2 2, gN n (un Q_), .inr (.inl (wd (xorB P Q_)))))] H := by rw [← wd_cpy2 (P := P) (Q := Q_) (R := xorB P Q_) (m := min (un P) (un Q_)) (n := un Q_) (fun k_ h1_ h2_ => xorB_z2 (un_z hB (by omega))) (fun k_ hk_ => xorB_z (un_z hB2 hk_)) (by omega), ← hk1b]; exact hP
            have hD : va_D A [(c, .inr (3, [.ref v, .int (iI ((un Q_ : Nat) : Int)), .int (zI false)])), (v, .inl (D.2 2, n2, .inr (.inl (wd Q_)))), (b, .inr (3, [.ref w2_1, .int (iI ((max (un P) (un Q_) : Nat) : Int)), .int (zI false)])), (w2_1, .inl (D.2 2, gN n (un Q_), .inr (.inl (wd (xorB P Q_)))))] := by rw [← wd_cpy2 (P := P) (Q := Q_) (R := xorB P Q_) (m := min (un P) (un Q_)) (n := un Q_) (fun k_ h1_ h2_ => xorB_z2 (un_z hB (by omega))) (fun k_ hk_ => xorB_z (un_z hB2 hk_)) (by omega), ← hk1b]; exact hD
            refine lv_aload_n kx kb dJ0_xor_94 rfl (lv_at hl 2 rfl) ?_
            refine t_callV (wr := [(c, .inr (3, [.ref v, .int (iI ((un Q_ : Nat) : Int)), .int (zI false)])), (v, .inl (D.2 2, n2, .inr (.inl (wd Q_))))]) C (met_J0_recalculateWordsInUse l D E b w2_1 (gN n (un Q_)) (xorB P Q_) (max (un P) (un Q_)) (BB_xor hB hB2) (by omega) (fun k_ hk_ => xorB_far hB hB2 hk_)) (cwV 0 hts (lw_V q521 q523 qs4 q61 q524) rfl rfl rfl (by decide +kernel) ⟨Nat.le_of_ble_eq_true rfl, Nat.le_of_ble_eq_true rfl⟩) (va_recv hK hP (ci := 3) (q0 := 2) rfl rfl) hK hX hP hD hS hA [2, 3] [0, 1] rfl rfl (by decide) (by decide) (by decide) tYb_0 (fun _ _ _ => trivial) rfl hl.1 rfl (Nat.le_of_ble_eq_true rfl) dJ0_xor_95 ⟨(show 0 + (gC n (un Q_)) ≤ gC n (un Q_) from by omega), (show 0 + (gS n (un Q_)) ≤ gS n (un Q_) from by omega)⟩ (fun u_ H locs hp hP hD hS => ?_)
            have hP : va_P D.1 clAll [(c, .inr (3, [.ref v, .int (iI ((un Q_ : Nat) : Int)), .int (zI false)])), (v, .inl (D.2 2, n2, .inr (.inl (wd Q_)))), (b, .inr (3, [.ref w2_1, .int (iI ((un (xorB P Q_) : Nat) : Int)), .int (zI false)])), (w2_1, .inl (D.2 2, (gN n (un Q_)), .inr (.inl (wd (xorB P Q_)))))] H := hP
            have hD : va_D A [(c, .inr (3, [.ref v, .int (iI ((un Q_ : Nat) : Int)), .int (zI false)])), (v, .inl (D.2 2, n2, .inr (.inl (wd Q_)))), (b, .inr (3, [.ref w2_1, .int (iI ((un (xorB P Q_) : Nat) : Int)), .int (zI false)])), (w2_1, .inl (D.2 2, (gN n (un Q_)), .inr (.inl (wd (xorB P Q_)))))] := hD
            refine W.eq (g2 := F0 m0 98 ls []) rfl ?_
            refine lv_aload_n kx kb dJ0_xor_98 rfl (lv_at hl 2 rfl) ?_
            refine t_callRV C (met_J0_checkInvariants l D E b) (cwV 0 hts (lw_V q525 q527 qs5 q61 q528) rfl rfl rfl (by decide +kernel) ⟨Nat.le_of_ble_eq_true rfl, Nat.le_of_ble_eq_true rfl⟩) (va_recv hK hP (ci := 3) (q0 := 2) rfl rfl) hK hX hP hD hS hA [] rfl (by decide) tYb_0 (fun _ _ _ => trivial) rfl hl.1 rfl (Nat.le_of_ble_eq_true rfl) dJ0_xor_99 ⟨(show 0 + (gC n (un Q_)) ≤ gC n (un Q_) from by omega), (show 0 + (gS n (un Q_)) ≤ gS n (un Q_) from by omega)⟩ ?_
            refine W.eq (g2 := F0 m0 102 ls []) rfl ?_
            subst hQ
            exact tm_vret C w2_1 trivial (hP.sub [2, 3, 0, 1] rfl) (hD.sub [2, 3, 0, 1] (by decide) rfl) hS (show 0 + (gC n (un Q_)) ≤ gC n (un Q_) from by omega) (show 0 + (gS n (un Q_)) ≤ gS n (un Q_) from by omega) rfl rfl dJ0_xor_102
        · refine lv_aload_n kx kb dJ0_xor_46 rfl (lv_at hl 2 rfl) ?_
          refine va_get (D := D.1) (ci := 3) (v := .ref w2_1) (C := RJ0) (T := TJ0) (N := 3) kx kb hts in_J0 hown hK hP 2 rfl rfl 0 (by decide) (hts _ q122) (fun _ h9 => h9) rfl dJ0_xor_47 ?_
          refine lv_iload_n kx kb dJ0_xor_50 rfl (lv_at hl 0 rfl) ?_
          refine lv_dup2_11 kx kb dJ0_xor_51 rfl rfl ?_
          refine ta_lald C hK hP 3 rfl i (by omega) dJ0_xor_52 ?_
          refine lv_aload_n kx kb dJ0_xor_53 rfl (lv_at hl 3 rfl) ?_
          refine va_get (D := D.1) (ci := 3) (v := .ref v) (C := RJ0) (T := TJ0) (N := 3) kx kb hts in_J0 hown hK hP 0 rfl rfl 0 (by decide) (hts _ q122) (fun _ h9 => h9) rfl dJ0_xor_54 ?_
          refine lv_iload_n kx kb dJ0_xor_57 rfl (lv_at hl 0 rfl) ?_
          refine ta_lald C hK hP 1 rfl i (by omega) dJ0_xor_58 ?_
          refine lv_lxor kx kb dJ0_xor_59 ?_
          refine ta_last C hK hP hD hS 3 rfl i (by omega) dJ0_xor_60 (fun H locs hP hD hS => ?_)
          have hP : va_P D.1 clAll [(c, .inr (3, [.ref v, .int (iI ((un Q_ : Nat) : Int)), .int (zI false)])), (v, .inl (D.2 2, n2, .inr (.inl (wd Q_)))), (b, .inr (3, [.ref w2_1, .int (iI ((max (un P) (un Q_) : Nat) : Int)), .int (zI false)])), (w2_1, .inl (D.2 2, gN n (un Q_), .inr (.inl (va_up k1 i ((k1 i) ^^^ ((wd Q_) i))))))] H := hP
          have hD : va_D A [(c, .inr (3, [.ref v, .int (iI ((un Q_ : Nat) : Int)), .int (zI false)])), (v, .inl (D.2 2, n2, .inr (.inl (wd Q_)))), (b, .inr (3, [.ref w2_1, .int (iI ((max (un P) (un Q_) : Nat) : Int)), .int (zI false)])), (w2_1, .inl (D.2 2, gN n (un Q_), .inr (.inl (va_up k1 i ((k1 i) ^^^ ((wd Q_) i))))))] := hD
          refine ti_iinc (a := (i : Int)) (lv' := [(3, .int (iI ((i : Int) + 1))), (2, .int (iI ((min (un P) (un Q_) : Nat) : Int))), (0, .ref b), (1, .ref c)]) kx kb dJ0_xor_61 hl (k := 0) rfl (by decide) rfl (fun ls hl => ?_)
          refine lv_goto (tgt := 41) kx kb dJ0_xor_64 (by decide) ?_
          exact ih41 (i + 1) (va_up k1 i ((k1 i) ^^^ ((wd Q_) i))) (by omega) (by rw [hk1, flw_at, wd_xor]; exact flw_up rfl) (by omega) H locs hP hD hS ls hl
    exact cut41 ((min (un P) (un Q_) - 0) + 1) 0 (wd P) (by omega) (by rw [flw_0]) (Nat.lt_succ_self _) H locs hP hD hS ls hl
set_option maxHeartbeats 4000000 in
set_option maxRecDepth 100000 in
theorem met_J0_isEmpty (l : Launch) (D : TG) (E : TE) (b : Nat) (w : Nat) (n : Nat) (P : Nat → Bool) (hB : BB P n) : tRd l yJ0_isEmpty cJ0_isEmpty 1 (some .boolean) 0 0 [.ref b] D E [(b, .inr (3, [.ref w, .int (iI ((un P : Nat) : Int)), .int (zI false)])), (w, .inl (D.2 2, n, .inr (.inl (wd P))))] tY0 (some (.int (zI (decide (un P = 0))))) := by
  refine tu_rd (by decide +kernel) (Nat.le_of_ble_eq_true rfl) ?_
  intro p0 e0 s0 m0 below meth c0 A ls args Q hag hQ C hK hX hY hP hD hA hAe hl
  obtain ⟨kx, kb, hml, hown, hts, -⟩ := id C
  have hS : va_S A s0.heap s0.heap [] := va_S.rf
  have hl : lv_has ls 1 [(0, .ref b)] := hl
  have hBn := hB.1
  have hBm := hB.2.1
  have hul := un_le hB
  refine lv_aload_n kx kb dJ0_isEmpty_0 rfl (lv_at hl 0 rfl) ?_
  refine va_get (D := D.1) (ci := 3) (v := .int (iI ((un P : Nat) : Int))) (C := RJ0) (T := TJ0) (N := 3) kx kb hts in_J0 hown hK hP 0 rfl rfl 1 (by decide) (hts _ q123) (fun _ h9 => h9) rfl dJ0_isEmpty_1 ?_
  refine ti_if_ne (tgt := 11) kx kb (by omega) dJ0_isEmpty_4 (by decide) (fun h4 => ?_) (fun h4 => ?_)
  · refine lv_iconst (v := iI 0) kx kb dJ0_isEmpty_11 rfl ?_
    refine W.eq (g2 := F0 m0 12 ls [.int (zI false)]) rfl ?_
    subst hQ
    exact tr_zret C rfl (by rw [decide_eq_false (p := un P = 0) (by omega)]) dJ0_isEmpty_12
  · refine lv_iconst (v := iI 1) kx kb dJ0_isEmpty_7 rfl ?_
    refine lv_goto (tgt := 12) kx kb dJ0_isEmpty_8 (by decide) ?_
    refine W.eq (g2 := F0 m0 12 ls [.int (zI true)]) rfl ?_
    subst hQ
    exact tr_zret C rfl (by rw [decide_eq_true (p := un P = 0) (by omega)]) dJ0_isEmpty_12
set_option maxHeartbeats 4000000 in
set_option maxRecDepth 100000 in
theorem met_J0_cardinality (l : Launch) (D : TG) (E : TE) (b : Nat) (w : Nat) (n : Nat) (P : Nat → Bool) (hB : BB P n) : tRd l yJ0_cardinality cJ0_cardinality 3 (some .int) 1 21 [.ref b] D E [(b, .inr (3, [.ref w, .int (iI ((un P : Nat) : Int)), .int (zI false)])), (w, .inl (D.2 2, n, .inr (.inl (wd P))))] tY0 (some (.int (iI ((fb_ct P 1024 : Nat) : Int)))) := by
  refine tu_rd (by decide +kernel) (Nat.le_of_ble_eq_true rfl) ?_
  intro p0 e0 s0 m0 below meth c0 A ls args Q hag hQ C hK hX hY hP hD hA hAe hl
  obtain ⟨kx, kb, hml, hown, hts, -⟩ := id C
  have hS : va_S A s0.heap s0.heap [] := va_S.rf
  have hl : lv_has ls 3 [(0, .ref b)] := hl
  have hBn := hB.1
  have hBm := hB.2.1
  have hul := un_le hB
  refine lv_iconst (v := iI 0) kx kb dJ0_cardinality_0 rfl ?_
  refine lv_istore_n (lv' := [(1, .int (iI 0)), (0, .ref b)]) kx kb dJ0_cardinality_1 rfl hl (by decide) rfl (fun ls hl => ?_)
  refine lv_iconst (v := iI 0) kx kb dJ0_cardinality_2 rfl ?_
  refine lv_istore_n (lv' := [(2, .int (iI 0)), (1, .int (iI 0)), (0, .ref b)]) kx kb dJ0_cardinality_3 rfl hl (by decide) rfl (fun ls hl => ?_)
  have cut4 : ∀ (fuel : Nat) (i : Nat) (t : Int), (i ≤ un P) → (t = ((ctW P i : Nat) : Int)) → (un P - i) < fuel → ∀ ls : Array Slot, lv_has ls 3 [(2, .int (iI (i : Int))), (1, .int (iI t)), (0, .ref b)] → W p0 l e0 ({ frames := 1, cells := 0, slots := 0, locals := 21 } : Room) s0 m0 args below meth c0 s0.heap [] (0) (0) Q (F0 m0 4 ls []) := by
    intro fuel
    induction fuel with
    | zero =>
      intro i t hi ht hfuel4
      exact absurd hfuel4 (Nat.not_lt_zero _)
    | succ fuel ih4 =>
      intro i t hi ht hfuel4  ls hl
      refine lv_iload_n kx kb dJ0_cardinality_4 rfl (lv_at hl 0 rfl) ?_
      refine lv_aload_n kx kb dJ0_cardinality_5 rfl (lv_at hl 2 rfl) ?_
      refine va_get (D := D.1) (ci := 3) (v := .int (iI ((un P : Nat) : Int))) (C := RJ0) (T := TJ0) (N := 3) kx kb hts in_J0 hown hK hP 0 rfl rfl 1 (by decide) (hts _ q123) (fun _ h9 => h9) rfl dJ0_cardinality_6 ?_
      refine ti_icmp_ge (tgt := 30) kx kb (by omega) dJ0_cardinality_9 (by decide) (fun h9 => ?_) (fun h9 => ?_)
      · refine lv_iload_n kx kb dJ0_cardinality_30 rfl (lv_at hl 1 rfl) ?_
        subst hQ
        exact tr_iret C rfl (by rw [ht, show i = un P from by omega, ctW_un hB]) dJ0_cardinality_31
      · refine lv_iload_n kx kb dJ0_cardinality_12 rfl (lv_at hl 1 rfl) ?_
        refine lv_aload_n kx kb dJ0_cardinality_13 rfl (lv_at hl 2 rfl) ?_
        refine va_get (D := D.1) (ci := 3) (v := .ref w) (C := RJ0) (T := TJ0) (N := 3) kx kb hts in_J0 hown hK hP 0 rfl rfl 0 (by decide) (hts _ q122) (fun _ h9 => h9) rfl dJ0_cardinality_14 ?_
        refine lv_iload_n kx kb dJ0_cardinality_17 rfl (lv_at hl 0 rfl) ?_
        refine ta_lald C hK hP 1 rfl i (by omega) dJ0_cardinality_18 ?_
        refine t_callRS C (met_J18_bitCount l D E ((wd P) i)) (va_cwS 1 hts (lw_S q539 q540 q81 q541) rfl rfl rfl (by decide +kernel) ⟨Nat.le_of_ble_eq_true rfl, Nat.le_of_ble_eq_true rfl⟩) hK hX hP hD hS hA [] rfl (by decide) tYb_0 (fun _ _ _ => trivial) rfl hl.1 rfl (Nat.le_of_ble_eq_true rfl) dJ0_cardinality_19 ⟨(show 0 ≤ 0 from by omega), (show 0 ≤ 0 from by omega)⟩ ?_
        refine W.eq (g2 := F0 m0 22 ls [.int (iI ((fb_ct (wbt ((wd P) i)) 64 : Nat) : Int)), .int (iI t)]) rfl ?_
        refine ti_iadd kx kb dJ0_cardinality_22 ?_
        refine lv_istore_n (lv' := [(1, .int (iI (t + ((fb_ct (wbt ((wd P) i)) 64 : Nat) : Int)))), (2, .int (iI (i : Int))), (0, .ref b)]) kx kb dJ0_cardinality_23 rfl hl (by decide) rfl (fun ls hl => ?_)
        refine ti_iinc (a := (i : Int)) (lv' := [(2, .int (iI ((i : Int) + 1))), (1, .int (iI (t + ((fb_ct (wbt ((wd P) i)) 64 : Nat) : Int)))), (0, .ref b)]) kx kb dJ0_cardinality_24 hl (k := 1) rfl (by decide) rfl (fun ls hl => ?_)
        refine lv_goto (tgt := 4) kx kb dJ0_cardinality_27 (by decide) ?_
        exact ih4 (i + 1) (t + ((fb_ct (wbt ((wd P) i)) 64 : Nat) : Int)) (by omega) (by rw [ht, ctW_s]; omega) (by omega) ls hl
  exact cut4 ((un P - 0) + 1) 0 0 (by omega) (by rfl) (Nat.lt_succ_self _) ls hl
set_option maxHeartbeats 4000000 in
set_option maxRecDepth 100000 in
theorem met_J0_nextSetBit (l : Launch) (D : TG) (E : TE) (b : Nat) (w : Nat) (n : Nat) (P : Nat → Bool) (i : Nat) (hB : BB P n) (hi : i ≤ 1024) : tRd l yJ0_nextSetBit cJ0_nextSetBit 5 (some .int) 2 43 [.ref b, .int (iI ((i : Nat) : Int))] D E [(b, .inr (3, [.ref w, .int (iI ((un P : Nat) : Int)), .int (zI false)])), (w, .inl (D.2 2, n, .inr (.inl (wd P))))] tY0 (some (.int (iI (nxt P i)))) := by
  refine tu_rd (by decide +kernel) (Nat.le_of_ble_eq_true rfl) ?_
  intro p0 e0 s0 m0 below meth c0 A ls args Q hag hQ C hK hX hY hP hD hA hAe hl
  obtain ⟨kx, kb, hml, hown, hts, -⟩ := id C
  have hS : va_S A s0.heap s0.heap [] := va_S.rf
  have hl : lv_has ls 5 [(0, .ref b), (1, .int (iI ((i : Nat) : Int)))] := hl
  have hBn := hB.1
  have hBm := hB.2.1
  have hul := un_le hB
  refine lv_iload_n kx kb dJ0_nextSetBit_0 rfl (lv_at hl 1 rfl) ?_
  refine ti_if_ge (tgt := 31) kx kb (by omega) dJ0_nextSetBit_1 (by decide) (fun h1 => ?_) (fun h1 => ?_)
  · refine lv_aload_n kx kb dJ0_nextSetBit_31 rfl (lv_at hl 0 rfl) ?_
    refine t_callRV C (met_J0_checkInvariants l D E b) (cwV 0 hts (lw_V q525 q527 qs5 q61 q528) rfl rfl rfl (by decide +kernel) ⟨Nat.le_of_ble_eq_true rfl, Nat.le_of_ble_eq_true rfl⟩) (va_recv hK hP (ci := 3) (q0 := 0) rfl rfl) hK hX hP hD hS hA [] rfl (by decide) tYb_0 (fun _ _ _ => trivial) rfl hl.1 rfl (Nat.le_of_ble_eq_true rfl) dJ0_nextSetBit_32 ⟨(show 0 ≤ 0 from by omega), (show 0 ≤ 0 from by omega)⟩ ?_
    refine W.eq (g2 := F0 m0 35 ls []) rfl ?_
    refine lv_iload_n kx kb dJ0_nextSetBit_35 rfl (lv_at hl 1 rfl) ?_
    refine t_callRS C (met_J0_wordIndex l D E i (by first | assumption | omega)) (va_cwS 1 hts (lw_S q119 q120 q61 q121) rfl rfl rfl (by decide +kernel) ⟨Nat.le_of_ble_eq_true rfl, Nat.le_of_ble_eq_true rfl⟩) hK hX hP hD hS hA [] rfl (by decide) tYb_0 (fun _ _ _ => trivial) rfl hl.1 rfl (Nat.le_of_ble_eq_true rfl) dJ0_nextSetBit_36 ⟨(show 0 ≤ 0 from by omega), (show 0 ≤ 0 from by omega)⟩ ?_
    refine W.eq (g2 := F0 m0 39 ls [.int (iI ((i / 64 : Nat) : Int))]) rfl ?_
    refine lv_istore_n (lv' := [(2, .int (iI ((i / 64 : Nat) : Int))), (0, .ref b), (1, .int (iI ((i : Nat) : Int)))]) kx kb dJ0_nextSetBit_39 rfl hl (by decide) rfl (fun ls hl => ?_)
    refine lv_iload_n kx kb dJ0_nextSetBit_40 rfl (lv_at hl 0 rfl) ?_
    refine lv_aload_n kx kb dJ0_nextSetBit_41 rfl (lv_at hl 1 rfl) ?_
    refine va_get (D := D.1) (ci := 3) (v := .int (iI ((un P : Nat) : Int))) (C := RJ0) (T := TJ0) (N := 3) kx kb hts in_J0 hown hK hP 0 rfl rfl 1 (by decide) (hts _ q123) (fun _ h9 => h9) rfl dJ0_nextSetBit_42 ?_
    refine ti_icmp_lt (tgt := 50) kx kb (by omega) dJ0_nextSetBit_45 (by decide) (fun h45 => ?_) (fun h45 => ?_)
    · refine lv_aload_n kx kb dJ0_nextSetBit_50 rfl (lv_at hl 1 rfl) ?_
      refine va_get (D := D.1) (ci := 3) (v := .ref w) (C := RJ0) (T := TJ0) (N := 3) kx kb hts in_J0 hown hK hP 0 rfl rfl 0 (by decide) (hts _ q122) (fun _ h9 => h9) rfl dJ0_nextSetBit_51 ?_
      refine lv_iload_n kx kb dJ0_nextSetBit_54 rfl (lv_at hl 0 rfl) ?_
      refine ta_lald C hK hP 1 rfl ((((i / 64 : Nat) : Int)).toNat) (by omega) dJ0_nextSetBit_55 ?_
      refine lv_ldc2 (v := (-1)) kx kb hown (hts _ q520) dJ0_nextSetBit_56 ?_
      refine lv_iload_n kx kb dJ0_nextSetBit_59 rfl (lv_at hl 2 rfl) ?_
      refine lv_lshl kx kb dJ0_nextSetBit_60 rfl ?_
      refine lv_land kx kb dJ0_nextSetBit_61 ?_
      refine lv_lstore_n (lv' := [(3, .long (((wd P) ((((i / 64 : Nat) : Int)).toNat)) &&& ((-1 : Int64) <<< ((iI ((i : Nat) : Int)).toInt64 &&& 63)))), (2, .int (iI ((i / 64 : Nat) : Int))), (0, .ref b), (1, .int (iI ((i : Nat) : Int)))]) kx kb dJ0_nextSetBit_62 rfl hl (by decide) rfl (fun ls hl => ?_)
      have cut63 : ∀ (fuel : Nat) (q : Nat) (x : Int64), (i / 64 ≤ q ∧ q < un P) → (∀ j_, j_ < 64 → wbt x j_ = (P (64 * q + j_) && decide (i ≤ 64 * q + j_))) → (∀ j_, i ≤ j_ → j_ < 64 * q → P j_ = false) → (un P - q) < fuel → ∀ ls : Array Slot, lv_has ls 5 [(3, .long x), (2, .int (iI (q : Int))), (0, .ref b), (1, .int (iI ((i : Nat) : Int)))] → W p0 l e0 ({ frames := 2, cells := 0, slots := 0, locals := 43 } : Room) s0 m0 args below meth c0 s0.heap [] (0) (0) Q (F0 m0 63 ls []) := by
        intro fuel
        induction fuel with
        | zero =>
          intro q x hq hx hno hfuel63
          exact absurd hfuel63 (Nat.not_lt_zero _)
        | succ fuel ih63 =>
          intro q x hq hx hno hfuel63  ls hl
          refine lv_lload_n kx kb dJ0_nextSetBit_63 rfl (lv_at hl 0 rfl) ?_
          refine lv_lconst (v := 0) kx kb dJ0_nextSetBit_64 rfl ?_
          refine W.lcmp kx kb dJ0_nextSetBit_65 ?_
          refine tl_if_eq (tgt := 79) kx kb dJ0_nextSetBit_66 (by decide) (fun h66 => ?_) (fun h66 => ?_)
          · have hno2 : ∀ j_, i ≤ j_ → j_ < 64 * (q + 1) → P j_ = false := fun j_ h1_ h2_ => by by_cases e_ : j_ < 64 * q; (exact hno j_ h1_ e_); (have e9 := hx (j_ - 64 * q) (by omega); rw [h66, wbt_0, show 64 * q + (j_ - 64 * q) = j_ from by omega, decide_eq_true h1_, Bool.and_true] at e9; exact e9.symm)
            refine ti_iinc (a := (q : Int)) (lv' := [(2, .int (iI ((q : Int) + 1))), (3, .long x), (0, .ref b), (1, .int (iI ((i : Nat) : Int)))]) kx kb dJ0_nextSetBit_79 hl (k := 1) rfl (by decide) rfl (fun ls hl => ?_)
            refine lv_iload_n kx kb dJ0_nextSetBit_82 rfl (lv_at hl 0 rfl) ?_
            refine lv_aload_n kx kb dJ0_nextSetBit_83 rfl (lv_at hl 2 rfl) ?_
            refine va_get (D := D.1) (ci := 3) (v := .int (iI ((un P : Nat) : Int))) (C := RJ0) (T := TJ0) (N := 3) kx kb hts in_J0 hown hK hP 0 rfl rfl 1 (by decide) (hts _ q123) (fun _ h9 => h9) rfl dJ0_nextSetBit_84 ?_
            refine ti_icmp_ne (tgt := 92) kx kb (by omega) dJ0_nextSetBit_87 (by decide) (fun h87 => ?_) (fun h87 => ?_)
            · refine lv_aload_n kx kb dJ0_nextSetBit_92 rfl (lv_at hl 2 rfl) ?_
              refine va_get (D := D.1) (ci := 3) (v := .ref w) (C := RJ0) (T := TJ0) (N := 3) kx kb hts in_J0 hown hK hP 0 rfl rfl 0 (by decide) (hts _ q122) (fun _ h9 => h9) rfl dJ0_nextSetBit_93 ?_
              refine lv_iload_n kx kb dJ0_nextSetBit_96 rfl (lv_at hl 0 rfl) ?_
              refine ta_lald C hK hP 1 rfl (q + 1) (by omega) dJ0_nextSetBit_97 ?_
              refine lv_lstore_n (lv' := [(3, .long ((wd P) (q + 1))), (2, .int (iI ((q : Int) + 1))), (0, .ref b), (1, .int (iI ((i : Nat) : Int)))]) kx kb dJ0_nextSetBit_98 rfl hl (by decide) rfl (fun ls hl => ?_)
              refine lv_goto (tgt := 63) kx kb dJ0_nextSetBit_99 (by decide) ?_
              exact ih63 (q + 1) ((wd P) (q + 1)) (by omega) (fun j_ hj_ => by rw [wd_bit P _ hj_, decide_eq_true (by omega), Bool.and_true]) (hno2) (by omega) ls hl
            · refine lv_iconst (v := iI (-1)) kx kb dJ0_nextSetBit_90 rfl ?_
              subst hQ
              exact tr_iret C rfl (by rw [nxt_no (fun j_ hj_ => by by_cases e_ : j_ < 64 * (q + 1); (exact hno2 j_ hj_ e_); exact un_out hB (by omega))]) dJ0_nextSetBit_91
          · obtain ⟨t, ht, hb1, hb2⟩ := wbt_low h66
            have ht2 := hx t ht
            rw [hb1] at ht2
            have ht3 := Eq.symm ht2
            rw [Bool.and_eq_true, decide_eq_true_eq] at ht3
            refine lv_iload_n kx kb dJ0_nextSetBit_69 rfl (lv_at hl 1 rfl) ?_
            refine lv_bipush (v := iI 64) kx kb dJ0_nextSetBit_70 rfl ?_
            refine ti_imul kx kb dJ0_nextSetBit_72 ?_
            refine lv_lload_n kx kb dJ0_nextSetBit_73 rfl (lv_at hl 0 rfl) ?_
            refine t_callRS C (met_J18_numberOfTrailingZeros l D E x t (ht) (hb1) (hb2)) (va_cwS 1 hts (lw_S q586 q587 q81 q588) rfl rfl rfl (by decide +kernel) ⟨Nat.le_of_ble_eq_true rfl, Nat.le_of_ble_eq_true rfl⟩) hK hX hP hD hS hA [] rfl (by decide) tYb_0 (fun _ _ _ => trivial) rfl hl.1 rfl (Nat.le_of_ble_eq_true rfl) dJ0_nextSetBit_74 ⟨(show 0 ≤ 0 from by omega), (show 0 ≤ 0 from by omega)⟩ ?_
            refine W.eq (g2 := F0 m0 77 ls [.int (iI ((t : Nat) : Int)), .int (iI ((q : Int) * 64))]) rfl ?_
            refine ti_iadd kx kb dJ0_nextSetBit_77 ?_
            subst hQ
            exact tr_iret C rfl (by rw [nxt_hit (j := 64 * q + t) ht3.1 ht3.2 (by omega) (fun j_ h1_ h2_ => by by_cases e_ : j_ < 64 * q; (exact hno j_ h1_ e_); (have e9 := hx (j_ - 64 * q) (by omega); rw [hb2 (j_ - 64 * q) (by omega), show 64 * q + (j_ - 64 * q) = j_ from by omega, decide_eq_true h1_, Bool.and_true] at e9; exact e9.symm)), show ((q : Nat) : Int) * 64 + ((t : Nat) : Int) = ((64 * q + t : Nat) : Int) from by omega]) dJ0_nextSetBit_78
      exact cut63 ((un P - (i / 64)) + 1) (i / 64) (((wd P) ((((i / 64 : Nat) : Int)).toNat)) &&& ((-1 : Int64) <<< ((iI ((i : Nat) : Int)).toInt64 &&& 63))) (by omega) (fun j_ hj_ => nx_mask P (by omega) hj_) (fun j_ h1_ h2_ => by omega) (Nat.lt_succ_self _) ls hl
    · refine lv_iconst (v := iI (-1)) kx kb dJ0_nextSetBit_48 rfl ?_
      subst hQ
      exact tr_iret C rfl (by rw [nxt_no (fun j_ hj_ => un_out hB (by omega))]) dJ0_nextSetBit_49
  · omega
set_option maxHeartbeats 4000000 in
set_option maxRecDepth 100000 in
theorem met_J0_andNot (l : Launch) (D : TG) (E : TE) (b : Nat) (w : Nat) (n : Nat) (P : Nat → Bool) (c : Nat) (v : Nat) (n2 : Nat) (Q_ : Nat → Bool) (hB : BB P n) (hB2 : BB Q_ n2) : tMet l yJ0_andNot cJ0_andNot 3 none 1 40 (0) (0) [.ref b, .ref c] D E [(b, .inr (3, [.ref w, .int (iI ((un P : Nat) : Int)), .int (zI false)])), (w, .inl (D.2 2, n, .inr (.inl (wd P)))), (c, .inr (3, [.ref v, .int (iI ((un Q_ : Nat) : Int)), .int (zI false)])), (v, .inl (D.2 2, n2, .inr (.inl (wd Q_))))] tY0 (S := Unit) (fun u_ => True) (fun u_ => none) (fun u_ => [(b, .inr (3, [.ref w, .int (iI ((un (anB P Q_) : Nat) : Int)), .int (zI false)])), (w, .inl (D.2 2, n, .inr (.inl (wd (anB P Q_))))), (c, .inr (3, [.ref v, .int (iI ((un Q_ : Nat) : Int)), .int (zI false)])), (v, .inl (D.2 2, n2, .inr (.inl (wd Q_))))]) := by
  refine tu_met (by decide +kernel) (Nat.le_of_ble_eq_true rfl) ?_
  intro p0 e0 s0 m0 below meth c0 A ls args Q hag hQ C hK hX hY hP hD hA hAe hl
  obtain ⟨kx, kb, hml, hown, hts, -⟩ := id C
  have hS : va_S A s0.heap s0.heap [] := va_S.rf
  have hl : lv_has ls 3 [(0, .ref b), (1, .ref c)] := hl
  have hBn := hB.1
  have hBm := hB.2.1
  have hul := un_le hB
  have hul2 := un_le hB2
  have hBn2 := hB2.1
  have hBm2 := hB2.2.1
  have hg := gN_le ⟨hB.1, hB.2.1⟩ hul2.2
  refine lv_aload_n kx kb dJ0_andNot_0 rfl (lv_at hl 0 rfl) ?_
  refine va_get (D := D.1) (ci := 3) (v := .int (iI ((un P : Nat) : Int))) (C := RJ0) (T := TJ0) (N := 3) kx kb hts in_J0 hown hK hP 0 rfl rfl 1 (by decide) (hts _ q123) (fun _ h9 => h9) rfl dJ0_andNot_1 ?_
  refine lv_aload_n kx kb dJ0_andNot_4 rfl (lv_at hl 1 rfl) ?_
  refine va_get (D := D.1) (ci := 3) (v := .int (iI ((un Q_ : Nat) : Int))) (C := RJ0) (T := TJ0) (N := 3) kx kb hts in_J0 hown hK hP 2 rfl rfl 1 (by decide) (hts _ q123) (fun _ h9 => h9) rfl dJ0_andNot_5 ?_
  refine ti_mmin kx kb (hml.trans hl.1.symm) hown (hts _ q561) (hts _ q290) (hts _ q74) (hts _ q291) (Nat.le_of_ble_eq_true rfl) (Nat.le_of_ble_eq_true rfl) (show 0 ≤ 0 from by omega) (show 0 ≤ 0 from by omega) (by omega) dJ0_andNot_8 ?_
  refine lv_iconst (v := iI 1) kx kb dJ0_andNot_11 rfl ?_
  refine ti_isub kx kb dJ0_andNot_12 ?_
  refine W.eq (g2 := F0 m0 13 ls [.int (iI (((min (un P) (un Q_) : Nat) : Int) - 1))]) (by rw [show min ((un P : Nat) : Int) ((un Q_ : Nat) : Int) = ((min (un P) (un Q_) : Nat) : Int) from by omega]) ?_
  refine lv_istore_n (lv' := [(2, .int (iI (((min (un P) (un Q_) : Nat) : Int) - 1))), (0, .ref b), (1, .ref c)]) kx kb dJ0_andNot_13 rfl hl (by decide) rfl (fun ls hl => ?_)
  have cut14 : ∀ (fuel : Nat) (i : Int) (q : Nat) (k1 : Nat → Int64), (i = (q : Int) - 1 ∧ q ≤ min (un P) (un Q_)) → (k1 = flw (wd P) (wd (anB P Q_)) q) → q < fuel → ∀ (H : Heap) (locs : List Loc), va_P D.1 clAll [(b, .inr (3, [.ref w, .int (iI ((un P : Nat) : Int)), .int (zI false)])), (w, .inl (D.2 2, n, .inr (.inl k1))), (c, .inr (3, [.ref v, .int (iI ((un Q_ : Nat) : Int)), .int (zI false)])), (v, .inl (D.2 2, n2, .inr (.inl (wd Q_))))] H → va_D A [(b, .inr (3, [.ref w, .int (iI ((un P : Nat) : Int)), .int (zI false)])), (w, .inl (D.2 2, n, .inr (.inl k1))), (c, .inr (3, [.ref v, .int (iI ((un Q_ : Nat) : Int)), .int (zI false)])), (v, .inl (D.2 2, n2, .inr (.inl (wd Q_))))] → va_S A s0.heap H locs → ∀ ls : Array Slot, lv_has ls 3 [(2, .int (iI i)), (0, .ref b), (1, .ref c)] → W p0 l e0 ({ frames := 1, cells := 0, slots := 0, locals := 40 } : Room) s0 m0 args below meth c0 H locs (0) (0) Q (F0 m0 14 ls []) := by
    intro fuel
    induction fuel with
    | zero =>
      intro i q k1 hq hk1 hfuel14
      exact absurd hfuel14 (Nat.not_lt_zero _)
    | succ fuel ih14 =>
      intro i q k1 hq hk1 hfuel14 H locs hP hD hS ls hl
      refine lv_iload_n kx kb dJ0_andNot_14 rfl (lv_at hl 0 rfl) ?_
      refine ti_if_lt (tgt := 43) kx kb (by omega) dJ0_andNot_15 (by decide) (fun h15 => ?_) (fun h15 => ?_)
      · have hk1b : k1 = wd (anB P Q_) := by rw [hk1, show q = 0 from by omega, flw_0]
        have hP : va_P D.1 clAll [(b, .inr (3, [.ref w, .int (iI ((un P : Nat) : Int)), .int (zI false)])), (w, .inl (D.2 2, n, .inr (.inl (wd (anB P Q_))))), (c, .inr (3, [.ref v, .int (iI ((un Q_ : Nat) : Int)), .int (zI false)])), (v, .inl (D.2 2, n2, .inr (.inl (wd Q_))))] H := by rw [← hk1b]; exact hP
        have hD : va_D A [(b, .inr (3, [.ref w, .int (iI ((un P : Nat) : Int)), .int (zI false)])), (w, .inl (D.2 2, n, .inr (.inl (wd (anB P Q_))))), (c, .inr (3, [.ref v, .int (iI ((un Q_ : Nat) : Int)), .int (zI false)])), (v, .inl (D.2 2, n2, .inr (.inl (wd Q_))))] := by rw [← hk1b]; exact hD
        refine lv_aload_n kx kb dJ0_andNot_43 rfl (lv_at hl 1 rfl) ?_
        refine t_callV (wr := [(c, .inr (3, [.ref v, .int (iI ((un Q_ : Nat) : Int)), .int (zI false)])), (v, .inl (D.2 2, n2, .inr (.inl (wd Q_))))]) C (met_J0_recalculateWordsInUse l D E b w n (anB P Q_) (un P) (BB_an hB) (by omega) (fun k_ hk_ => anB_far hB hk_)) (cwV 0 hts (lw_V q521 q523 qs4 q61 q524) rfl rfl rfl (by decide +kernel) ⟨Nat.le_of_ble_eq_true rfl, Nat.le_of_ble_eq_true rfl⟩) (va_recv hK hP (ci := 3) (q0 := 0) rfl rfl) hK hX hP hD hS hA [0, 1] [2, 3] rfl rfl (by decide) (by decide) (by decide) tYb_0 (fun _ _ _ => trivial) rfl hl.1 rfl (Nat.le_of_ble_eq_true rfl) dJ0_andNot_44 ⟨(show 0 ≤ 0 from by omega), (show 0 ≤ 0 from by omega)⟩ (fun u_ H locs hp hP hD hS => ?_)
        have hP : va_P D.1 clAll [(c, .inr (3, [.ref v, .int (iI ((un Q_ : Nat) : Int)), .int (zI false)])), (v, .inl (D.2 2, n2, .inr (.inl (wd Q_)))), (b, .inr (3, [.ref w, .int (iI ((un (anB P Q_) : Nat) : Int)), .int (zI false)])), (w, .inl (D.2 2, n, .inr (.inl (wd (anB P Q_)))))] H := hP
        have hD : va_D A [(c, .inr (3, [.ref v, .int (iI ((un Q_ : Nat) : Int)), .int (zI false)])), (v, .inl (D.2 2, n2, .inr (.inl (wd Q_)))), (b, .inr (3, [.ref w, .int (iI ((un (anB P Q_) : Nat) : Int)), .int (zI false)])), (w, .inl (D.2 2, n, .inr (.inl (wd (anB P Q_)))))] := hD
        refine W.eq (g2 := F0 m0 47 ls []) rfl ?_
        refine lv_aload_n kx kb dJ0_andNot_47 rfl (lv_at hl 1 rfl) ?_
        refine t_callRV C (met_J0_checkInvariants l D E b) (cwV 0 hts (lw_V q525 q527 qs5 q61 q528) rfl rfl rfl (by decide +kernel) ⟨Nat.le_of_ble_eq_true rfl, Nat.le_of_ble_eq_true rfl⟩) (va_recv hK hP (ci := 3) (q0 := 2) rfl rfl) hK hX hP hD hS hA [] rfl (by decide) tYb_0 (fun _ _ _ => trivial) rfl hl.1 rfl (Nat.le_of_ble_eq_true rfl) dJ0_andNot_48 ⟨(show 0 ≤ 0 from by omega), (show 0 ≤ 0 from by omega)⟩ ?_
        refine W.eq (g2 := F0 m0 51 ls []) rfl ?_
        subst hQ
        exact tm_vret C () trivial (hP.sub [2, 3, 0, 1] rfl) (hD.sub [2, 3, 0, 1] (by decide) rfl) hS (show 0 ≤ 0 from by omega) (show 0 ≤ 0 from by omega) rfl rfl dJ0_andNot_51
      · refine lv_aload_n kx kb dJ0_andNot_18 rfl (lv_at hl 1 rfl) ?_
        refine va_get (D := D.1) (ci := 3) (v := .ref w) (C := RJ0) (T := TJ0) (N := 3) kx kb hts in_J0 hown hK hP 0 rfl rfl 0 (by decide) (hts _ q122) (fun _ h9 => h9) rfl dJ0_andNot_19 ?_
        refine lv_iload_n kx kb dJ0_andNot_22 rfl (lv_at hl 0 rfl) ?_
        refine lv_dup2_11 kx kb dJ0_andNot_23 rfl rfl ?_
        refine ta_lald C hK hP 1 rfl (q - 1) (by omega) dJ0_andNot_24 ?_
        refine lv_aload_n kx kb dJ0_andNot_25 rfl (lv_at hl 2 rfl) ?_
        refine va_get (D := D.1) (ci := 3) (v := .ref v) (C := RJ0) (T := TJ0) (N := 3) kx kb hts in_J0 hown hK hP 2 rfl rfl 0 (by decide) (hts _ q122) (fun _ h9 => h9) rfl dJ0_andNot_26 ?_
        refine lv_iload_n kx kb dJ0_andNot_29 rfl (lv_at hl 0 rfl) ?_
        refine ta_lald C hK hP 3 rfl (q - 1) (by omega) dJ0_andNot_30 ?_
        refine lv_ldc2 (v := (-1)) kx kb hown (hts _ q520) dJ0_andNot_31 ?_
        refine lv_lxor kx kb dJ0_andNot_34 ?_
        refine lv_land kx kb dJ0_andNot_35 ?_
        refine ta_last C hK hP hD hS 1 rfl (q - 1) (by omega) dJ0_andNot_36 (fun H locs hP hD hS => ?_)
        have hP : va_P D.1 clAll [(b, .inr (3, [.ref w, .int (iI ((un P : Nat) : Int)), .int (zI false)])), (w, .inl (D.2 2, n, .inr (.inl (va_up k1 (q - 1) ((k1 (q - 1)) &&& (((wd Q_) (q - 1)) ^^^ (-1 : Int64))))))), (c, .inr (3, [.ref v, .int (iI ((un Q_ : Nat) : Int)), .int (zI false)])), (v, .inl (D.2 2, n2, .inr (.inl (wd Q_))))] H := hP
        have hD : va_D A [(b, .inr (3, [.ref w, .int (iI ((un P : Nat) : Int)), .int (zI false)])), (w, .inl (D.2 2, n, .inr (.inl (va_up k1 (q - 1) ((k1 (q - 1)) &&& (((wd Q_) (q - 1)) ^^^ (-1 : Int64))))))), (c, .inr (3, [.ref v, .int (iI ((un Q_ : Nat) : Int)), .int (zI false)])), (v, .inl (D.2 2, n2, .inr (.inl (wd Q_))))] := hD
        refine ti_iinc (a := i) (lv' := [(2, .int (iI (i + (-1)))), (0, .ref b), (1, .ref c)]) kx kb dJ0_andNot_37 hl (k := 0) rfl (by decide) rfl (fun ls hl => ?_)
        refine lv_goto (tgt := 14) kx kb dJ0_andNot_40 (by decide) ?_
        exact ih14 (i + (-1)) (q - 1) (va_up k1 (q - 1) ((k1 (q - 1)) &&& (((wd Q_) (q - 1)) ^^^ (-1 : Int64)))) (by omega) (by rw [hk1, show flw (wd P) (wd (anB P Q_)) q (q - 1) = wd P (q - 1) from if_pos (by omega), wd_anot]; exact flw_dn _ _ (by omega)) (by omega) H locs hP hD hS ls hl
  exact cut14 ((min (un P) (un Q_)) + 1) (((min (un P) (un Q_) : Nat) : Int) - 1) (min (un P) (un Q_)) (wd P) (by omega) (flw_same (fun k_ hk_ => (anB_z (by by_cases e_ : un P ≤ k_; (exact Or.inl (un_z hB e_)); exact Or.inr (un_z hB2 (by omega)))).symm)).symm (Nat.lt_succ_self _) s0.heap [] hP hD hS ls hl
set_option maxHeartbeats 4000000 in
set_option maxRecDepth 100000 in
theorem met_J0_and (l : Launch) (D : TG) (E : TE) (b : Nat) (w : Nat) (n : Nat) (P : Nat → Bool) (c : Nat) (v : Nat) (n2 : Nat) (Q_ : Nat → Bool) (hB : BB P n) (hB2 : BB Q_ n2) : tMet l yJ0_and cJ0_and 3 none 1 21 (0) (0) [.ref b, .ref c] D E [(b, .inr (3, [.ref w, .int (iI ((un P : Nat) : Int)), .int (zI false)])), (w, .inl (D.2 2, n, .inr (.inl (wd P)))), (c, .inr (3, [.ref v, .int (iI ((un Q_ : Nat) : Int)), .int (zI false)])), (v, .inl (D.2 2, n2, .inr (.inl (wd Q_))))] tY0 (S := Unit) (fun u_ => True) (fun u_ => none) (fun u_ => [(b, .inr (3, [.ref w, .int (iI ((un (andB P Q_) : Nat) : Int)), .int (zI false)])), (w, .inl (D.2 2, n, .inr (.inl (wd (andB P Q_))))), (c, .inr (3, [.ref v, .int (iI ((un Q_ : Nat) : Int)), .int (zI false)])), (v, .inl (D.2 2, n2, .inr (.inl (wd Q_))))]) := by
  refine tu_met (by decide +kernel) (Nat.le_of_ble_eq_true rfl) ?_
  intro p0 e0 s0 m0 below meth c0 A ls args Q hag hQ C hK hX hY hP hD hA hAe hl
  obtain ⟨kx, kb, hml, hown, hts, -⟩ := id C
  have hS : va_S A s0.heap s0.heap [] := va_S.rf
  have hl : lv_has ls 3 [(0, .ref b), (1, .ref c)] := hl
  have hBn := hB.1
  have hBm := hB.2.1
  have hul := un_le hB
  have hul2 := un_le hB2
  have hBn2 := hB2.1
  have hBm2 := hB2.2.1
  have hg := gN_le ⟨hB.1, hB.2.1⟩ hul2.2
  refine lv_aload_n kx kb dJ0_and_0 rfl (lv_at hl 0 rfl) ?_
  refine lv_aload_n kx kb dJ0_and_1 rfl (lv_at hl 1 rfl) ?_
  refine lv_acmp_ne (rx := some b) (ry := some c) (tgt := 6) kx kb dJ0_and_2 (by decide) (fun h2 => ?_) (fun h2 => ?_)
  · have cut6 : ∀ (fuel : Nat) (z : Int) (u : Nat) (k1 : Nat → Int64), (z = (u : Int) ∧ u ≤ un P ∧ (un Q_ ≤ u ∨ u = un P)) → (k1 = flw (wd P) (fun _ => 0) u) → u < fuel → ∀ (H : Heap) (locs : List Loc), va_P D.1 clAll [(b, .inr (3, [.ref w, .int (iI z), .int (zI false)])), (w, .inl (D.2 2, n, .inr (.inl k1))), (c, .inr (3, [.ref v, .int (iI ((un Q_ : Nat) : Int)), .int (zI false)])), (v, .inl (D.2 2, n2, .inr (.inl (wd Q_))))] H → va_D A [(b, .inr (3, [.ref w, .int (iI z), .int (zI false)])), (w, .inl (D.2 2, n, .inr (.inl k1))), (c, .inr (3, [.ref v, .int (iI ((un Q_ : Nat) : Int)), .int (zI false)])), (v, .inl (D.2 2, n2, .inr (.inl (wd Q_))))] → va_S A s0.heap H locs → ∀ ls : Array Slot, lv_has ls 3 [(0, .ref b), (1, .ref c)] → W p0 l e0 ({ frames := 1, cells := 0, slots := 0, locals := 21 } : Room) s0 m0 args below meth c0 H locs (0) (0) Q (F0 m0 6 ls []) := by
      intro fuel
      induction fuel with
      | zero =>
        intro z u k1 hz hk1 hfuel6
        exact absurd hfuel6 (Nat.not_lt_zero _)
      | succ fuel ih6 =>
        intro z u k1 hz hk1 hfuel6 H locs hP hD hS ls hl
        refine lv_aload_n kx kb dJ0_and_6 rfl (lv_at hl 0 rfl) ?_
        refine va_get (D := D.1) (ci := 3) (v := .int (iI z)) (C := RJ0) (T := TJ0) (N := 3) kx kb hts in_J0 hown hK hP 0 rfl rfl 1 (by decide) (hts _ q123) (fun _ h9 => h9) rfl dJ0_and_7 ?_
        refine lv_aload_n kx kb dJ0_and_10 rfl (lv_at hl 1 rfl) ?_
        refine va_get (D := D.1) (ci := 3) (v := .int (iI ((un Q_ : Nat) : Int))) (C := RJ0) (T := TJ0) (N := 3) kx kb hts in_J0 hown hK hP 2 rfl rfl 1 (by decide) (hts _ q123) (fun _ h9 => h9) rfl dJ0_and_11 ?_
        refine ti_icmp_le (tgt := 37) kx kb (by omega) dJ0_and_14 (by decide) (fun h14 => ?_) (fun h14 => ?_)
        · refine lv_iconst (v := iI 0) kx kb dJ0_and_37 rfl ?_
          refine lv_istore_n (lv' := [(2, .int (iI 0)), (0, .ref b), (1, .ref c)]) kx kb dJ0_and_38 rfl hl (by decide) rfl (fun ls hl => ?_)
          have cut39 : ∀ (fuel : Nat) (i : Nat) (k2 : Nat → Int64), (i ≤ u) → (k2 = flw (wd (andB P Q_)) k1 i) → (u - i) < fuel → ∀ (H : Heap) (locs : List Loc), va_P D.1 clAll [(b, .inr (3, [.ref w, .int (iI z), .int (zI false)])), (w, .inl (D.2 2, n, .inr (.inl k2))), (c, .inr (3, [.ref v, .int (iI ((un Q_ : Nat) : Int)), .int (zI false)])), (v, .inl (D.2 2, n2, .inr (.inl (wd Q_))))] H → va_D A [(b, .inr (3, [.ref w, .int (iI z), .int (zI false)])), (w, .inl (D.2 2, n, .inr (.inl k2))), (c, .inr (3, [.ref v, .int (iI ((un Q_ : Nat) : Int)), .int (zI false)])), (v, .inl (D.2 2, n2, .inr (.inl (wd Q_))))] → va_S A s0.heap H locs → ∀ ls : Array Slot, lv_has ls 3 [(2, .int (iI (i : Int))), (0, .ref b), (1, .ref c)] → W p0 l e0 ({ frames := 1, cells := 0, slots := 0, locals := 21 } : Room) s0 m0 args below meth c0 H locs (0) (0) Q (F0 m0 39 ls []) := by
            intro fuel
            induction fuel with
            | zero =>
              intro i k2 hi hk2 hfuel39
              exact absurd hfuel39 (Nat.not_lt_zero _)
            | succ fuel ih39 =>
              intro i k2 hi hk2 hfuel39 H locs hP hD hS ls hl
              refine lv_iload_n kx kb dJ0_and_39 rfl (lv_at hl 0 rfl) ?_
              refine lv_aload_n kx kb dJ0_and_40 rfl (lv_at hl 1 rfl) ?_
              refine va_get (D := D.1) (ci := 3) (v := .int (iI z)) (C := RJ0) (T := TJ0) (N := 3) kx kb hts in_J0 hown hK hP 0 rfl rfl 1 (by decide) (hts _ q123) (fun _ h9 => h9) rfl dJ0_and_41 ?_
              refine ti_icmp_ge (tgt := 68) kx kb (by omega) dJ0_and_44 (by decide) (fun h44 => ?_) (fun h44 => ?_)
              · have hk2b : k2 = wd (andB P Q_) := by rw [hk2, show i = u from by omega, hk1]; exact flw_same (fun k_ hk_ => by rw [show flw (wd P) (fun _ => 0) u k_ = 0 from if_neg (by omega)]; exact (andB_z (by by_cases e_ : un P ≤ k_; (exact Or.inl (un_z hB e_)); exact Or.inr (un_z hB2 (by omega)))).symm)
                have hP : va_P D.1 clAll [(b, .inr (3, [.ref w, .int (iI ((u : Nat) : Int)), .int (zI false)])), (w, .inl (D.2 2, n, .inr (.inl (wd (andB P Q_))))), (c, .inr (3, [.ref v, .int (iI ((un Q_ : Nat) : Int)), .int (zI false)])), (v, .inl (D.2 2, n2, .inr (.inl (wd Q_))))] H := by rw [← hk2b, ← hz.1]; exact hP
                have hD : va_D A [(b, .inr (3, [.ref w, .int (iI ((u : Nat) : Int)), .int (zI false)])), (w, .inl (D.2 2, n, .inr (.inl (wd (andB P Q_))))), (c, .inr (3, [.ref v, .int (iI ((un Q_ : Nat) : Int)), .int (zI false)])), (v, .inl (D.2 2, n2, .inr (.inl (wd Q_))))] := by rw [← hk2b, ← hz.1]; exact hD
                refine lv_aload_n kx kb dJ0_and_68 rfl (lv_at hl 1 rfl) ?_
                refine t_callV (wr := [(c, .inr (3, [.ref v, .int (iI ((un Q_ : Nat) : Int)), .int (zI false)])), (v, .inl (D.2 2, n2, .inr (.inl (wd Q_))))]) C (met_J0_recalculateWordsInUse l D E b w n (andB P Q_) u (BB_and hB) (by omega) (fun k_ hk_ => andB_z (by by_cases e_ : un P ≤ k_; (exact Or.inl (un_z hB e_)); exact Or.inr (un_z hB2 (by omega))))) (cwV 0 hts (lw_V q521 q523 qs4 q61 q524) rfl rfl rfl (by decide +kernel) ⟨Nat.le_of_ble_eq_true rfl, Nat.le_of_ble_eq_true rfl⟩) (va_recv hK hP (ci := 3) (q0 := 0) rfl rfl) hK hX hP hD hS hA [0, 1] [2, 3] rfl rfl (by decide) (by decide) (by decide) tYb_0 (fun _ _ _ => trivial) rfl hl.1 rfl (Nat.le_of_ble_eq_true rfl) dJ0_and_69 ⟨(show 0 ≤ 0 from by omega), (show 0 ≤ 0 from by omega)⟩ (fun u_ H locs hp hP hD hS => ?_)
                have hP : va_P D.1 clAll [(c, .inr (3, [.ref v, .int (iI ((un Q_ : Nat) : Int)), .int (zI false)])), (v, .inl (D.2 2, n2, .inr (.inl (wd Q_)))), (b, .inr (3, [.ref w, .int (iI ((un (andB P Q_) : Nat) : Int)), .int (zI false)])), (w, .inl (D.2 2, n, .inr (.inl (wd (andB P Q_)))))] H := hP
                have hD : va_D A [(c, .inr (3, [.ref v, .int (iI ((un Q_ : Nat) : Int)), .int (zI false)])), (v, .inl (D.2 2, n2, .inr (.inl (wd Q_)))), (b, .inr (3, [.ref w, .int (iI ((un (andB P Q_) : Nat) : Int)), .int (zI false)])), (w, .inl (D.2 2, n, .inr (.inl (wd (andB P Q_)))))] := hD
                refine W.eq (g2 := F0 m0 72 ls []) rfl ?_
                refine lv_aload_n kx kb dJ0_and_72 rfl (lv_at hl 1 rfl) ?_
                refine t_callRV C (met_J0_checkInvariants l D E b) (cwV 0 hts (lw_V q525 q527 qs5 q61 q528) rfl rfl rfl (by decide +kernel) ⟨Nat.le_of_ble_eq_true rfl, Nat.le_of_ble_eq_true rfl⟩) (va_recv hK hP (ci := 3) (q0 := 2) rfl rfl) hK hX hP hD hS hA [] rfl (by decide) tYb_0 (fun _ _ _ => trivial) rfl hl.1 rfl (Nat.le_of_ble_eq_true rfl) dJ0_and_73 ⟨(show 0 ≤ 0 from by omega), (show 0 ≤ 0 from by omega)⟩ ?_
                refine W.eq (g2 := F0 m0 76 ls []) rfl ?_
                subst hQ
                exact tm_vret C () trivial (hP.sub [2, 3, 0, 1] rfl) (hD.sub [2, 3, 0, 1] (by decide) rfl) hS (show 0 ≤ 0 from by omega) (show 0 ≤ 0 from by omega) rfl rfl dJ0_and_76
              · refine lv_aload_n kx kb dJ0_and_47 rfl (lv_at hl 1 rfl) ?_
                refine va_get (D := D.1) (ci := 3) (v := .ref w) (C := RJ0) (T := TJ0) (N := 3) kx kb hts in_J0 hown hK hP 0 rfl rfl 0 (by decide) (hts _ q122) (fun _ h9 => h9) rfl dJ0_and_48 ?_
                refine lv_iload_n kx kb dJ0_and_51 rfl (lv_at hl 0 rfl) ?_
                refine lv_dup2_11 kx kb dJ0_and_52 rfl rfl ?_
                refine ta_lald C hK hP 1 rfl i (by omega) dJ0_and_53 ?_
                refine lv_aload_n kx kb dJ0_and_54 rfl (lv_at hl 2 rfl) ?_
                refine va_get (D := D.1) (ci := 3) (v := .ref v) (C := RJ0) (T := TJ0) (N := 3) kx kb hts in_J0 hown hK hP 2 rfl rfl 0 (by decide) (hts _ q122) (fun _ h9 => h9) rfl dJ0_and_55 ?_
                refine lv_iload_n kx kb dJ0_and_58 rfl (lv_at hl 0 rfl) ?_
                refine ta_lald C hK hP 3 rfl i (by omega) dJ0_and_59 ?_
                refine lv_land kx kb dJ0_and_60 ?_
                refine ta_last C hK hP hD hS 1 rfl i (by omega) dJ0_and_61 (fun H locs hP hD hS => ?_)
                have hP : va_P D.1 clAll [(b, .inr (3, [.ref w, .int (iI z), .int (zI false)])), (w, .inl (D.2 2, n, .inr (.inl (va_up k2 i ((k2 i) &&& ((wd Q_) i)))))), (c, .inr (3, [.ref v, .int (iI ((un Q_ : Nat) : Int)), .int (zI false)])), (v, .inl (D.2 2, n2, .inr (.inl (wd Q_))))] H := hP
                have hD : va_D A [(b, .inr (3, [.ref w, .int (iI z), .int (zI false)])), (w, .inl (D.2 2, n, .inr (.inl (va_up k2 i ((k2 i) &&& ((wd Q_) i)))))), (c, .inr (3, [.ref v, .int (iI ((un Q_ : Nat) : Int)), .int (zI false)])), (v, .inl (D.2 2, n2, .inr (.inl (wd Q_))))] := hD
                refine ti_iinc (a := (i : Int)) (lv' := [(2, .int (iI ((i : Int) + 1))), (0, .ref b), (1, .ref c)]) kx kb dJ0_and_62 hl (k := 0) rfl (by decide) rfl (fun ls hl => ?_)
                refine lv_goto (tgt := 39) kx kb dJ0_and_65 (by decide) ?_
                exact ih39 (i + 1) (va_up k2 i ((k2 i) &&& ((wd Q_) i))) (by omega) (by rw [hk2, flw_at, show k1 i = wd P i from by rw [hk1]; exact if_pos (by omega), wd_and]; exact flw_up rfl) (by omega) H locs hP hD hS ls hl
          exact cut39 ((u - 0) + 1) 0 k1 (by omega) (by rw [flw_0]) (Nat.lt_succ_self _) H locs hP hD hS ls hl
        · refine lv_aload_n kx kb dJ0_and_17 rfl (lv_at hl 0 rfl) ?_
          refine va_get (D := D.1) (ci := 3) (v := .ref w) (C := RJ0) (T := TJ0) (N := 3) kx kb hts in_J0 hown hK hP 0 rfl rfl 0 (by decide) (hts _ q122) (fun _ h9 => h9) rfl dJ0_and_18 ?_
          refine lv_aload_n kx kb dJ0_and_21 rfl (lv_at hl 0 rfl) ?_
          refine lv_dup kx kb dJ0_and_22 rfl ?_
          refine va_get (D := D.1) (ci := 3) (v := .int (iI z)) (C := RJ0) (T := TJ0) (N := 3) kx kb hts in_J0 hown hK hP 0 rfl rfl 1 (by decide) (hts _ q123) (fun _ h9 => h9) rfl dJ0_and_23 ?_
          refine lv_iconst (v := iI 1) kx kb dJ0_and_26 rfl ?_
          refine ti_isub kx kb dJ0_and_27 ?_
          refine lv_dup_x1 kx kb dJ0_and_28 rfl rfl ?_
          refine va_put (D := D.1) (ci := 3) (v := .int (iI (z - 1))) (ty := .int) (C := RJ0) (T := TJ0) (N := 3) kx kb hts in_J0 tyJ0 tyJ0_ok nmJ0 hown hK hP hD hS 0 rfl rfl 1 (by decide) (hts _ q123) (fun _ h9 => h9) rfl (by decide +kernel) rfl rfl (Nat.le_of_ble_eq_true rfl) dJ0_and_29 (fun H locs hP hD hS => ?_)
          have hP : va_P D.1 clAll [(b, .inr (3, [.ref w, .int (iI (z - 1)), .int (zI false)])), (w, .inl (D.2 2, n, .inr (.inl k1))), (c, .inr (3, [.ref v, .int (iI ((un Q_ : Nat) : Int)), .int (zI false)])), (v, .inl (D.2 2, n2, .inr (.inl (wd Q_))))] H := hP
          have hD : va_D A [(b, .inr (3, [.ref w, .int (iI (z - 1)), .int (zI false)])), (w, .inl (D.2 2, n, .inr (.inl k1))), (c, .inr (3, [.ref v, .int (iI ((un Q_ : Nat) : Int)), .int (zI false)])), (v, .inl (D.2 2, n2, .inr (.inl (wd Q_))))] := hD
          refine lv_lconst (v := 0) kx kb dJ0_and_32 rfl ?_
          refine ta_last C hK hP hD hS 1 rfl (u - 1) (by omega) dJ0_and_33 (fun H locs hP hD hS => ?_)
          have hP : va_P D.1 clAll [(b, .inr (3, [.ref w, .int (iI (z - 1)), .int (zI false)])), (w, .inl (D.2 2, n, .inr (.inl (va_up k1 (u - 1) (0 : Int64))))), (c, .inr (3, [.ref v, .int (iI ((un Q_ : Nat) : Int)), .int (zI false)])), (v, .inl (D.2 2, n2, .inr (.inl (wd Q_))))] H := hP
          have hD : va_D A [(b, .inr (3, [.ref w, .int (iI (z - 1)), .int (zI false)])), (w, .inl (D.2 2, n, .inr (.inl (va_up k1 (u - 1) (0 : Int64))))), (c, .inr (3, [.ref v, .int (iI ((un Q_ : Nat) : Int)), .int (zI false)])), (v, .inl (D.2 2, n2, .inr (.inl (wd Q_))))] := hD
          refine lv_goto (tgt := 6) kx kb dJ0_and_34 (by decide) ?_
          exact ih6 (z - 1) (u - 1) (va_up k1 (u - 1) (0 : Int64)) (by omega) (by rw [hk1]; exact flw_dn (wd P) (fun _ => (0 : Int64)) (by omega)) (by omega) H locs hP hD hS ls hl
    exact cut6 ((un P) + 1) ((un P : Nat) : Int) (un P) (wd P) (by omega) (by funext k_; unfold flw; split; rfl; exact un_z hB (by omega)) (Nat.lt_succ_self _) s0.heap [] hP hD hS ls hl
  · exact absurd (hD.1 0 2 _ _ rfl rfl (Option.some.inj h2)) (by decide)
