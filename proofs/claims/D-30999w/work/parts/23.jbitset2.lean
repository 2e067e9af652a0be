set_option maxRecDepth 100000
set_option maxHeartbeats 4000000 in
set_option maxRecDepth 100000 in
theorem met_J0_expandTo (l : Launch) (D : TG) (E : TE) (b : Nat) (w : Nat) (n : Nat) (P : Nat → Bool) (u : Nat) (k : Nat) (hB : BB P n) (hk : k < 16) (hu : u ≤ n) : tMet l yJ0_expandTo cJ0_expandTo 3 none 3 84 (gC n (k + 1)) (gS n (k + 1)) [.ref b, .int (iI ((k : Nat) : Int))] D E [(b, .inr (3, [.ref w, .int (iI ((u : Nat) : Int)), .int (zI false)])), (w, .inl (D.2 2, n, .inr (.inl (wd P))))] tY0 (S := Nat) (fun u_ => True) (fun u_ => none) (fun u_ => [(b, .inr (3, [.ref u_, .int (iI ((max u (k + 1) : Nat) : Int)), .int (zI false)])), (u_, .inl (D.2 2, gN n (k + 1), .inr (.inl (wd P))))]) := by
  refine tu_met (by decide +kernel) (Nat.le_of_ble_eq_true rfl) ?_
  intro p0 e0 s0 m0 below meth c0 A ls args Q hag hQ C hK hX hY hP hD hA hAe hl
  obtain ⟨kx, kb, hml, hown, hts, -⟩ := id C
  have hS : va_S A s0.heap s0.heap [] := va_S.rf
  have hl : lv_has ls 3 [(0, .ref b), (1, .int (iI ((k : Nat) : Int)))] := hl
  have hBn := hB.1
  have hBm := hB.2.1
  have hul := un_le hB
  refine lv_iload_n kx kb dJ0_expandTo_0 rfl (lv_at hl 1 rfl) ?_
  refine lv_iconst (v := iI 1) kx kb dJ0_expandTo_1 rfl ?_
  refine ti_iadd kx kb dJ0_expandTo_2 ?_
  refine lv_istore_n (lv' := [(2, .int (iI (((k : Nat) : Int) + 1))), (0, .ref b), (1, .int (iI ((k : Nat) : Int)))]) kx kb dJ0_expandTo_3 rfl hl (by decide) rfl (fun ls hl => ?_)
  refine lv_aload_n kx kb dJ0_expandTo_4 rfl (lv_at hl 1 rfl) ?_
  refine va_get (D := D.1) (ci := 3) (v := .int (iI ((u : Nat) : Int))) (C := RJ0) (T := TJ0) (N := 3) kx kb hts in_J0 hown hK hP 0 rfl rfl 1 (by decide) (hts _ q123) (fun _ h9 => h9) rfl dJ0_expandTo_5 ?_
  refine lv_iload_n kx kb dJ0_expandTo_8 rfl (lv_at hl 0 rfl) ?_
  refine ti_icmp_ge (tgt := 22) kx kb (by omega) dJ0_expandTo_9 (by decide) (fun h9 => ?_) (fun h9 => ?_)
  · have hP : va_P D.1 clAll [(b, .inr (3, [.ref w, .int (iI ((max u (k + 1) : Nat) : Int)), .int (zI false)])), (w, .inl (D.2 2, gN n (k + 1), .inr (.inl (wd P))))] s0.heap := by rw [show max u (k + 1) = u from by omega, show gN n (k + 1) = n from if_pos (by omega)]; exact hP
    have hD : va_D A [(b, .inr (3, [.ref w, .int (iI ((max u (k + 1) : Nat) : Int)), .int (zI false)])), (w, .inl (D.2 2, gN n (k + 1), .inr (.inl (wd P))))] := by rw [show max u (k + 1) = u from by omega, show gN n (k + 1) = n from if_pos (by omega)]; exact hD
    subst hQ
    exact tm_vret C w trivial hP hD hS (show 0 ≤ gC n (k + 1) from by omega) (show 0 ≤ gS n (k + 1) from by omega) rfl rfl dJ0_expandTo_22
  · refine lv_aload_n kx kb dJ0_expandTo_12 rfl (lv_at hl 1 rfl) ?_
    refine lv_iload_n kx kb dJ0_expandTo_13 rfl (lv_at hl 0 rfl) ?_
    refine W.eq (g2 := F0 m0 14 ls [.int (iI ((k + 1 : Nat) : Int)), .ref b]) (by rfl) ?_
    refine t_callV (wr := []) C (met_J0_ensureCapacity l D E b w n P u (k + 1) (by first | assumption | omega) (by first | assumption | omega)) (cwV 1 hts (lw_V q507 q509 qs3 q61 q510) rfl rfl rfl (by decide +kernel) ⟨Nat.le_of_ble_eq_true rfl, Nat.le_of_ble_eq_true rfl⟩) (va_recv hK hP (ci := 3) (q0 := 0) rfl rfl) hK hX hP hD hS hA [0, 1] [] rfl rfl (by decide) (by decide) (by decide) tYb_0 (fun _ _ _ => trivial) rfl hl.1 rfl (Nat.le_of_ble_eq_true rfl) dJ0_expandTo_14 ⟨(show 0 + (gC n (k + 1)) ≤ gC n (k + 1) from by omega), (show 0 + (gS n (k + 1)) ≤ gS n (k + 1) from by omega)⟩ (fun u_ H locs hp hP hD hS => ?_)
    obtain ⟨w2_1, rfl⟩ : ∃ z, z = u_ := ⟨_, rfl⟩
    have hP : va_P D.1 clAll [(b, .inr (3, [.ref w2_1, .int (iI ((u : Nat) : Int)), .int (zI false)])), (w2_1, .inl (D.2 2, gN n (k + 1), .inr (.inl (wd P))))] H := hP
    have hD : va_D A [(b, .inr (3, [.ref w2_1, .int (iI ((u : Nat) : Int)), .int (zI false)])), (w2_1, .inl (D.2 2, gN n (k + 1), .inr (.inl (wd P))))] := hD
    refine W.eq (g2 := F0 m0 17 ls []) rfl ?_
    refine W.widen (k := 0 + (gC n (k + 1))) (n := 0 + (gS n (k + 1))) (Nat.le_refl _) (Nat.le_refl _) ?_
    refine lv_aload_n kx kb dJ0_expandTo_17 rfl (lv_at hl 1 rfl) ?_
    refine lv_iload_n kx kb dJ0_expandTo_18 rfl (lv_at hl 0 rfl) ?_
    refine va_put (D := D.1) (ci := 3) (v := .int (iI (((k : Nat) : Int) + 1))) (ty := .int) (C := RJ0) (T := TJ0) (N := 3) kx kb hts in_J0 tyJ0 tyJ0_ok nmJ0 hown hK hP hD hS 0 rfl rfl 1 (by decide) (hts _ q123) (fun _ h9 => h9) rfl (by decide +kernel) rfl rfl (Nat.le_of_ble_eq_true rfl) dJ0_expandTo_19 (fun H locs hP hD hS => ?_)
    have hP : va_P D.1 clAll [(b, .inr (3, [.ref w2_1, .int (iI (((k : Nat) : Int) + 1)), .int (zI false)])), (w2_1, .inl (D.2 2, gN n (k + 1), .inr (.inl (wd P))))] H := hP
    have hD : va_D A [(b, .inr (3, [.ref w2_1, .int (iI (((k : Nat) : Int) + 1)), .int (zI false)])), (w2_1, .inl (D.2 2, gN n (k + 1), .inr (.inl (wd P))))] := hD
    have hP : va_P D.1 clAll [(b, .inr (3, [.ref w2_1, .int (iI ((max u (k + 1) : Nat) : Int)), .int (zI false)])), (w2_1, .inl (D.2 2, gN n (k + 1), .inr (.inl (wd P))))] H := by rw [show ((max u (k + 1) : Nat) : Int) = (k : Int) + 1 from by omega]; exact hP
    have hD : va_D A [(b, .inr (3, [.ref w2_1, .int (iI ((max u (k + 1) : Nat) : Int)), .int (zI false)])), (w2_1, .inl (D.2 2, gN n (k + 1), .inr (.inl (wd P))))] := by rw [show ((max u (k + 1) : Nat) : Int) = (k : Int) + 1 from by omega]; exact hD
    subst hQ
    exact tm_vret C w2_1 trivial hP hD hS (show 0 + (gC n (k + 1)) ≤ gC n (k + 1) from by omega) (show 0 + (gS n (k + 1)) ≤ gS n (k + 1) from by omega) rfl rfl dJ0_expandTo_22
set_option maxHeartbeats 4000000 in
set_option maxRecDepth 100000 in
theorem met_J0_recalculateWordsInUse (l : Launch) (D : TG) (E : TE) (b : Nat) (w : Nat) (n : Nat) (P : Nat → Bool) (u : Nat) (hB : BB P n) (hu : u ≤ n) (hz : ∀ k_, u ≤ k_ → wd P k_ = 0) : tMet l yJ0_recalculateWordsInUse cJ0_recalculateWordsInUse 2 none 0 0 (0) (0) [.ref b] D E [(b, .inr (3, [.ref w, .int (iI ((u : Nat) : Int)), .int (zI false)])), (w, .inl (D.2 2, n, .inr (.inl (wd P))))] tY0 (S := Unit) (fun u_ => True) (fun u_ => none) (fun u_ => [(b, .inr (3, [.ref w, .int (iI ((un P : Nat) : Int)), .int (zI false)])), (w, .inl (D.2 2, n, .inr (.inl (wd P))))]) := by
  refine tu_met (by decide +kernel) (Nat.le_of_ble_eq_true rfl) ?_
  intro p0 e0 s0 m0 below meth c0 A ls args Q hag hQ C hK hX hY hP hD hA hAe hl
  obtain ⟨kx, kb, hml, hown, hts, -⟩ := id C
  have hS : va_S A s0.heap s0.heap [] := va_S.rf
  have hl : lv_has ls 2 [(0, .ref b)] := hl
  have hBn := hB.1
  have hBm := hB.2.1
  have hul := un_le hB
  refine lv_aload_n kx kb dJ0_recalculateWordsInUse_0 rfl (lv_at hl 0 rfl) ?_
  refine va_get (D := D.1) (ci := 3) (v := .int (iI ((u : Nat) : Int))) (C := RJ0) (T := TJ0) (N := 3) kx kb hts in_J0 hown hK hP 0 rfl rfl 1 (by decide) (hts _ q123) (fun _ h9 => h9) rfl dJ0_recalculateWordsInUse_1 ?_
  refine lv_iconst (v := iI 1) kx kb dJ0_recalculateWordsInUse_4 rfl ?_
  refine ti_isub kx kb dJ0_recalculateWordsInUse_5 ?_
  refine lv_istore_n (lv' := [(1, .int (iI (((u : Nat) : Int) - 1))), (0, .ref b)]) kx kb dJ0_recalculateWordsInUse_6 rfl hl (by decide) rfl (fun ls hl => ?_)
  have cut7 : ∀ (fuel : Nat) (i : Int) (q : Nat), (i = (q : Int) - 1 ∧ q ≤ u) → (∀ k_, q ≤ k_ → wd P k_ = 0) → q < fuel → ∀ ls : Array Slot, lv_has ls 2 [(1, .int (iI i)), (0, .ref b)] → W p0 l e0 ({ frames := 0, cells := 0, slots := 0, locals := 0 } : Room) s0 m0 args below meth c0 s0.heap [] (0) (0) Q (F0 m0 7 ls []) := by
    intro fuel
    induction fuel with
    | zero =>
      intro i q hq hqz hfuel7
      exact absurd hfuel7 (Nat.not_lt_zero _)
    | succ fuel ih7 =>
      intro i q hq hqz hfuel7  ls hl
      refine lv_iload_n kx kb dJ0_recalculateWordsInUse_7 rfl (lv_at hl 0 rfl) ?_
      refine ti_if_lt (tgt := 31) kx kb (by omega) dJ0_recalculateWordsInUse_8 (by decide) (fun h8 => ?_) (fun h8 => ?_)
      · refine lv_aload_n kx kb dJ0_recalculateWordsInUse_31 rfl (lv_at hl 1 rfl) ?_
        refine lv_iload_n kx kb dJ0_recalculateWordsInUse_32 rfl (lv_at hl 0 rfl) ?_
        refine lv_iconst (v := iI 1) kx kb dJ0_recalculateWordsInUse_33 rfl ?_
        refine ti_iadd kx kb dJ0_recalculateWordsInUse_34 ?_
        refine va_put (D := D.1) (ci := 3) (v := .int (iI (i + 1))) (ty := .int) (C := RJ0) (T := TJ0) (N := 3) kx kb hts in_J0 tyJ0 tyJ0_ok nmJ0 hown hK hP hD hS 0 rfl rfl 1 (by decide) (hts _ q123) (fun _ h9 => h9) rfl (by decide +kernel) rfl rfl (Nat.le_of_ble_eq_true rfl) dJ0_recalculateWordsInUse_35 (fun H locs hP hD hS => ?_)
        have hP : va_P D.1 clAll [(b, .inr (3, [.ref w, .int (iI (i + 1)), .int (zI false)])), (w, .inl (D.2 2, n, .inr (.inl (wd P))))] H := hP
        have hD : va_D A [(b, .inr (3, [.ref w, .int (iI (i + 1)), .int (zI false)])), (w, .inl (D.2 2, n, .inr (.inl (wd P))))] := hD
        have hP : va_P D.1 clAll [(b, .inr (3, [.ref w, .int (iI ((un P : Nat) : Int)), .int (zI false)])), (w, .inl (D.2 2, n, .inr (.inl (wd P))))] H := by rw [show un P = q from un_of hB (by omega) hqz (Or.inl (by omega)), show ((q : Nat) : Int) = i + 1 from by omega]; exact hP
        have hD : va_D A [(b, .inr (3, [.ref w, .int (iI ((un P : Nat) : Int)), .int (zI false)])), (w, .inl (D.2 2, n, .inr (.inl (wd P))))] := by rw [show un P = q from un_of hB (by omega) hqz (Or.inl (by omega)), show ((q : Nat) : Int) = i + 1 from by omega]; exact hD
        subst hQ
        exact tm_vret C () trivial hP hD hS (show 0 ≤ 0 from by omega) (show 0 ≤ 0 from by omega) rfl rfl dJ0_recalculateWordsInUse_38
      · refine lv_aload_n kx kb dJ0_recalculateWordsInUse_11 rfl (lv_at hl 1 rfl) ?_
        refine va_get (D := D.1) (ci := 3) (v := .ref w) (C := RJ0) (T := TJ0) (N := 3) kx kb hts in_J0 hown hK hP 0 rfl rfl 0 (by decide) (hts _ q122) (fun _ h9 => h9) rfl dJ0_recalculateWordsInUse_12 ?_
        refine lv_iload_n kx kb dJ0_recalculateWordsInUse_15 rfl (lv_at hl 0 rfl) ?_
        refine ta_lald C hK hP 1 rfl (q - 1) (by omega) dJ0_recalculateWordsInUse_16 ?_
        refine lv_lconst (v := 0) kx kb dJ0_recalculateWordsInUse_17 rfl ?_
        refine W.lcmp kx kb dJ0_recalculateWordsInUse_18 ?_
        refine tl_if_eq (tgt := 25) kx kb dJ0_recalculateWordsInUse_19 (by decide) (fun h19 => ?_) (fun h19 => ?_)
        · refine ti_iinc (a := i) (lv' := [(1, .int (iI (i + (-1)))), (0, .ref b)]) kx kb dJ0_recalculateWordsInUse_25 hl (k := 0) rfl (by decide) rfl (fun ls hl => ?_)
          refine lv_goto (tgt := 7) kx kb dJ0_recalculateWordsInUse_28 (by decide) ?_
          exact ih7 (i + (-1)) (q - 1) (by omega) (fun k_ hk_ => by by_cases e_ : k_ = q - 1; (rw [e_]; exact h19); exact hqz k_ (by omega)) (by omega) ls hl
        · refine lv_goto (tgt := 31) kx kb dJ0_recalculateWordsInUse_22 (by decide) ?_
          refine lv_aload_n kx kb dJ0_recalculateWordsInUse_31 rfl (lv_at hl 1 rfl) ?_
          refine lv_iload_n kx kb dJ0_recalculateWordsInUse_32 rfl (lv_at hl 0 rfl) ?_
          refine lv_iconst (v := iI 1) kx kb dJ0_recalculateWordsInUse_33 rfl ?_
          refine ti_iadd kx kb dJ0_recalculateWordsInUse_34 ?_
          refine va_put (D := D.1) (ci := 3) (v := .int (iI (i + 1))) (ty := .int) (C := RJ0) (T := TJ0) (N := 3) kx kb hts in_J0 tyJ0 tyJ0_ok nmJ0 hown hK hP hD hS 0 rfl rfl 1 (by decide) (hts _ q123) (fun _ h9 => h9) rfl (by decide +kernel) rfl rfl (Nat.le_of_ble_eq_true rfl) dJ0_recalculateWordsInUse_35 (fun H locs hP hD hS => ?_)
          have hP : va_P D.1 clAll [(b, .inr (3, [.ref w, .int (iI (i + 1)), .int (zI false)])), (w, .inl (D.2 2, n, .inr (.inl (wd P))))] H := hP
          have hD : va_D A [(b, .inr (3, [.ref w, .int (iI (i + 1)), .int (zI false)])), (w, .inl (D.2 2, n, .inr (.inl (wd P))))] := hD
          have hP : va_P D.1 clAll [(b, .inr (3, [.ref w, .int (iI ((un P : Nat) : Int)), .int (zI false)])), (w, .inl (D.2 2, n, .inr (.inl (wd P))))] H := by rw [show un P = q from un_of hB (by omega) hqz (Or.inr h19), show ((q : Nat) : Int) = i + 1 from by omega]; exact hP
          have hD : va_D A [(b, .inr (3, [.ref w, .int (iI ((un P : Nat) : Int)), .int (zI false)])), (w, .inl (D.2 2, n, .inr (.inl (wd P))))] := by rw [show un P = q from un_of hB (by omega) hqz (Or.inr h19), show ((q : Nat) : Int) = i + 1 from by omega]; exact hD
          subst hQ
          exact tm_vret C () trivial hP hD hS (show 0 ≤ 0 from by omega) (show 0 ≤ 0 from by omega) rfl rfl dJ0_recalculateWordsInUse_38
  exact cut7 (u + 1) (((u : Nat) : Int) - 1) u (by omega) (hz) (Nat.lt_succ_self _) ls hl
set_option maxHeartbeats 4000000 in
set_option maxRecDepth 100000 in
theorem met_J0_initWords (l : Launch) (D : TG) (E : TE) (b : Nat) : tMet l yJ0_initWords cJ0_initWords 2 none 1 20 (1) (1) [.ref b, .int (iI 64)] D E [(b, .inr (3, [.null, .int (iI 0), .int (zI false)]))] tY0 (S := Nat) (fun u_ => True) (fun u_ => none) (fun u_ => [(b, .inr (3, [.ref u_, .int (iI ((un (fun _ => false) : Nat) : Int)), .int (zI false)])), (u_, .inl (D.2 2, 1, .inr (.inl (wd (fun _ => false)))))]) := by
  refine tu_met (by decide +kernel) (Nat.le_of_ble_eq_true rfl) ?_
  intro p0 e0 s0 m0 below meth c0 A ls args Q hag hQ C hK hX hY hP hD hA hAe hl
  obtain ⟨kx, kb, hml, hown, hts, -⟩ := id C
  have hS : va_S A s0.heap s0.heap [] := va_S.rf
  have hl : lv_has ls 2 [(0, .ref b), (1, .int (iI 64))] := hl
  refine lv_aload_n kx kb dJ0_initWords_0 rfl (lv_at hl 0 rfl) ?_
  refine lv_iload_n kx kb dJ0_initWords_1 rfl (lv_at hl 1 rfl) ?_
  refine lv_iconst (v := iI 1) kx kb dJ0_initWords_2 rfl ?_
  refine ti_isub kx kb dJ0_initWords_3 ?_
  refine W.eq (g2 := F0 m0 4 ls [.int (iI ((63 : Nat) : Int)), .ref b]) (by rfl) ?_
  refine t_callRS C (met_J0_wordIndex l D E 63 (by first | assumption | omega)) (va_cwS 1 hts (lw_S q119 q120 q61 q121) rfl rfl rfl (by decide +kernel) ⟨Nat.le_of_ble_eq_true rfl, Nat.le_of_ble_eq_true rfl⟩) hK hX hP hD hS hA [] rfl (by decide) tYb_0 (fun _ _ _ => trivial) rfl hl.1 rfl (Nat.le_of_ble_eq_true rfl) dJ0_initWords_4 ⟨(show 0 ≤ 1 from by omega), (show 0 ≤ 1 from by omega)⟩ ?_
  refine W.eq (g2 := F0 m0 7 ls [.int (iI ((63 / 64 : Nat) : Int)), .ref b]) rfl ?_
  refine lv_iconst (v := iI 1) kx kb dJ0_initWords_7 rfl ?_
  refine ti_iadd kx kb dJ0_initWords_8 ?_
  refine ta_newJ C (hts _ q132) hK hP hD hS hA 1 (by decide) ⟨(show 1 ≤ 1 from by omega), (show 1 ≤ 1 from by omega)⟩ dJ0_initWords_9 (fun q_1 H hP hD hS => ?_)
  have hP : va_P D.1 clAll [(b, .inr (3, [.null, .int (iI 0), .int (zI false)])), (q_1, .inl (D.2 2, 1, .inr (.inl (fun _ => 0))))] H := hP
  have hD : va_D A [(b, .inr (3, [.null, .int (iI 0), .int (zI false)])), (q_1, .inl (D.2 2, 1, .inr (.inl (fun _ => 0))))] := hD
  refine va_put (D := D.1) (ci := 3) (v := .ref q_1) (ty := (.array .long)) (C := RJ0) (T := TJ0) (N := 3) kx kb hts in_J0 tyJ0 tyJ0_ok nmJ0 hown hK hP hD hS 0 rfl rfl 0 (by decide) (hts _ q122) (fun _ h9 => h9) rfl (by decide +kernel) rfl rfl (Nat.le_of_ble_eq_true rfl) dJ0_initWords_11 (fun H locs hP hD hS => ?_)
  have hP : va_P D.1 clAll [(b, .inr (3, [.ref q_1, .int (iI 0), .int (zI false)])), (q_1, .inl (D.2 2, 1, .inr (.inl (fun _ => 0))))] H := hP
  have hD : va_D A [(b, .inr (3, [.ref q_1, .int (iI 0), .int (zI false)])), (q_1, .inl (D.2 2, 1, .inr (.inl (fun _ => 0))))] := hD
  have hP : va_P D.1 clAll [(b, .inr (3, [.ref q_1, .int (iI ((un (fun _ => false) : Nat) : Int)), .int (zI false)])), (q_1, .inl (D.2 2, 1, .inr (.inl (wd (fun _ => false)))))] H := by rw [un_none, wd_none]; exact hP
  have hD : va_D A [(b, .inr (3, [.ref q_1, .int (iI ((un (fun _ => false) : Nat) : Int)), .int (zI false)])), (q_1, .inl (D.2 2, 1, .inr (.inl (wd (fun _ => false)))))] := by rw [un_none, wd_none]; exact hD
  subst hQ
  exact tm_vret C q_1 trivial hP hD hS (show 1 ≤ 1 from by omega) (show 1 ≤ 1 from by omega) rfl rfl dJ0_initWords_14
set_option maxHeartbeats 4000000 in
set_option maxRecDepth 100000 in
theorem met_J0_init (l : Launch) (D : TG) (E : TE) (b : Nat) : tMet l yJ0_init cJ0_init 1 none 2 41 (1) (1) [.ref b] D E [(b, .inr (3, [.null, .int (iI 0), .int (zI false)]))] tY0 (S := Nat) (fun u_ => True) (fun u_ => none) (fun u_ => [(b, .inr (3, [.ref u_, .int (iI ((un (fun _ => false) : Nat) : Int)), .int (zI false)])), (u_, .inl (D.2 2, 1, .inr (.inl (wd (fun _ => false)))))]) := by
  refine tu_met (by decide +kernel) (Nat.le_of_ble_eq_true rfl) ?_
  intro p0 e0 s0 m0 below meth c0 A ls args Q hag hQ C hK hX hY hP hD hA hAe hl
  obtain ⟨kx, kb, hml, hown, hts, -⟩ := id C
  have hS : va_S A s0.heap s0.heap [] := va_S.rf
  have hl : lv_has ls 1 [(0, .ref b)] := hl
  refine lv_aload_n kx kb dJ0_init_0 rfl (lv_at hl 0 rfl) ?_
  refine W.objInit kx kb hown (hts _ q114) (hts _ q102) (hts _ q103) rfl (by rw [hml]; exact hl.1) rfl dJ0_init_1 (Nat.le_of_ble_eq_true rfl) (Nat.le_of_ble_eq_true rfl) ?_
  refine W.eq (g2 := F0 m0 4 ls []) rfl ?_
  refine lv_aload_n kx kb dJ0_init_4 rfl (lv_at hl 0 rfl) ?_
  refine lv_iconst (v := iI 0) kx kb dJ0_init_5 rfl ?_
  refine va_put (D := D.1) (ci := 3) (v := .int (iI 0)) (ty := .int) (C := RJ0) (T := TJ0) (N := 3) kx kb hts in_J0 tyJ0 tyJ0_ok nmJ0 hown hK hP hD hS 0 rfl rfl 1 (by decide) (hts _ q123) (fun _ h9 => h9) rfl (by decide +kernel) rfl rfl (Nat.le_of_ble_eq_true rfl) dJ0_init_6 (fun H locs hP hD hS => ?_)
  have hP : va_P D.1 clAll [(b, .inr (3, [.null, .int (iI 0), .int (zI false)]))] H := hP
  have hD : va_D A [(b, .inr (3, [.null, .int (iI 0), .int (zI false)]))] := hD
  refine lv_aload_n kx kb dJ0_init_9 rfl (lv_at hl 0 rfl) ?_
  refine lv_iconst (v := iI 0) kx kb dJ0_init_10 rfl ?_
  refine W.eq (g2 := F0 m0 11 ls [.int (zI false), .ref b]) rfl ?_
  refine va_put (D := D.1) (ci := 3) (v := .int (zI false)) (ty := .boolean) (C := RJ0) (T := TJ0) (N := 3) kx kb hts in_J0 tyJ0 tyJ0_ok nmJ0 hown hK hP hD hS 0 rfl rfl 2 (by decide) (hts _ q124) (fun _ h9 => h9) rfl (by decide +kernel) (zI_nar _) (zI_fits _) (Nat.le_of_ble_eq_true rfl) dJ0_init_11 (fun H locs hP hD hS => ?_)
  have hP : va_P D.1 clAll [(b, .inr (3, [.null, .int (iI 0), .int (zI false)]))] H := hP
  have hD : va_D A [(b, .inr (3, [.null, .int (iI 0), .int (zI false)]))] := hD
  refine lv_aload_n kx kb dJ0_init_14 rfl (lv_at hl 0 rfl) ?_
  refine lv_bipush (v := iI 64) kx kb dJ0_init_15 rfl ?_
  refine t_callV (wr := []) C (met_J0_initWords l D E b) (cwV 1 hts (lw_V q115 q117 qs0 q61 q118) rfl rfl rfl (by decide +kernel) ⟨Nat.le_of_ble_eq_true rfl, Nat.le_of_ble_eq_true rfl⟩) (va_recv hK hP (ci := 3) (q0 := 0) rfl rfl) hK hX hP hD hS hA [0] [] rfl rfl (by decide) (by decide) (by decide) tYb_0 (fun _ _ _ => trivial) rfl hl.1 rfl (Nat.le_of_ble_eq_true rfl) dJ0_init_17 ⟨(show 1 ≤ 1 from by omega), (show 1 ≤ 1 from by omega)⟩ (fun u_ H locs hp hP hD hS => ?_)
  obtain ⟨w_1, rfl⟩ : ∃ z, z = u_ := ⟨_, rfl⟩
  have hP : va_P D.1 clAll [(b, .inr (3, [.ref w_1, .int (iI ((un (fun _ => false) : Nat) : Int)), .int (zI false)])), (w_1, .inl (D.2 2, 1, .inr (.inl (wd (fun _ => false)))))] H := hP
  have hD : va_D A [(b, .inr (3, [.ref w_1, .int (iI ((un (fun _ => false) : Nat) : Int)), .int (zI false)])), (w_1, .inl (D.2 2, 1, .inr (.inl (wd (fun _ => false)))))] := hD
  refine W.eq (g2 := F0 m0 20 ls []) rfl ?_
  refine W.widen (k := 1) (n := 1) (Nat.le_refl _) (Nat.le_refl _) ?_
  refine lv_aload_n kx kb dJ0_init_20 rfl (lv_at hl 0 rfl) ?_
  refine lv_iconst (v := iI 0) kx kb dJ0_init_21 rfl ?_
  refine W.eq (g2 := F0 m0 22 ls [.int (zI false), .ref b]) rfl ?_
  refine va_put (D := D.1) (ci := 3) (v := .int (zI false)) (ty := .boolean) (C := RJ0) (T := TJ0) (N := 3) kx kb hts in_J0 tyJ0 tyJ0_ok nmJ0 hown hK hP hD hS 0 rfl rfl 2 (by decide) (hts _ q124) (fun _ h9 => h9) rfl (by decide +kernel) (zI_nar _) (zI_fits _) (Nat.le_of_ble_eq_true rfl) dJ0_init_22 (fun H locs hP hD hS => ?_)
  have hP : va_P D.1 clAll [(b, .inr (3, [.ref w_1, .int (iI ((un (fun _ => false) : Nat) : Int)), .int (zI false)])), (w_1, .inl (D.2 2, 1, .inr (.inl (wd (fun _ => false)))))] H := hP
  have hD : va_D A [(b, .inr (3, [.ref w_1, .int (iI ((un (fun _ => false) : Nat) : Int)), .int (zI false)])), (w_1, .inl (D.2 2, 1, .inr (.inl (wd (fun _ => false)))))] := hD
  subst hQ
  exact tm_vret C w_1 trivial hP hD hS (show 1 ≤ 1 from by omega) (show 1 ≤ 1 from by omega) rfl rfl dJ0_init_25
set_option maxHeartbeats 4000000 in
set_option maxRecDepth 100000 in
theorem met_J0_get (l : Launch) (D : TG) (E : TE) (b : Nat) (w : Nat) (n : Nat) (P : Nat → Bool) (i : Nat) (hB : BB P n) (hi : i < 1024) : tRd l yJ0_get cJ0_get 3 (some .boolean) 1 20 [.ref b, .int (iI ((i : Nat) : Int))] D E [(b, .inr (3, [.ref w, .int (iI ((un P : Nat) : Int)), .int (zI false)])), (w, .inl (D.2 2, n, .inr (.inl (wd P))))] tY0 (some (.int (zI (P i)))) := by
  refine tu_rd (by decide +kernel) (Nat.le_of_ble_eq_true rfl) ?_
  intro p0 e0 s0 m0 below meth c0 A ls args Q hag hQ C hK hX hY hP hD hA hAe hl
  obtain ⟨kx, kb, hml, hown, hts, -⟩ := id C
  have hS : va_S A s0.heap s0.heap [] := va_S.rf
  have hl : lv_has ls 3 [(0, .ref b), (1, .int (iI ((i : Nat) : Int)))] := hl
  have hBn := hB.1
  have hBm := hB.2.1
  have hul := un_le hB
  refine lv_iload_n kx kb dJ0_get_0 rfl (lv_at hl 1 rfl) ?_
  refine ti_if_ge (tgt := 31) kx kb (by omega) dJ0_get_1 (by decide) (fun h1 => ?_) (fun h1 => ?_)
  · refine lv_aload_n kx kb dJ0_get_31 rfl (lv_at hl 0 rfl) ?_
    refine t_callRV C (met_J0_checkInvariants l D E b) (cwV 0 hts (lw_V q525 q527 qs5 q61 q528) rfl rfl rfl (by decide +kernel) ⟨Nat.le_of_ble_eq_true rfl, Nat.le_of_ble_eq_true rfl⟩) (va_recv hK hP (ci := 3) (q0 := 0) rfl rfl) hK hX hP hD hS hA [] rfl (by decide) tYb_0 (fun _ _ _ => trivial) rfl hl.1 rfl (Nat.le_of_ble_eq_true rfl) dJ0_get_32 ⟨(show 0 ≤ 0 from by omega), (show 0 ≤ 0 from by omega)⟩ ?_
    refine W.eq (g2 := F0 m0 35 ls []) rfl ?_
    refine lv_iload_n kx kb dJ0_get_35 rfl (lv_at hl 1 rfl) ?_
    refine t_callRS C (met_J0_wordIndex l D E i (by first | assumption | omega)) (va_cwS 1 hts (lw_S q119 q120 q61 q121) rfl rfl rfl (by decide +kernel) ⟨Nat.le_of_ble_eq_true rfl, Nat.le_of_ble_eq_true rfl⟩) hK hX hP hD hS hA [] rfl (by decide) tYb_0 (fun _ _ _ => trivial) rfl hl.1 rfl (Nat.le_of_ble_eq_true rfl) dJ0_get_36 ⟨(show 0 ≤ 0 from by omega), (show 0 ≤ 0 from by omega)⟩ ?_
    refine W.eq (g2 := F0 m0 39 ls [.int (iI ((i / 64 : Nat) : Int))]) rfl ?_
    refine lv_istore_n (lv' := [(2, .int (iI ((i / 64 : Nat) : Int))), (0, .ref b), (1, .int (iI ((i : Nat) : Int)))]) kx kb dJ0_get_39 rfl hl (by decide) rfl (fun ls hl => ?_)
    refine lv_iload_n kx kb dJ0_get_40 rfl (lv_at hl 0 rfl) ?_
    refine lv_aload_n kx kb dJ0_get_41 rfl (lv_at hl 1 rfl) ?_
    refine va_get (D := D.1) (ci := 3) (v := .int (iI ((un P : Nat) : Int))) (C := RJ0) (T := TJ0) (N := 3) kx kb hts in_J0 hown hK hP 0 rfl rfl 1 (by decide) (hts _ q123) (fun _ h9 => h9) rfl dJ0_get_42 ?_
    refine ti_icmp_ge (tgt := 67) kx kb (by omega) dJ0_get_45 (by decide) (fun h45 => ?_) (fun h45 => ?_)
    · refine lv_iconst (v := iI 0) kx kb dJ0_get_67 rfl ?_
      refine W.eq (g2 := F0 m0 68 ls [.int (zI false)]) rfl ?_
      subst hQ
      exact tr_zret C rfl (by rw [show P i = false from un_out hB (by omega)]) dJ0_get_68
    · refine lv_aload_n kx kb dJ0_get_48 rfl (lv_at hl 1 rfl) ?_
      refine va_get (D := D.1) (ci := 3) (v := .ref w) (C := RJ0) (T := TJ0) (N := 3) kx kb hts in_J0 hown hK hP 0 rfl rfl 0 (by decide) (hts _ q122) (fun _ h9 => h9) rfl dJ0_get_49 ?_
      refine lv_iload_n kx kb dJ0_get_52 rfl (lv_at hl 0 rfl) ?_
      refine ta_lald C hK hP 1 rfl (i / 64) (by omega) dJ0_get_53 ?_
      refine lv_lconst (v := 1) kx kb dJ0_get_54 rfl ?_
      refine lv_iload_n kx kb dJ0_get_55 rfl (lv_at hl 2 rfl) ?_
      refine lv_lshl kx kb dJ0_get_56 rfl ?_
      refine lv_land kx kb dJ0_get_57 ?_
      refine lv_lconst (v := 0) kx kb dJ0_get_58 rfl ?_
      refine W.lcmp kx kb dJ0_get_59 ?_
      refine tl_if_eq (tgt := 67) kx kb dJ0_get_60 (by decide) (fun h60 => ?_) (fun h60 => ?_)
      · refine lv_iconst (v := iI 0) kx kb dJ0_get_67 rfl ?_
        refine W.eq (g2 := F0 m0 68 ls [.int (zI false)]) rfl ?_
        subst hQ
        exact tr_zret C rfl (by rw [(wd_get P (show i < 2048 by omega)).mp h60]) dJ0_get_68
      · refine lv_iconst (v := iI 1) kx kb dJ0_get_63 rfl ?_
        refine lv_goto (tgt := 68) kx kb dJ0_get_64 (by decide) ?_
        refine W.eq (g2 := F0 m0 68 ls [.int (zI true)]) rfl ?_
        subst hQ
        exact tr_zret C rfl (by rw [show P i = true from by cases hp : P i; (exact absurd ((wd_get P (show i < 2048 by omega)).mpr hp) h60); rfl]) dJ0_get_68
  · omega
set_option maxHeartbeats 4000000 in
set_option maxRecDepth 100000 in
theorem met_J0_set_2 (l : Launch) (D : TG) (E : TE) (b : Nat) (w : Nat) (n : Nat) (P : Nat → Bool) (i : Nat) (hB : BB P n) (hi : i < 1024) : tMet l yJ0_set_2 cJ0_set_2 3 none 4 106 (gC n (i / 64 + 1)) (gS n (i / 64 + 1)) [.ref b, .int (iI ((i : Nat) : Int))] D E [(b, .inr (3, [.ref w, .int (iI ((un P : Nat) : Int)), .int (zI false)])), (w, .inl (D.2 2, n, .inr (.inl (wd P))))] tY0 (S := Nat) (fun u_ => True) (fun u_ => none) (fun u_ => [(b, .inr (3, [.ref u_, .int (iI ((un (ins P i) : Nat) : Int)), .int (zI false)])), (u_, .inl (D.2 2, gN n (i / 64 + 1), .inr (.inl (wd (ins P i)))))]) := by
  refine tu_met (by decide +kernel) (Nat.le_of_ble_eq_true rfl) ?_
  intro p0 e0 s0 m0 below meth c0 A ls args Q hag hQ C hK hX hY hP hD hA hAe hl
  obtain ⟨kx, kb, hml, hown, hts, -⟩ := id C
  have hS : va_S A s0.heap s0.heap [] := va_S.rf
  have hl : lv_has ls 3 [(0, .ref b), (1, .int (iI ((i : Nat) : Int)))] := hl
  have hBn := hB.1
  have hBm := hB.2.1
  have hul := un_le hB
  have hg := gN_le ⟨hB.1, hB.2.1⟩ (show i / 64 + 1 ≤ 16 by omega)
  refine lv_iload_n kx kb dJ0_set_2_0 rfl (lv_at hl 1 rfl) ?_
  refine ti_if_ge (tgt := 31) kx kb (by omega) dJ0_set_2_1 (by decide) (fun h1 => ?_) (fun h1 => ?_)
  · refine lv_iload_n kx kb dJ0_set_2_31 rfl (lv_at hl 1 rfl) ?_
    refine t_callRS C (met_J0_wordIndex l D E i (by first | assumption | omega)) (va_cwS 1 hts (lw_S q119 q120 q61 q121) rfl rfl rfl (by decide +kernel) ⟨Nat.le_of_ble_eq_true rfl, Nat.le_of_ble_eq_true rfl⟩) hK hX hP hD hS hA [] rfl (by decide) tYb_0 (fun _ _ _ => trivial) rfl hl.1 rfl (Nat.le_of_ble_eq_true rfl) dJ0_set_2_32 ⟨(show 0 ≤ gC n (i / 64 + 1) from by omega), (show 0 ≤ gS n (i / 64 + 1) from by omega)⟩ ?_
    refine W.eq (g2 := F0 m0 35 ls [.int (iI ((i / 64 : Nat) : Int))]) rfl ?_
    refine lv_istore_n (lv' := [(2, .int (iI ((i / 64 : Nat) : Int))), (0, .ref b), (1, .int (iI ((i : Nat) : Int)))]) kx kb dJ0_set_2_35 rfl hl (by decide) rfl (fun ls hl => ?_)
    refine lv_aload_n kx kb dJ0_set_2_36 rfl (lv_at hl 1 rfl) ?_
    refine lv_iload_n kx kb dJ0_set_2_37 rfl (lv_at hl 0 rfl) ?_
    refine t_callV (wr := []) C (met_J0_expandTo l D E b w n P (un P) (i / 64) (by first | assumption | omega) (by first | assumption | omega) (by first | assumption | omega)) (cwV 1 hts (lw_V q503 q505 qs2 q61 q506) rfl rfl rfl (by decide +kernel) ⟨Nat.le_of_ble_eq_true rfl, Nat.le_of_ble_eq_true rfl⟩) (va_recv hK hP (ci := 3) (q0 := 0) rfl rfl) hK hX hP hD hS hA [0, 1] [] rfl rfl (by decide) (by decide) (by decide) tYb_0 (fun _ _ _ => trivial) rfl hl.1 rfl (Nat.le_of_ble_eq_true rfl) dJ0_set_2_38 ⟨(show 0 + (gC n ((i / 64) + 1)) ≤ gC n (i / 64 + 1) from by omega), (show 0 + (gS n ((i / 64) + 1)) ≤ gS n (i / 64 + 1) from by omega)⟩ (fun u_ H locs hp hP hD hS => ?_)
    obtain ⟨w2_1, rfl⟩ : ∃ z, z = u_ := ⟨_, rfl⟩
    have hP : va_P D.1 clAll [(b, .inr (3, [.ref w2_1, .int (iI ((max (un P) ((i / 64) + 1) : Nat) : Int)), .int (zI false)])), (w2_1, .inl (D.2 2, gN n ((i / 64) + 1), .inr (.inl (wd P))))] H := hP
    have hD : va_D A [(b, .inr (3, [.ref w2_1, .int (iI ((max (un P) ((i / 64) + 1) : Nat) : Int)), .int (zI false)])), (w2_1, .inl (D.2 2, gN n ((i / 64) + 1), .inr (.inl (wd P))))] := hD
    refine W.eq (g2 := F0 m0 41 ls []) rfl ?_
    refine W.widen (k := 0 + (gC n ((i / 64) + 1))) (n := 0 + (gS n ((i / 64) + 1))) (Nat.le_refl _) (Nat.le_refl _) ?_
    refine lv_aload_n kx kb dJ0_set_2_41 rfl (lv_at hl 1 rfl) ?_
    refine va_get (D := D.1) (ci := 3) (v := .ref w2_1) (C := RJ0) (T := TJ0) (N := 3) kx kb hts in_J0 hown hK hP 0 rfl rfl 0 (by decide) (hts _ q122) (fun _ h9 => h9) rfl dJ0_set_2_42 ?_
    refine lv_iload_n kx kb dJ0_set_2_45 rfl (lv_at hl 0 rfl) ?_
    refine lv_dup2_11 kx kb dJ0_set_2_46 rfl rfl ?_
    refine ta_lald C hK hP 1 rfl (i / 64) (by omega) dJ0_set_2_47 ?_
    refine lv_lconst (v := 1) kx kb dJ0_set_2_48 rfl ?_
    refine lv_iload_n kx kb dJ0_set_2_49 rfl (lv_at hl 2 rfl) ?_
    refine lv_lshl kx kb dJ0_set_2_50 rfl ?_
    refine lv_lor kx kb dJ0_set_2_51 ?_
    refine ta_last C hK hP hD hS 1 rfl (i / 64) (by omega) dJ0_set_2_52 (fun H locs hP hD hS => ?_)
    have hP : va_P D.1 clAll [(b, .inr (3, [.ref w2_1, .int (iI ((max (un P) ((i / 64) + 1) : Nat) : Int)), .int (zI false)])), (w2_1, .inl (D.2 2, gN n ((i / 64) + 1), .inr (.inl (va_up (wd P) (i / 64) (((wd P) (i / 64)) ||| ((1 : Int64) <<< ((iI ((i : Nat) : Int)).toInt64 &&& 63)))))))] H := hP
    have hD : va_D A [(b, .inr (3, [.ref w2_1, .int (iI ((max (un P) ((i / 64) + 1) : Nat) : Int)), .int (zI false)])), (w2_1, .inl (D.2 2, gN n ((i / 64) + 1), .inr (.inl (va_up (wd P) (i / 64) (((wd P) (i / 64)) ||| ((1 : Int64) <<< ((iI ((i : Nat) : Int)).toInt64 &&& 63)))))))] := hD
    have hP : va_P D.1 clAll [(b, .inr (3, [.ref w2_1, .int (iI ((un (ins P i) : Nat) : Int)), .int (zI false)])), (w2_1, .inl (D.2 2, gN n ((i / 64) + 1), .inr (.inl (wd (ins P i)))))] H := by rw [← wd_ins P (show i < 2048 by omega), un_ins hB hi]; exact hP
    have hD : va_D A [(b, .inr (3, [.ref w2_1, .int (iI ((un (ins P i) : Nat) : Int)), .int (zI false)])), (w2_1, .inl (D.2 2, gN n ((i / 64) + 1), .inr (.inl (wd (ins P i)))))] := by rw [← wd_ins P (show i < 2048 by omega), un_ins hB hi]; exact hD
    refine lv_aload_n kx kb dJ0_set_2_53 rfl (lv_at hl 1 rfl) ?_
    refine t_callRV C (met_J0_checkInvariants l D E b) (cwV 0 hts (lw_V q525 q527 qs5 q61 q528) rfl rfl rfl (by decide +kernel) ⟨Nat.le_of_ble_eq_true rfl, Nat.le_of_ble_eq_true rfl⟩) (va_recv hK hP (ci := 3) (q0 := 0) rfl rfl) hK hX hP hD hS hA [] rfl (by decide) tYb_0 (fun _ _ _ => trivial) rfl hl.1 rfl (Nat.le_of_ble_eq_true rfl) dJ0_set_2_54 ⟨(show 0 + (gC n ((i / 64) + 1)) ≤ gC n (i / 64 + 1) from by omega), (show 0 + (gS n ((i / 64) + 1)) ≤ gS n (i / 64 + 1) from by omega)⟩ ?_
    refine W.eq (g2 := F0 m0 57 ls []) rfl ?_
    subst hQ
    exact tm_vret C w2_1 trivial hP hD hS (show 0 + (gC n ((i / 64) + 1)) ≤ gC n (i / 64 + 1) from by omega) (show 0 + (gS n ((i / 64) + 1)) ≤ gS n (i / 64 + 1) from by omega) rfl rfl dJ0_set_2_57
  · omega
set_option maxHeartbeats 4000000 in
set_option maxRecDepth 100000 in
theorem met_J0_clear (l : Launch) (D : TG) (E : TE) (b : Nat) (w : Nat) (n : Nat) (P : Nat → Bool) (i : Nat) (hB : BB P n) (hi : i < 1024) : tMet l yJ0_clear cJ0_clear 3 none 1 21 (0) (0) [.ref b, .int (iI ((i : Nat) : Int))] D E [(b, .inr (3, [.ref w, .int (iI ((un P : Nat) : Int)), .int (zI false)])), (w, .inl (D.2 2, n, .inr (.inl (wd P))))] tY0 (S := Unit) (fun u_ => True) (fun u_ => none) (fun u_ => [(b, .inr (3, [.ref w, .int (iI ((un (del P i) : Nat) : Int)), .int (zI false)])), (w, .inl (D.2 2, n, .inr (.inl (wd (del P i)))))]) := by
  refine tu_met (by decide +kernel) (Nat.le_of_ble_eq_true rfl) ?_
  intro p0 e0 s0 m0 below meth c0 A ls args Q hag hQ C hK hX hY hP hD hA hAe hl
  obtain ⟨kx, kb, hml, hown, hts, -⟩ := id C
  have hS : va_S A s0.heap s0.heap [] := va_S.rf
  have hl : lv_has ls 3 [(0, .ref b), (1, .int (iI ((i : Nat) : Int)))] := hl
  have hBn := hB.1
  have hBm := hB.2.1
  have hul := un_le hB
  refine lv_iload_n kx kb dJ0_clear_0 rfl (lv_at hl 1 rfl) ?_
  refine ti_if_ge (tgt := 31) kx kb (by omega) dJ0_clear_1 (by decide) (fun h1 => ?_) (fun h1 => ?_)
  · refine lv_iload_n kx kb dJ0_clear_31 rfl (lv_at hl 1 rfl) ?_
    refine t_callRS C (met_J0_wordIndex l D E i (by first | assumption | omega)) (va_cwS 1 hts (lw_S q119 q120 q61 q121) rfl rfl rfl (by decide +kernel) ⟨Nat.le_of_ble_eq_true rfl, Nat.le_of_ble_eq_true rfl⟩) hK hX hP hD hS hA [] rfl (by decide) tYb_0 (fun _ _ _ => trivial) rfl hl.1 rfl (Nat.le_of_ble_eq_true rfl) dJ0_clear_32 ⟨(show 0 ≤ 0 from by omega), (show 0 ≤ 0 from by omega)⟩ ?_
    refine W.eq (g2 := F0 m0 35 ls [.int (iI ((i / 64 : Nat) : Int))]) rfl ?_
    refine lv_istore_n (lv' := [(2, .int (iI ((i / 64 : Nat) : Int))), (0, .ref b), (1, .int (iI ((i : Nat) : Int)))]) kx kb dJ0_clear_35 rfl hl (by decide) rfl (fun ls hl => ?_)
    refine lv_iload_n kx kb dJ0_clear_36 rfl (lv_at hl 0 rfl) ?_
    refine lv_aload_n kx kb dJ0_clear_37 rfl (lv_at hl 1 rfl) ?_
    refine va_get (D := D.1) (ci := 3) (v := .int (iI ((un P : Nat) : Int))) (C := RJ0) (T := TJ0) (N := 3) kx kb hts in_J0 hown hK hP 0 rfl rfl 1 (by decide) (hts _ q123) (fun _ h9 => h9) rfl dJ0_clear_38 ?_
    refine ti_icmp_lt (tgt := 45) kx kb (by omega) dJ0_clear_41 (by decide) (fun h41 => ?_) (fun h41 => ?_)
    · refine lv_aload_n kx kb dJ0_clear_45 rfl (lv_at hl 1 rfl) ?_
      refine va_get (D := D.1) (ci := 3) (v := .ref w) (C := RJ0) (T := TJ0) (N := 3) kx kb hts in_J0 hown hK hP 0 rfl rfl 0 (by decide) (hts _ q122) (fun _ h9 => h9) rfl dJ0_clear_46 ?_
      refine lv_iload_n kx kb dJ0_clear_49 rfl (lv_at hl 0 rfl) ?_
      refine lv_dup2_11 kx kb dJ0_clear_50 rfl rfl ?_
      refine ta_lald C hK hP 1 rfl (i / 64) (by omega) dJ0_clear_51 ?_
      refine lv_lconst (v := 1) kx kb dJ0_clear_52 rfl ?_
      refine lv_iload_n kx kb dJ0_clear_53 rfl (lv_at hl 2 rfl) ?_
      refine lv_lshl kx kb dJ0_clear_54 rfl ?_
      refine lv_ldc2 (v := (-1)) kx kb hown (hts _ q520) dJ0_clear_55 ?_
      refine lv_lxor kx kb dJ0_clear_58 ?_
      refine lv_land kx kb dJ0_clear_59 ?_
      refine ta_last C hK hP hD hS 1 rfl (i / 64) (by omega) dJ0_clear_60 (fun H locs hP hD hS => ?_)
      have hP : va_P D.1 clAll [(b, .inr (3, [.ref w, .int (iI ((un P : Nat) : Int)), .int (zI false)])), (w, .inl (D.2 2, n, .inr (.inl (va_up (wd P) (i / 64) (((wd P) (i / 64)) &&& (((1 : Int64) <<< ((iI ((i : Nat) : Int)).toInt64 &&& 63)) ^^^ (-1 : Int64)))))))] H := hP
      have hD : va_D A [(b, .inr (3, [.ref w, .int (iI ((un P : Nat) : Int)), .int (zI false)])), (w, .inl (D.2 2, n, .inr (.inl (va_up (wd P) (i / 64) (((wd P) (i / 64)) &&& (((1 : Int64) <<< ((iI ((i : Nat) : Int)).toInt64 &&& 63)) ^^^ (-1 : Int64)))))))] := hD
      have hP : va_P D.1 clAll [(b, .inr (3, [.ref w, .int (iI ((un P : Nat) : Int)), .int (zI false)])), (w, .inl (D.2 2, n, .inr (.inl (wd (del P i)))))] H := by rw [← wd_del P (show i < 2048 by omega)]; exact hP
      have hD : va_D A [(b, .inr (3, [.ref w, .int (iI ((un P : Nat) : Int)), .int (zI false)])), (w, .inl (D.2 2, n, .inr (.inl (wd (del P i)))))] := by rw [← wd_del P (show i < 2048 by omega)]; exact hD
      refine lv_aload_n kx kb dJ0_clear_61 rfl (lv_at hl 1 rfl) ?_
      refine t_callV (wr := []) C (met_J0_recalculateWordsInUse l D E b w n (del P i) (un P) (BB_del hB) (by omega) (fun k_ hk_ => del_far hB hk_)) (cwV 0 hts (lw_V q521 q523 qs4 q61 q524) rfl rfl rfl (by decide +kernel) ⟨Nat.le_of_ble_eq_true rfl, Nat.le_of_ble_eq_true rfl⟩) (va_recv hK hP (ci := 3) (q0 := 0) rfl rfl) hK hX hP hD hS hA [0, 1] [] rfl rfl (by decide) (by decide) (by decide) tYb_0 (fun _ _ _ => trivial) rfl hl.1 rfl (Nat.le_of_ble_eq_true rfl) dJ0_clear_62 ⟨(show 0 ≤ 0 from by omega), (show 0 ≤ 0 from by omega)⟩ (fun u_ H locs hp hP hD hS => ?_)
      have hP : va_P D.1 clAll [(b, .inr (3, [.ref w, .int (iI ((un (del P i) : Nat) : Int)), .int (zI false)])), (w, .inl (D.2 2, n, .inr (.inl (wd (del P i)))))] H := hP
      have hD : va_D A [(b, .inr (3, [.ref w, .int (iI ((un (del P i) : Nat) : Int)), .int (zI false)])), (w, .inl (D.2 2, n, .inr (.inl (wd (del P i)))))] := hD
      refine W.eq (g2 := F0 m0 65 ls []) rfl ?_
      refine lv_aload_n kx kb dJ0_clear_65 rfl (lv_at hl 1 rfl) ?_
      refine t_callRV C (met_J0_checkInvariants l D E b) (cwV 0 hts (lw_V q525 q527 qs5 q61 q528) rfl rfl rfl (by decide +kernel) ⟨Nat.le_of_ble_eq_true rfl, Nat.le_of_ble_eq_true rfl⟩) (va_recv hK hP (ci := 3) (q0 := 0) rfl rfl) hK hX hP hD hS hA [] rfl (by decide) tYb_0 (fun _ _ _ => trivial) rfl hl.1 rfl (Nat.le_of_ble_eq_true rfl) dJ0_clear_66 ⟨(show 0 ≤ 0 from by omega), (show 0 ≤ 0 from by omega)⟩ ?_
      refine W.eq (g2 := F0 m0 69 ls []) rfl ?_
      subst hQ
      exact tm_vret C () trivial hP hD hS (show 0 ≤ 0 from by omega) (show 0 ≤ 0 from by omega) rfl rfl dJ0_clear_69
    · have hP : va_P D.1 clAll [(b, .inr (3, [.ref w, .int (iI ((un (del P i) : Nat) : Int)), .int (zI false)])), (w, .inl (D.2 2, n, .inr (.inl (wd (del P i)))))] s0.heap := by rw [del_no (un_out hB (by omega))]; exact hP
      have hD : va_D A [(b, .inr (3, [.ref w, .int (iI ((un (del P i) : Nat) : Int)), .int (zI false)])), (w, .inl (D.2 2, n, .inr (.inl (wd (del P i)))))] := by rw [del_no (un_out hB (by omega))]; exact hD
      subst hQ
      exact tm_vret C () trivial hP hD hS (show 0 ≤ 0 from by omega) (show 0 ≤ 0 from by omega) rfl rfl dJ0_clear_44
  · omega
