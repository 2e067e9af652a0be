set_option maxRecDepth 100000
set_option maxHeartbeats 4000000 in
set_option maxRecDepth 100000 in
theorem met_J13_copyOf_2 (l : Launch) (D : TG) (E : TE) (w : Nat) (n : Nat) (f : Nat → Int64) (r : Nat) (hr : n < r ∧ r < 1000) : tMet l yJ13_copyOf_2 cJ13_copyOf_2 3 (some (.array .long)) 1 40 (1) (r) [.ref w, .int (iI ((r : Nat) : Int))] D E [(w, .inl (D.2 2, n, .inr (.inl f)))] tY0 (S := Nat) (fun u_ => True) (fun u_ => some (.ref u_)) (fun u_ => [(w, .inl (D.2 2, n, .inr (.inl f))), (u_, .inl (D.2 2, r, .inr (.inl (va_cpy f (fun _ => 0) 0 0 n))))]) := by
  refine tu_met (by decide +kernel) (Nat.le_of_ble_eq_true rfl) ?_
  intro p0 e0 s0 m0 below meth c0 A ls args Q hag hQ C hK hX hY hP hD hA hAe hl
  obtain ⟨kx, kb, hml, hown, hts, -⟩ := id C
  have hS : va_S A s0.heap s0.heap [] := va_S.rf
  have hl : lv_has ls 3 [(0, .ref w), (1, .int (iI ((r : Nat) : Int)))] := hl
  refine lv_iload_n kx kb dJ13_copyOf_2_0 rfl (lv_at hl 1 rfl) ?_
  refine lv_aload_n kx kb dJ13_copyOf_2_1 rfl (lv_at hl 0 rfl) ?_
  refine va_alen (v := iI (n : Int)) kx kb hK hP 0 2 rfl rfl (tx_ofNat _) dJ13_copyOf_2_2 ?_
  refine ti_icmp_ne (tgt := 14) kx kb (by omega) dJ13_copyOf_2_3 (by decide) (fun h3 => ?_) (fun h3 => ?_)
  · refine lv_iload_n kx kb dJ13_copyOf_2_14 rfl (lv_at hl 1 rfl) ?_
    refine ta_newJ C (hts _ q132) hK hP hD hS hA r (by omega) ⟨(show 1 ≤ 1 from by omega), (show 0 + r ≤ r from by omega)⟩ dJ13_copyOf_2_15 (fun q_1 H hP hD hS => ?_)
    have hP : va_P D.1 clAll [(w, .inl (D.2 2, n, .inr (.inl f))), (q_1, .inl (D.2 2, r, .inr (.inl (fun _ => 0))))] H := hP
    have hD : va_D A [(w, .inl (D.2 2, n, .inr (.inl f))), (q_1, .inl (D.2 2, r, .inr (.inl (fun _ => 0))))] := hD
    refine lv_astore_n (lv' := [(2, .ref q_1), (0, .ref w), (1, .int (iI ((r : Nat) : Int)))]) kx kb dJ13_copyOf_2_17 rfl hl (by decide) rfl (fun ls hl => ?_)
    refine lv_aload_n kx kb dJ13_copyOf_2_18 rfl (lv_at hl 1 rfl) ?_
    refine lv_iconst (v := iI 0) kx kb dJ13_copyOf_2_19 rfl ?_
    refine lv_aload_n kx kb dJ13_copyOf_2_20 rfl (lv_at hl 0 rfl) ?_
    refine lv_iconst (v := iI 0) kx kb dJ13_copyOf_2_21 rfl ?_
    refine lv_aload_n kx kb dJ13_copyOf_2_22 rfl (lv_at hl 1 rfl) ?_
    refine va_alen (v := iI (n : Int)) kx kb hK hP 0 2 rfl rfl (tx_ofNat _) dJ13_copyOf_2_23 ?_
    refine lv_iload_n kx kb dJ13_copyOf_2_24 rfl (lv_at hl 2 rfl) ?_
    refine ti_mmin kx kb (hml.trans hl.1.symm) hown (hts _ q289) (hts _ q290) (hts _ q74) (hts _ q291) (Nat.le_of_ble_eq_true rfl) (Nat.le_of_ble_eq_true rfl) (show 1 ≤ 1 from by omega) (show 0 + r ≤ r from by omega) (by omega) dJ13_copyOf_2_25 ?_
    refine ta_copyl kx kb (hml.trans hl.1.symm) hown (hts _ q292) (hts _ q294) (hts _ q293) (hts _ q76) hK hP hD hS 0 1 rfl rfl 0 0 n (by omega) (Nat.le_of_ble_eq_true rfl) (Nat.le_of_ble_eq_true rfl) dJ13_copyOf_2_28 (fun H locs hP hD hS => ?_)
    have hP : va_P D.1 clAll [(w, .inl (D.2 2, n, .inr (.inl f))), (q_1, .inl (D.2 2, r, .inr (.inl (va_cpy f (fun _ => 0) 0 0 n))))] H := hP
    have hD : va_D A [(w, .inl (D.2 2, n, .inr (.inl f))), (q_1, .inl (D.2 2, r, .inr (.inl (va_cpy f (fun _ => 0) 0 0 n))))] := hD
    refine lv_aload_n kx kb dJ13_copyOf_2_31 rfl (lv_at hl 0 rfl) ?_
    subst hQ
    exact tm_aret C q_1 trivial hP hD hS (show 1 ≤ 1 from by omega) (show 0 + r ≤ r from by omega) rfl rfl (Or.inr ⟨_, rfl⟩) (Or.inr ⟨_, rfl⟩) dJ13_copyOf_2_32
  · omega
set_option maxHeartbeats 4000000 in
set_option maxRecDepth 100000 in
theorem met_J0_wordIndex (l : Launch) (D : TG) (E : TE) (i : Nat) (hi : i < 2048) : tRd l yJ0_wordIndex cJ0_wordIndex 1 (some .int) 0 0 [.int (iI ((i : Nat) : Int))] D E [] tY0 (some (.int (iI ((i / 64 : Nat) : Int)))) := by
  refine tu_rd (by decide +kernel) (Nat.le_of_ble_eq_true rfl) ?_
  intro p0 e0 s0 m0 below meth c0 A ls args Q hag hQ C hK hX hY hP hD hA hAe hl
  obtain ⟨kx, kb, hml, hown, hts, -⟩ := id C
  have hS : va_S A s0.heap s0.heap [] := va_S.rf
  have hl : lv_has ls 1 [(0, .int (iI ((i : Nat) : Int)))] := hl
  refine lv_iload_n kx kb dJ0_wordIndex_0 rfl (lv_at hl 0 rfl) ?_
  refine lv_bipush (v := iI 6) kx kb dJ0_wordIndex_1 rfl ?_
  refine lv_ishr kx kb dJ0_wordIndex_3 ?_
  subst hQ
  exact tr_iret C rfl (by rw [w_s6 i hi]) dJ0_wordIndex_4
set_option maxHeartbeats 4000000 in
set_option maxRecDepth 100000 in
theorem met_J0_checkRange (l : Launch) (D : TG) (E : TE) (a : Int) (z : Int) (h : 0 ≤ a ∧ a ≤ z ∧ z < 2147483648) : tRd l yJ0_checkRange cJ0_checkRange 2 none 0 0 [.int (iI a), .int (iI z)] D E [] tY0 (none) := by
  refine tu_rd (by decide +kernel) (Nat.le_of_ble_eq_true rfl) ?_
  intro p0 e0 s0 m0 below meth c0 A ls args Q hag hQ C hK hX hY hP hD hA hAe hl
  obtain ⟨kx, kb, hml, hown, hts, -⟩ := id C
  have hS : va_S A s0.heap s0.heap [] := va_S.rf
  have hl : lv_has ls 2 [(0, .int (iI a)), (1, .int (iI z))] := hl
  refine lv_iload_n kx kb dJ0_checkRange_0 rfl (lv_at hl 0 rfl) ?_
  refine ti_if_ge (tgt := 31) kx kb (by omega) dJ0_checkRange_1 (by decide) (fun h1 => ?_) (fun h1 => ?_)
  · refine lv_iload_n kx kb dJ0_checkRange_31 rfl (lv_at hl 1 rfl) ?_
    refine ti_if_ge (tgt := 62) kx kb (by omega) dJ0_checkRange_32 (by decide) (fun h32 => ?_) (fun h32 => ?_)
    · refine lv_iload_n kx kb dJ0_checkRange_62 rfl (lv_at hl 0 rfl) ?_
      refine lv_iload_n kx kb dJ0_checkRange_63 rfl (lv_at hl 1 rfl) ?_
      refine ti_icmp_le (tgt := 103) kx kb (by omega) dJ0_checkRange_64 (by decide) (fun h64 => ?_) (fun h64 => ?_)
      · subst hQ
        exact tr_vret C rfl rfl dJ0_checkRange_103
      · omega
    · omega
  · omega
set_option maxHeartbeats 4000000 in
set_option maxRecDepth 100000 in
theorem met_J0_checkInvariants (l : Launch) (D : TG) (E : TE) (b : Nat) : tRd l yJ0_checkInvariants cJ0_checkInvariants 1 none 0 0 [.ref b] D E [] tY0 (none) := by
  refine tu_rd (by decide +kernel) (Nat.le_of_ble_eq_true rfl) ?_
  intro p0 e0 s0 m0 below meth c0 A ls args Q hag hQ C hK hX hY hP hD hA hAe hl
  obtain ⟨kx, kb, hml, hown, hts, -⟩ := id C
  have hS : va_S A s0.heap s0.heap [] := va_S.rf
  have hl : lv_has ls 1 [(0, .ref b)] := hl
  refine va_gets (v := .int (zI true)) kx kb hX.2.2.1 hS hown (hts _ q529) (fun _ h9 => h9) dJ0_checkInvariants_0 ?_
  refine tz_if_ne (tgt := 37) kx kb dJ0_checkInvariants_3 (by decide) (fun h3 => ?_) (fun h3 => ?_)
  · refine va_gets (v := .int (zI true)) kx kb hX.2.2.1 hS hown (hts _ q529) (fun _ h9 => h9) dJ0_checkInvariants_37 ?_
    refine tz_if_ne (tgt := 70) kx kb dJ0_checkInvariants_40 (by decide) (fun h40 => ?_) (fun h40 => ?_)
    · refine va_gets (v := .int (zI true)) kx kb hX.2.2.1 hS hown (hts _ q529) (fun _ h9 => h9) dJ0_checkInvariants_70 ?_
      refine tz_if_ne (tgt := 110) kx kb dJ0_checkInvariants_73 (by decide) (fun h73 => ?_) (fun h73 => ?_)
      · subst hQ
        exact tr_vret C rfl rfl dJ0_checkInvariants_110
      · exact absurd h73 (by decide)
    · exact absurd h40 (by decide)
  · exact absurd h3 (by decide)
set_option maxHeartbeats 4000000 in
set_option maxRecDepth 100000 in
theorem met_J0_ensureCapacity (l : Launch) (D : TG) (E : TE) (b : Nat) (w : Nat) (n : Nat) (P : Nat → Bool) (u : Nat) (r : Nat) (hB : BB P n) (hr : r ≤ 16) : tMet l yJ0_ensureCapacity cJ0_ensureCapacity 3 none 2 62 (gC n r) (gS n r) [.ref b, .int (iI ((r : Nat) : Int))] D E [(b, .inr (3, [.ref w, .int (iI ((u : Nat) : Int)), .int (zI false)])), (w, .inl (D.2 2, n, .inr (.inl (wd P))))] tY0 (S := Nat) (fun u_ => True) (fun u_ => none) (fun u_ => [(b, .inr (3, [.ref u_, .int (iI ((u : Nat) : Int)), .int (zI false)])), (u_, .inl (D.2 2, gN n r, .inr (.inl (wd P))))]) := by
  refine tu_met (by decide +kernel) (Nat.le_of_ble_eq_true rfl) ?_
  intro p0 e0 s0 m0 below meth c0 A ls args Q hag hQ C hK hX hY hP hD hA hAe hl
  obtain ⟨kx, kb, hml, hown, hts, -⟩ := id C
  have hS : va_S A s0.heap s0.heap [] := va_S.rf
  have hl : lv_has ls 3 [(0, .ref b), (1, .int (iI ((r : Nat) : Int)))] := hl
  have hBn := hB.1
  have hBm := hB.2.1
  have hul := un_le hB
  refine lv_aload_n kx kb dJ0_ensureCapacity_0 rfl (lv_at hl 0 rfl) ?_
  refine va_get (D := D.1) (ci := 3) (v := .ref w) (C := RJ0) (T := TJ0) (N := 3) kx kb hts in_J0 hown hK hP 0 rfl rfl 0 (by decide) (hts _ q122) (fun _ h9 => h9) rfl dJ0_ensureCapacity_1 ?_
  refine va_alen (v := iI (n : Int)) kx kb hK hP 1 2 rfl rfl (tx_ofNat _) dJ0_ensureCapacity_4 ?_
  refine lv_iload_n kx kb dJ0_ensureCapacity_5 rfl (lv_at hl 1 rfl) ?_
  refine ti_icmp_ge (tgt := 38) kx kb (by omega) dJ0_ensureCapacity_6 (by decide) (fun h6 => ?_) (fun h6 => ?_)
  · have hP : va_P D.1 clAll [(b, .inr (3, [.ref w, .int (iI ((u : Nat) : Int)), .int (zI false)])), (w, .inl (D.2 2, gN n r, .inr (.inl (wd P))))] s0.heap := by rw [show gN n r = n from if_pos (by omega)]; exact hP
    have hD : va_D A [(b, .inr (3, [.ref w, .int (iI ((u : Nat) : Int)), .int (zI false)])), (w, .inl (D.2 2, gN n r, .inr (.inl (wd P))))] := by rw [show gN n r = n from if_pos (by omega)]; exact hD
    subst hQ
    exact tm_vret C w trivial hP hD hS (show 0 ≤ gC n r from by omega) (show 0 ≤ gS n r from by omega) rfl rfl dJ0_ensureCapacity_38
  · have hgN : gN n r = max (2 * n) r := if_neg (by omega)
    have hgC : gC n r = 1 := if_neg (by omega)
    have hgS : gS n r = max (2 * n) r := if_neg (by omega)
    refine lv_iconst (v := iI 2) kx kb dJ0_ensureCapacity_9 rfl ?_
    refine lv_aload_n kx kb dJ0_ensureCapacity_10 rfl (lv_at hl 0 rfl) ?_
    refine va_get (D := D.1) (ci := 3) (v := .ref w) (C := RJ0) (T := TJ0) (N := 3) kx kb hts in_J0 hown hK hP 0 rfl rfl 0 (by decide) (hts _ q122) (fun _ h9 => h9) rfl dJ0_ensureCapacity_11 ?_
    refine va_alen (v := iI (n : Int)) kx kb hK hP 1 2 rfl rfl (tx_ofNat _) dJ0_ensureCapacity_14 ?_
    refine ti_imul kx kb dJ0_ensureCapacity_15 ?_
    refine lv_iload_n kx kb dJ0_ensureCapacity_16 rfl (lv_at hl 1 rfl) ?_
    refine ti_mmax kx kb (hml.trans hl.1.symm) hown (hts _ q511) (hts _ q272) (hts _ q74) (hts _ q273) (Nat.le_of_ble_eq_true rfl) (Nat.le_of_ble_eq_true rfl) (show 0 ≤ gC n r from by omega) (show 0 ≤ gS n r from by omega) (by omega) dJ0_ensureCapacity_17 ?_
    refine lv_istore_n (lv' := [(2, .int (iI (max (2 * (n : Int)) ((r : Nat) : Int)))), (0, .ref b), (1, .int (iI ((r : Nat) : Int)))]) kx kb dJ0_ensureCapacity_20 rfl hl (by decide) rfl (fun ls hl => ?_)
    refine lv_aload_n kx kb dJ0_ensureCapacity_21 rfl (lv_at hl 1 rfl) ?_
    refine lv_aload_n kx kb dJ0_ensureCapacity_22 rfl (lv_at hl 1 rfl) ?_
    refine va_get (D := D.1) (ci := 3) (v := .ref w) (C := RJ0) (T := TJ0) (N := 3) kx kb hts in_J0 hown hK hP 0 rfl rfl 0 (by decide) (hts _ q122) (fun _ h9 => h9) rfl dJ0_ensureCapacity_23 ?_
    refine lv_iload_n kx kb dJ0_ensureCapacity_26 rfl (lv_at hl 0 rfl) ?_
    refine W.eq (g2 := F0 m0 27 ls [.int (iI ((max (2 * n) r : Nat) : Int)), .ref w, .ref b]) (by rw [show max (2 * (n : Int)) (r : Int) = ((max (2 * n) r : Nat) : Int) from by omega]) ?_
    refine t_callS (wr := [(b, .inr (3, [.ref w, .int (iI ((u : Nat) : Int)), .int (zI false)]))]) C (met_J13_copyOf_2 l D E w n (wd P) (max (2 * n) r) (by first | assumption | omega)) (va_cwS 2 hts (lw_S q512 q513 q75 q514) rfl rfl rfl (by decide +kernel) ⟨Nat.le_of_ble_eq_true rfl, Nat.le_of_ble_eq_true rfl⟩) hK hX hP hD hS hA [1] [0] rfl rfl (by decide) (by decide) (by decide) tYb_0 (fun _ _ _ => trivial) rfl hl.1 rfl (Nat.le_of_ble_eq_true rfl) dJ0_ensureCapacity_27 ⟨(show 1 ≤ gC n r from by omega), (show 0 + (max (2 * n) r) ≤ gS n r from by omega)⟩ (fun u_ H locs hp hP hD hS => ?_)
    obtain ⟨q_1, rfl⟩ : ∃ z, z = u_ := ⟨_, rfl⟩
    have hP : va_P D.1 clAll [(b, .inr (3, [.ref w, .int (iI ((u : Nat) : Int)), .int (zI false)])), (w, .inl (D.2 2, n, .inr (.inl (wd P)))), (q_1, .inl (D.2 2, (max (2 * n) r), .inr (.inl (va_cpy (wd P) (fun _ => 0) 0 0 n))))] H := hP
    have hD : va_D A [(b, .inr (3, [.ref w, .int (iI ((u : Nat) : Int)), .int (zI false)])), (w, .inl (D.2 2, n, .inr (.inl (wd P)))), (q_1, .inl (D.2 2, (max (2 * n) r), .inr (.inl (va_cpy (wd P) (fun _ => 0) 0 0 n))))] := hD
    refine W.eq (g2 := F0 m0 30 ls [.ref q_1, .ref b]) rfl ?_
    refine W.widen (k := 1) (n := 0 + (max (2 * n) r)) (Nat.le_refl _) (Nat.le_refl _) ?_
    rw [wd_cpy hB, ← hgN] at hP hD
    have hP : va_P D.1 clAll [(b, .inr (3, [.ref w, .int (iI ((u : Nat) : Int)), .int (zI false)])), (w, .inl (D.2 2, n, .inr (.inl (wd P)))), (q_1, .inl (D.2 2, gN n r, .inr (.inl (wd P))))] H := by skip; exact hP
    have hD : va_D A [(b, .inr (3, [.ref w, .int (iI ((u : Nat) : Int)), .int (zI false)])), (w, .inl (D.2 2, n, .inr (.inl (wd P)))), (q_1, .inl (D.2 2, gN n r, .inr (.inl (wd P))))] := by skip; exact hD
    refine va_put (D := D.1) (ci := 3) (v := .ref q_1) (ty := (.array .long)) (C := RJ0) (T := TJ0) (N := 3) kx kb hts in_J0 tyJ0 tyJ0_ok nmJ0 hown hK hP hD hS 0 rfl rfl 0 (by decide) (hts _ q122) (fun _ h9 => h9) rfl (by decide +kernel) rfl rfl (Nat.le_of_ble_eq_true rfl) dJ0_ensureCapacity_30 (fun H locs hP hD hS => ?_)
    have hP : va_P D.1 clAll [(b, .inr (3, [.ref q_1, .int (iI ((u : Nat) : Int)), .int (zI false)])), (w, .inl (D.2 2, n, .inr (.inl (wd P)))), (q_1, .inl (D.2 2, gN n r, .inr (.inl (wd P))))] H := hP
    have hD : va_D A [(b, .inr (3, [.ref q_1, .int (iI ((u : Nat) : Int)), .int (zI false)])), (w, .inl (D.2 2, n, .inr (.inl (wd P)))), (q_1, .inl (D.2 2, gN n r, .inr (.inl (wd P))))] := hD
    refine lv_aload_n kx kb dJ0_ensureCapacity_33 rfl (lv_at hl 1 rfl) ?_
    refine lv_iconst (v := iI 0) kx kb dJ0_ensureCapacity_34 rfl ?_
    refine W.eq (g2 := F0 m0 35 ls [.int (zI false), .ref b]) rfl ?_
    refine va_put (D := D.1) (ci := 3) (v := .int (zI false)) (ty := .boolean) (C := RJ0) (T := TJ0) (N := 3) kx kb hts in_J0 tyJ0 tyJ0_ok nmJ0 hown hK hP hD hS 0 rfl rfl 2 (by decide) (hts _ q124) (fun _ h9 => h9) rfl (by decide +kernel) (zI_nar _) (zI_fits _) (Nat.le_of_ble_eq_true rfl) dJ0_ensureCapacity_35 (fun H locs hP hD hS => ?_)
    have hP : va_P D.1 clAll [(b, .inr (3, [.ref q_1, .int (iI ((u : Nat) : Int)), .int (zI false)])), (w, .inl (D.2 2, n, .inr (.inl (wd P)))), (q_1, .inl (D.2 2, gN n r, .inr (.inl (wd P))))] H := hP
    have hD : va_D A [(b, .inr (3, [.ref q_1, .int (iI ((u : Nat) : Int)), .int (zI false)])), (w, .inl (D.2 2, n, .inr (.inl (wd P)))), (q_1, .inl (D.2 2, gN n r, .inr (.inl (wd P))))] := hD
    subst hQ
    exact tm_vret C q_1 trivial (hP.sub [0, 2] rfl) (hD.sub [0, 2] (by decide) rfl) hS (show 1 ≤ gC n r from by omega) (show 0 + (max (2 * n) r) ≤ gS n r from by omega) rfl rfl dJ0_ensureCapacity_38
