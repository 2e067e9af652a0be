set_option maxRecDepth 100000
set_option maxHeartbeats 4000000 in
set_option maxRecDepth 100000 in
theorem met_X2_least_u (l : Launch) (D : TG) (E : TE) (q : Nat) (nR : Nat) (mR : Nat) (d : Nat → Nat → Int) (x : Nat) (y : Nat) (ch : Bool) (hx : 1 ≤ x ∧ x + 1 < mR ∧ mR < 1000) (hy : 1 ≤ y ∧ y + 1 < nR ∧ nR < 1000) (hd : ∀ y_ x_ : Nat, 0 ≤ d y_ x_ ∧ d y_ x_ ≤ (x_ : Int)) : tRd l yX2_least cX2_least 6 (some .int) 1 40 [.ref q, .int (iI ((x : Nat) : Int)), .int (iI ((y : Nat) : Int)), .int (zI ch), .int (iI (-1))] D E ([(q, .inl (D.2 4, nR, .inr (.inr (.inr (.inr (fun j_ => some (q + 1 + j_)))))))] ++ (rwP D q nR mR d)) tY0 (some (.int (iI (mnU ch d x y)))) := by
  refine tu_rd (by decide +kernel) (Nat.le_of_ble_eq_true rfl) ?_
  intro p0 e0 s0 m0 below meth c0 A ls args Q hag hQ C hK hX hY hP hD hA hAe hl
  obtain ⟨kx, kb, hml, hown, hts, -⟩ := id C
  have hS : va_S A s0.heap s0.heap [] := va_S.rf
  have hl : lv_has ls 6 [(0, .ref q), (1, .int (iI ((x : Nat) : Int))), (2, .int (iI ((y : Nat) : Int))), (3, .int (zI ch)), (4, .int (iI (-1)))] := hl
  have a1 := hd (y - 1) x
  have a2 := hd y (x - 1)
  have a3 := hd (y - 1) (x - 1)
  have a4 := hd (y - 1) (x + 1)
  refine lv_aload_n kx kb dX2_least_0 rfl (lv_at hl 0 rfl) ?_
  refine lv_iload_n kx kb dX2_least_1 rfl (lv_at hl 2 rfl) ?_
  refine lv_iload kx kb dX2_least_2 (lv_at hl 4 rfl) ?_
  refine ti_iadd kx kb dX2_least_4 ?_
  refine ta_rald C hK hP 0 rfl (y - 1) (by omega) dX2_least_5 ?_
  refine W.eq (g2 := F0 m0 6 ls [.ref (q + 1 + (y - 1))]) rfl ?_
  refine lv_iload_n kx kb dX2_least_6 rfl (lv_at hl 1 rfl) ?_
  refine ta_rsald (fx := [(q, .inl (D.2 4, nR, .inr (.inr (.inr (.inr (fun j_ => some (q + 1 + j_)))))))]) (q := q) (nR := nR) (mR := mR) (d := d) C hK hP (y - 1) x (by omega) dX2_least_7 ?_
  refine lv_aload_n kx kb dX2_least_8 rfl (lv_at hl 0 rfl) ?_
  refine lv_iload_n kx kb dX2_least_9 rfl (lv_at hl 2 rfl) ?_
  refine ta_rald C hK hP 0 rfl y (by omega) dX2_least_10 ?_
  refine W.eq (g2 := F0 m0 11 ls [.ref (q + 1 + y), .int (iI (d (y - 1) x))]) rfl ?_
  refine lv_iload_n kx kb dX2_least_11 rfl (lv_at hl 1 rfl) ?_
  refine lv_iload kx kb dX2_least_12 (lv_at hl 4 rfl) ?_
  refine ti_iadd kx kb dX2_least_14 ?_
  refine ta_rsald (fx := [(q, .inl (D.2 4, nR, .inr (.inr (.inr (.inr (fun j_ => some (q + 1 + j_)))))))]) (q := q) (nR := nR) (mR := mR) (d := d) C hK hP y (x - 1) (by omega) dX2_least_15 ?_
  refine ti_mmin kx kb (hml.trans hl.1.symm) hown (hts _ q670) (hts _ q290) (hts _ q74) (hts _ q291) (Nat.le_of_ble_eq_true rfl) (Nat.le_of_ble_eq_true rfl) (show 0 ≤ 0 from by omega) (show 0 ≤ 0 from by omega) (by omega) dX2_least_16 ?_
  refine lv_istore (lv' := [(5, .int (iI (min (d (y - 1) x) (d y (x - 1))))), (0, .ref q), (1, .int (iI ((x : Nat) : Int))), (2, .int (iI ((y : Nat) : Int))), (3, .int (zI ch)), (4, .int (iI (-1)))]) kx kb dX2_least_19 hl (by decide) rfl (fun ls hl => ?_)
  refine lv_iload_n kx kb dX2_least_21 rfl (lv_at hl 4 rfl) ?_
  refine tz_if_eq (tgt := 56) kx kb dX2_least_22 (by decide) (fun h22 => ?_) (fun h22 => ?_)
  · refine lv_iload kx kb dX2_least_56 (lv_at hl 0 rfl) ?_
    subst hQ
    exact tr_iret C rfl (by unfold mnU; rw [h22]; rfl) dX2_least_58
  · refine lv_iload kx kb dX2_least_25 (lv_at hl 0 rfl) ?_
    refine lv_aload_n kx kb dX2_least_27 rfl (lv_at hl 1 rfl) ?_
    refine lv_iload_n kx kb dX2_least_28 rfl (lv_at hl 3 rfl) ?_
    refine lv_iload kx kb dX2_least_29 (lv_at hl 5 rfl) ?_
    refine ti_iadd kx kb dX2_least_31 ?_
    refine ta_rald C hK hP 0 rfl (y - 1) (by omega) dX2_least_32 ?_
    refine W.eq (g2 := F0 m0 33 ls [.ref (q + 1 + (y - 1)), .int (iI (min (d (y - 1) x) (d y (x - 1))))]) rfl ?_
    refine lv_iload_n kx kb dX2_least_33 rfl (lv_at hl 2 rfl) ?_
    refine lv_iconst (v := iI 1) kx kb dX2_least_34 rfl ?_
    refine ti_isub kx kb dX2_least_35 ?_
    refine ta_rsald (fx := [(q, .inl (D.2 4, nR, .inr (.inr (.inr (.inr (fun j_ => some (q + 1 + j_)))))))]) (q := q) (nR := nR) (mR := mR) (d := d) C hK hP (y - 1) (x - 1) (by omega) dX2_least_36 ?_
    refine lv_aload_n kx kb dX2_least_37 rfl (lv_at hl 1 rfl) ?_
    refine lv_iload_n kx kb dX2_least_38 rfl (lv_at hl 3 rfl) ?_
    refine lv_iload kx kb dX2_least_39 (lv_at hl 5 rfl) ?_
    refine ti_iadd kx kb dX2_least_41 ?_
    refine ta_rald C hK hP 0 rfl (y - 1) (by omega) dX2_least_42 ?_
    refine W.eq (g2 := F0 m0 43 ls [.ref (q + 1 + (y - 1)), .int (iI (d (y - 1) (x - 1))), .int (iI (min (d (y - 1) x) (d y (x - 1))))]) rfl ?_
    refine lv_iload_n kx kb dX2_least_43 rfl (lv_at hl 2 rfl) ?_
    refine lv_iconst (v := iI 1) kx kb dX2_least_44 rfl ?_
    refine ti_iadd kx kb dX2_least_45 ?_
    refine ta_rsald (fx := [(q, .inl (D.2 4, nR, .inr (.inr (.inr (.inr (fun j_ => some (q + 1 + j_)))))))]) (q := q) (nR := nR) (mR := mR) (d := d) C hK hP (y - 1) (x + 1) (by omega) dX2_least_46 ?_
    refine ti_mmin kx kb (hml.trans hl.1.symm) hown (hts _ q670) (hts _ q290) (hts _ q74) (hts _ q291) (Nat.le_of_ble_eq_true rfl) (Nat.le_of_ble_eq_true rfl) (show 0 ≤ 0 from by omega) (show 0 ≤ 0 from by omega) (by omega) dX2_least_47 ?_
    refine ti_mmin kx kb (hml.trans hl.1.symm) hown (hts _ q670) (hts _ q290) (hts _ q74) (hts _ q291) (Nat.le_of_ble_eq_true rfl) (Nat.le_of_ble_eq_true rfl) (show 0 ≤ 0 from by omega) (show 0 ≤ 0 from by omega) (by omega) dX2_least_50 ?_
    refine lv_goto (tgt := 58) kx kb dX2_least_53 (by decide) ?_
    subst hQ
    exact tr_iret C rfl (by unfold mnU; rw [h22]; rfl) dX2_least_58
set_option maxHeartbeats 4000000 in
set_option maxRecDepth 100000 in
theorem met_X2_least_d (l : Launch) (D : TG) (E : TE) (q : Nat) (nR : Nat) (mR : Nat) (d : Nat → Nat → Int) (x : Nat) (y : Nat) (ch : Bool) (hx : 1 ≤ x ∧ x + 1 < mR ∧ mR < 1000) (hy : 1 ≤ y ∧ y + 1 < nR ∧ nR < 1000) (hd : ∀ y_ x_ : Nat, 0 ≤ d y_ x_ ∧ d y_ x_ ≤ (x_ : Int)) : tRd l yX2_least cX2_least 6 (some .int) 1 40 [.ref q, .int (iI ((x : Nat) : Int)), .int (iI ((y : Nat) : Int)), .int (zI ch), .int (iI 1)] D E ([(q, .inl (D.2 4, nR, .inr (.inr (.inr (.inr (fun j_ => some (q + 1 + j_)))))))] ++ (rwP D q nR mR d)) tY0 (some (.int (iI (mnV ch d x y)))) := by
  refine tu_rd (by decide +kernel) (Nat.le_of_ble_eq_true rfl) ?_
  intro p0 e0 s0 m0 below meth c0 A ls args Q hag hQ C hK hX hY hP hD hA hAe hl
  obtain ⟨kx, kb, hml, hown, hts, -⟩ := id C
  have hS : va_S A s0.heap s0.heap [] := va_S.rf
  have hl : lv_has ls 6 [(0, .ref q), (1, .int (iI ((x : Nat) : Int))), (2, .int (iI ((y : Nat) : Int))), (3, .int (zI ch)), (4, .int (iI 1))] := hl
  have a1 := hd (y + 1) x
  have a2 := hd y (x + 1)
  have a3 := hd (y + 1) (x - 1)
  have a4 := hd (y + 1) (x + 1)
  refine lv_aload_n kx kb dX2_least_0 rfl (lv_at hl 0 rfl) ?_
  refine lv_iload_n kx kb dX2_least_1 rfl (lv_at hl 2 rfl) ?_
  refine lv_iload kx kb dX2_least_2 (lv_at hl 4 rfl) ?_
  refine ti_iadd kx kb dX2_least_4 ?_
  refine ta_rald C hK hP 0 rfl (y + 1) (by omega) dX2_least_5 ?_
  refine W.eq (g2 := F0 m0 6 ls [.ref (q + 1 + (y + 1))]) rfl ?_
  refine lv_iload_n kx kb dX2_least_6 rfl (lv_at hl 1 rfl) ?_
  refine ta_rsald (fx := [(q, .inl (D.2 4, nR, .inr (.inr (.inr (.inr (fun j_ => some (q + 1 + j_)))))))]) (q := q) (nR := nR) (mR := mR) (d := d) C hK hP (y + 1) x (by omega) dX2_least_7 ?_
  refine lv_aload_n kx kb dX2_least_8 rfl (lv_at hl 0 rfl) ?_
  refine lv_iload_n kx kb dX2_least_9 rfl (lv_at hl 2 rfl) ?_
  refine ta_rald C hK hP 0 rfl y (by omega) dX2_least_10 ?_
  refine W.eq (g2 := F0 m0 11 ls [.ref (q + 1 + y), .int (iI (d (y + 1) x))]) rfl ?_
  refine lv_iload_n kx kb dX2_least_11 rfl (lv_at hl 1 rfl) ?_
  refine lv_iload kx kb dX2_least_12 (lv_at hl 4 rfl) ?_
  refine ti_iadd kx kb dX2_least_14 ?_
  refine ta_rsald (fx := [(q, .inl (D.2 4, nR, .inr (.inr (.inr (.inr (fun j_ => some (q + 1 + j_)))))))]) (q := q) (nR := nR) (mR := mR) (d := d) C hK hP y (x + 1) (by omega) dX2_least_15 ?_
  refine ti_mmin kx kb (hml.trans hl.1.symm) hown (hts _ q670) (hts _ q290) (hts _ q74) (hts _ q291) (Nat.le_of_ble_eq_true rfl) (Nat.le_of_ble_eq_true rfl) (show 0 ≤ 0 from by omega) (show 0 ≤ 0 from by omega) (by omega) dX2_least_16 ?_
  refine lv_istore (lv' := [(5, .int (iI (min (d (y + 1) x) (d y (x + 1))))), (0, .ref q), (1, .int (iI ((x : Nat) : Int))), (2, .int (iI ((y : Nat) : Int))), (3, .int (zI ch)), (4, .int (iI 1))]) kx kb dX2_least_19 hl (by decide) rfl (fun ls hl => ?_)
  refine lv_iload_n kx kb dX2_least_21 rfl (lv_at hl 4 rfl) ?_
  refine tz_if_eq (tgt := 56) kx kb dX2_least_22 (by decide) (fun h22 => ?_) (fun h22 => ?_)
  · refine lv_iload kx kb dX2_least_56 (lv_at hl 0 rfl) ?_
    subst hQ
    exact tr_iret C rfl (by unfold mnV; rw [h22]; rfl) dX2_least_58
  · refine lv_iload kx kb dX2_least_25 (lv_at hl 0 rfl) ?_
    refine lv_aload_n kx kb dX2_least_27 rfl (lv_at hl 1 rfl) ?_
    refine lv_iload_n kx kb dX2_least_28 rfl (lv_at hl 3 rfl) ?_
    refine lv_iload kx kb dX2_least_29 (lv_at hl 5 rfl) ?_
    refine ti_iadd kx kb dX2_least_31 ?_
    refine ta_rald C hK hP 0 rfl (y + 1) (by omega) dX2_least_32 ?_
    refine W.eq (g2 := F0 m0 33 ls [.ref (q + 1 + (y + 1)), .int (iI (min (d (y + 1) x) (d y (x + 1))))]) rfl ?_
    refine lv_iload_n kx kb dX2_least_33 rfl (lv_at hl 2 rfl) ?_
    refine lv_iconst (v := iI 1) kx kb dX2_least_34 rfl ?_
    refine ti_isub kx kb dX2_least_35 ?_
    refine ta_rsald (fx := [(q, .inl (D.2 4, nR, .inr (.inr (.inr (.inr (fun j_ => some (q + 1 + j_)))))))]) (q := q) (nR := nR) (mR := mR) (d := d) C hK hP (y + 1) (x - 1) (by omega) dX2_least_36 ?_
    refine lv_aload_n kx kb dX2_least_37 rfl (lv_at hl 1 rfl) ?_
    refine lv_iload_n kx kb dX2_least_38 rfl (lv_at hl 3 rfl) ?_
    refine lv_iload kx kb dX2_least_39 (lv_at hl 5 rfl) ?_
    refine ti_iadd kx kb dX2_least_41 ?_
    refine ta_rald C hK hP 0 rfl (y + 1) (by omega) dX2_least_42 ?_
    refine W.eq (g2 := F0 m0 43 ls [.ref (q + 1 + (y + 1)), .int (iI (d (y + 1) (x - 1))), .int (iI (min (d (y + 1) x) (d y (x + 1))))]) rfl ?_
    refine lv_iload_n kx kb dX2_least_43 rfl (lv_at hl 2 rfl) ?_
    refine lv_iconst (v := iI 1) kx kb dX2_least_44 rfl ?_
    refine ti_iadd kx kb dX2_least_45 ?_
    refine ta_rsald (fx := [(q, .inl (D.2 4, nR, .inr (.inr (.inr (.inr (fun j_ => some (q + 1 + j_)))))))]) (q := q) (nR := nR) (mR := mR) (d := d) C hK hP (y + 1) (x + 1) (by omega) dX2_least_46 ?_
    refine ti_mmin kx kb (hml.trans hl.1.symm) hown (hts _ q670) (hts _ q290) (hts _ q74) (hts _ q291) (Nat.le_of_ble_eq_true rfl) (Nat.le_of_ble_eq_true rfl) (show 0 ≤ 0 from by omega) (show 0 ≤ 0 from by omega) (by omega) dX2_least_47 ?_
    refine ti_mmin kx kb (hml.trans hl.1.symm) hown (hts _ q670) (hts _ q290) (hts _ q74) (hts _ q291) (Nat.le_of_ble_eq_true rfl) (Nat.le_of_ble_eq_true rfl) (show 0 ≤ 0 from by omega) (show 0 ≤ 0 from by omega) (by omega) dX2_least_50 ?_
    refine lv_goto (tgt := 58) kx kb dX2_least_53 (by decide) ?_
    subst hQ
    exact tr_iret C rfl (by unfold mnV; rw [h22]; rfl) dX2_least_58
set_option maxHeartbeats 4000000 in
set_option maxRecDepth 100000 in
theorem met_X2_depths (l : Launch) (D : TG) (E : TE) (a : Nat) (b : Nat) (v : Nat) (n : Nat) (w : Nat) (g : Nat) (P : Nat → Bool) (ch : Bool) (hw : 1 ≤ w ∧ w ≤ 32) (hg : 1 ≤ g ∧ g ≤ 32) (hB : BB P n) : tMet l yX2_depths cX2_depths 5 (some (.array (.array .short))) 3 66 (1 + (g + 2)) ((g + 2) + (g + 2) * (w + 2)) [.ref a, .int (zI ch)] D E [(a, .inr (2, [.int (iI ((w : Nat) : Int)), .int (iI ((g : Nat) : Int)), .ref b])), (b, .inr (3, [.ref v, .int (iI ((un P : Nat) : Int)), .int (zI false)])), (v, .inl (D.2 2, n, .inr (.inl (wd P))))] tY0 (S := Nat) (fun u_ => isDep w g P ch (depF w g P ch)) (fun u_ => some (.ref u_)) (fun u_ => ([(a, .inr (2, [.int (iI ((w : Nat) : Int)), .int (iI ((g : Nat) : Int)), .ref b])), (b, .inr (3, [.ref v, .int (iI ((un P : Nat) : Int)), .int (zI false)])), (v, .inl (D.2 2, n, .inr (.inl (wd P)))), (u_, .inl (D.2 4, g + 2, .inr (.inr (.inr (.inr (fun j_ => some (u_ + 1 + j_)))))))] ++ (rwP D u_ (g + 2) (w + 2) (dpG w g P ch)))) := by
  refine tu_met (by decide +kernel) (Nat.le_of_ble_eq_true rfl) ?_
  intro p0 e0 s0 m0 below meth c0 A ls args Q hag hQ C hK hX hY hP hD hA hAe hl
  obtain ⟨kx, kb, hml, hown, hts, -⟩ := id C
  have hS : va_S A s0.heap s0.heap [] := va_S.rf
  have hl : lv_has ls 5 [(0, .ref a), (1, .int (zI ch))] := hl
  have hwg := wg_le hw hg
  have hBn := hB.1
  have hBm := hB.2.1
  have hul := un_le hB
  refine lv_aload_n kx kb dX2_depths_0 rfl (lv_at hl 0 rfl) ?_
  refine va_get (D := D.1) (ci := 2) (v := .int (iI ((g : Nat) : Int))) (C := RX2) (T := TX2) (N := 3) kx kb hts in_X2 hown hK hP 0 rfl rfl 1 (by decide) (hts _ q139) (fun _ h9 => h9) rfl dX2_depths_1 ?_
  refine lv_iconst (v := iI 2) kx kb dX2_depths_4 rfl ?_
  refine ti_iadd kx kb dX2_depths_5 ?_
  refine lv_aload_n kx kb dX2_depths_6 rfl (lv_at hl 0 rfl) ?_
  refine va_get (D := D.1) (ci := 2) (v := .int (iI ((w : Nat) : Int))) (C := RX2) (T := TX2) (N := 3) kx kb hts in_X2 hown hK hP 0 rfl rfl 0 (by decide) (hts _ q137) (fun _ h9 => h9) rfl dX2_depths_7 ?_
  refine lv_iconst (v := iI 2) kx kb dX2_depths_10 rfl ?_
  refine ti_iadd kx kb dX2_depths_11 ?_
  refine ta_multi C hown (hts _ q665) (hts _ q672) hX hK hP hD hS hA (g + 2) (w + 2) (by omega) ⟨(show 0 + (1 + (g + 2)) ≤ 1 + (g + 2) from by omega), (show 0 + ((g + 2) + (g + 2) * (w + 2)) ≤ (g + 2) + (g + 2) * (w + 2) from by omega)⟩ dX2_depths_12 (fun q_1 H hP hD hS => ?_)
  generalize ([] : List Loc) = locs at hS ⊢
  have hP : va_P D.1 clAll ([(a, .inr (2, [.int (iI ((w : Nat) : Int)), .int (iI ((g : Nat) : Int)), .ref b])), (b, .inr (3, [.ref v, .int (iI ((un P : Nat) : Int)), .int (zI false)])), (v, .inl (D.2 2, n, .inr (.inl (wd P)))), (q_1, .inl (D.2 4, g + 2, .inr (.inr (.inr (.inr (fun j_ => some (q_1 + 1 + j_)))))))] ++ (rwP D q_1 (g + 2) (w + 2) (fun _ _ => 0))) H := hP
  have hD : va_D A ([(a, .inr (2, [.int (iI ((w : Nat) : Int)), .int (iI ((g : Nat) : Int)), .ref b])), (b, .inr (3, [.ref v, .int (iI ((un P : Nat) : Int)), .int (zI false)])), (v, .inl (D.2 2, n, .inr (.inl (wd P)))), (q_1, .inl (D.2 4, g + 2, .inr (.inr (.inr (.inr (fun j_ => some (q_1 + 1 + j_)))))))] ++ (rwP D q_1 (g + 2) (w + 2) (fun _ _ => 0))) := hD
  refine lv_astore_n (lv' := [(2, .ref q_1), (0, .ref a), (1, .int (zI ch))]) kx kb dX2_depths_16 rfl hl (by decide) rfl (fun ls hl => ?_)
  refine lv_iconst (v := iI 1) kx kb dX2_depths_17 rfl ?_
  refine lv_istore_n (lv' := [(3, .int (iI 1)), (2, .ref q_1), (0, .ref a), (1, .int (zI ch))]) kx kb dX2_depths_18 rfl hl (by decide) rfl (fun ls hl => ?_)
  have cut19 : ∀ (fuel : Nat) (yy : Nat) (d1 : Nat → Nat → Int), (1 ≤ yy ∧ yy ≤ g + 1) → (P1 w g P ch d1 yy 1) → (g + 1 - yy) < fuel → ∀ (H : Heap) (locs : List Loc), va_P D.1 clAll ([(a, .inr (2, [.int (iI ((w : Nat) : Int)), .int (iI ((g : Nat) : Int)), .ref b])), (b, .inr (3, [.ref v, .int (iI ((un P : Nat) : Int)), .int (zI false)])), (v, .inl (D.2 2, n, .inr (.inl (wd P)))), (q_1, .inl (D.2 4, g + 2, .inr (.inr (.inr (.inr (fun j_ => some (q_1 + 1 + j_)))))))] ++ (rwP D q_1 (g + 2) (w + 2) d1)) H → va_D A ([(a, .inr (2, [.int (iI ((w : Nat) : Int)), .int (iI ((g : Nat) : Int)), .ref b])), (b, .inr (3, [.ref v, .int (iI ((un P : Nat) : Int)), .int (zI false)])), (v, .inl (D.2 2, n, .inr (.inl (wd P)))), (q_1, .inl (D.2 4, g + 2, .inr (.inr (.inr (.inr (fun j_ => some (q_1 + 1 + j_)))))))] ++ (rwP D q_1 (g + 2) (w + 2) d1)) → va_S A s0.heap H locs → ∀ ls : Array Slot, lv_has ls 5 [(3, .int (iI (yy : Int))), (2, .ref q_1), (0, .ref a), (1, .int (zI ch))] → W p0 l e0 ({ frames := 3, cells := 1 + (g + 2), slots := (g + 2) + (g + 2) * (w + 2), locals := 66 } : Room) s0 m0 args below meth c0 H locs (0 + 1 + (g + 2)) (0 + (g + 2) + (g + 2) * (w + 2)) Q (F0 m0 19 ls []) := by
    intro fuel
    induction fuel with
    | zero =>
      intro yy d1 hyy hp1 hfuel19
      exact absurd hfuel19 (Nat.not_lt_zero _)
    | succ fuel ih19 =>
      intro yy d1 hyy hp1 hfuel19 H locs hP hD hS ls hl
      refine lv_iload_n kx kb dX2_depths_19 rfl (lv_at hl 0 rfl) ?_
      refine lv_aload_n kx kb dX2_depths_20 rfl (lv_at hl 2 rfl) ?_
      refine va_get (D := D.1) (ci := 2) (v := .int (iI ((g : Nat) : Int))) (C := RX2) (T := TX2) (N := 3) kx kb hts in_X2 hown hK hP 0 rfl rfl 1 (by decide) (hts _ q139) (fun _ h9 => h9) rfl dX2_depths_21 ?_
      refine ti_icmp_gt (tgt := 83) kx kb (by omega) dX2_depths_24 (by decide) (fun h24 => ?_) (fun h24 => ?_)
      · have hF := P1_end hp1 (by omega)
        have hR := hp1.2
        refine lv_aload_n kx kb dX2_depths_83 rfl (lv_at hl 2 rfl) ?_
        refine va_get (D := D.1) (ci := 2) (v := .int (iI ((g : Nat) : Int))) (C := RX2) (T := TX2) (N := 3) kx kb hts in_X2 hown hK hP 0 rfl rfl 1 (by decide) (hts _ q139) (fun _ h9 => h9) rfl dX2_depths_84 ?_
        refine lv_istore_n (lv' := [(3, .int (iI ((g : Nat) : Int))), (2, .ref q_1), (0, .ref a), (1, .int (zI ch))]) kx kb dX2_depths_87 rfl hl (by decide) rfl (fun ls hl => ?_)
        have cut88 : ∀ (fuel : Nat) (z3 : Int) (y2 : Nat) (d3 : Nat → Nat → Int), (z3 = (y2 : Int) ∧ y2 ≤ g) → (P2 w g P ch d1 d3 y2 w) → y2 < fuel → ∀ (H : Heap) (locs : List Loc), va_P D.1 clAll ([(a, .inr (2, [.int (iI ((w : Nat) : Int)), .int (iI ((g : Nat) : Int)), .ref b])), (b, .inr (3, [.ref v, .int (iI ((un P : Nat) : Int)), .int (zI false)])), (v, .inl (D.2 2, n, .inr (.inl (wd P)))), (q_1, .inl (D.2 4, g + 2, .inr (.inr (.inr (.inr (fun j_ => some (q_1 + 1 + j_)))))))] ++ (rwP D q_1 (g + 2) (w + 2) d3)) H → va_D A ([(a, .inr (2, [.int (iI ((w : Nat) : Int)), .int (iI ((g : Nat) : Int)), .ref b])), (b, .inr (3, [.ref v, .int (iI ((un P : Nat) : Int)), .int (zI false)])), (v, .inl (D.2 2, n, .inr (.inl (wd P)))), (q_1, .inl (D.2 4, g + 2, .inr (.inr (.inr (.inr (fun j_ => some (q_1 + 1 + j_)))))))] ++ (rwP D q_1 (g + 2) (w + 2) d3)) → va_S A s0.heap H locs → ∀ ls : Array Slot, lv_has ls 5 [(3, .int (iI z3)), (2, .ref q_1), (0, .ref a), (1, .int (zI ch))] → W p0 l e0 ({ frames := 3, cells := 1 + (g + 2), slots := (g + 2) + (g + 2) * (w + 2), locals := 66 } : Room) s0 m0 args below meth c0 H locs (0 + 1 + (g + 2)) (0 + (g + 2) + (g + 2) * (w + 2)) Q (F0 m0 88 ls []) := by
          intro fuel
          induction fuel with
          | zero =>
            intro z3 y2 d3 hy2 hq1 hfuel88
            exact absurd hfuel88 (Nat.not_lt_zero _)
          | succ fuel ih88 =>
            intro z3 y2 d3 hy2 hq1 hfuel88 H locs hP hD hS ls hl
            obtain ⟨rfl, hy2b⟩ := hy2
            refine lv_iload_n kx kb dX2_depths_88 rfl (lv_at hl 0 rfl) ?_
            refine ti_if_le (tgt := 151) kx kb (by omega) dX2_depths_89 (by decide) (fun h89 => ?_) (fun h89 => ?_)
            · have hfi := P2_dep hw.1 hF (P2_end (by rw [show y2 = 0 by omega] at hq1; exact hq1))
              have hfin := hfi.1
              have hP : va_P D.1 clAll ([(a, .inr (2, [.int (iI ((w : Nat) : Int)), .int (iI ((g : Nat) : Int)), .ref b])), (b, .inr (3, [.ref v, .int (iI ((un P : Nat) : Int)), .int (zI false)])), (v, .inl (D.2 2, n, .inr (.inl (wd P)))), (q_1, .inl (D.2 4, g + 2, .inr (.inr (.inr (.inr (fun j_ => some (q_1 + 1 + j_)))))))] ++ (rwP D q_1 (g + 2) (w + 2) (dpG w g P ch))) H := by rw [← hfin]; exact hP
              have hD : va_D A ([(a, .inr (2, [.int (iI ((w : Nat) : Int)), .int (iI ((g : Nat) : Int)), .ref b])), (b, .inr (3, [.ref v, .int (iI ((un P : Nat) : Int)), .int (zI false)])), (v, .inl (D.2 2, n, .inr (.inl (wd P)))), (q_1, .inl (D.2 4, g + 2, .inr (.inr (.inr (.inr (fun j_ => some (q_1 + 1 + j_)))))))] ++ (rwP D q_1 (g + 2) (w + 2) (dpG w g P ch))) := by rw [← hfin]; exact hD
              refine lv_aload_n kx kb dX2_depths_151 rfl (lv_at hl 1 rfl) ?_
              subst hQ
              exact tm_aret C q_1 (hfi.2) hP hD hS (show 0 + 1 + (g + 2) ≤ 1 + (g + 2) from by omega) (show 0 + (g + 2) + (g + 2) * (w + 2) ≤ (g + 2) + (g + 2) * (w + 2) from by omega) rfl rfl (Or.inr ⟨_, rfl⟩) (Or.inr ⟨_, rfl⟩) dX2_depths_152
            · refine lv_aload_n kx kb dX2_depths_92 rfl (lv_at hl 2 rfl) ?_
              refine va_get (D := D.1) (ci := 2) (v := .int (iI ((w : Nat) : Int))) (C := RX2) (T := TX2) (N := 3) kx kb hts in_X2 hown hK hP 0 rfl rfl 0 (by decide) (hts _ q137) (fun _ h9 => h9) rfl dX2_depths_93 ?_
              refine lv_istore (lv' := [(4, .int (iI ((w : Nat) : Int))), (3, .int (iI ((y2 : Nat) : Int))), (2, .ref q_1), (0, .ref a), (1, .int (zI ch))]) kx kb dX2_depths_96 hl (by decide) rfl (fun ls hl => ?_)
              have cut98 : ∀ (fuel : Nat) (z4 : Int) (x2 : Nat) (d4 : Nat → Nat → Int), (z4 = (x2 : Int) ∧ x2 ≤ w) → (P2 w g P ch d1 d4 y2 x2) → x2 < fuel → ∀ (H : Heap) (locs : List Loc), va_P D.1 clAll ([(a, .inr (2, [.int (iI ((w : Nat) : Int)), .int (iI ((g : Nat) : Int)), .ref b])), (b, .inr (3, [.ref v, .int (iI ((un P : Nat) : Int)), .int (zI false)])), (v, .inl (D.2 2, n, .inr (.inl (wd P)))), (q_1, .inl (D.2 4, g + 2, .inr (.inr (.inr (.inr (fun j_ => some (q_1 + 1 + j_)))))))] ++ (rwP D q_1 (g + 2) (w + 2) d4)) H → va_D A ([(a, .inr (2, [.int (iI ((w : Nat) : Int)), .int (iI ((g : Nat) : Int)), .ref b])), (b, .inr (3, [.ref v, .int (iI ((un P : Nat) : Int)), .int (zI false)])), (v, .inl (D.2 2, n, .inr (.inl (wd P)))), (q_1, .inl (D.2 4, g + 2, .inr (.inr (.inr (.inr (fun j_ => some (q_1 + 1 + j_)))))))] ++ (rwP D q_1 (g + 2) (w + 2) d4)) → va_S A s0.heap H locs → ∀ ls : Array Slot, lv_has ls 5 [(4, .int (iI z4)), (3, .int (iI ((y2 : Nat) : Int))), (2, .ref q_1), (0, .ref a), (1, .int (zI ch))] → W p0 l e0 ({ frames := 3, cells := 1 + (g + 2), slots := (g + 2) + (g + 2) * (w + 2), locals := 66 } : Room) s0 m0 args below meth c0 H locs (0 + 1 + (g + 2)) (0 + (g + 2) + (g + 2) * (w + 2)) Q (F0 m0 98 ls []) := by
                intro fuel
                induction fuel with
                | zero =>
                  intro z4 x2 d4 hx2 hq2 hfuel98
                  exact absurd hfuel98 (Nat.not_lt_zero _)
                | succ fuel ih98 =>
                  intro z4 x2 d4 hx2 hq2 hfuel98 H locs hP hD hS ls hl
                  obtain ⟨rfl, hx2b⟩ := hx2
                  refine lv_iload kx kb dX2_depths_98 (lv_at hl 0 rfl) ?_
                  refine ti_if_le (tgt := 145) kx kb (by omega) dX2_depths_100 (by decide) (fun h100 => ?_) (fun h100 => ?_)
                  · refine ti_iinc (a := ((y2 : Nat) : Int)) (lv' := [(3, .int (iI (((y2 : Nat) : Int) + (-1)))), (4, .int (iI ((x2 : Nat) : Int))), (2, .ref q_1), (0, .ref a), (1, .int (zI ch))]) kx kb dX2_depths_145 hl (k := 1) rfl (by decide) rfl (fun ls hl => ?_)
                    refine lv_goto (tgt := 88) kx kb dX2_depths_148 (by decide) ?_
                    exact ih88 (((y2 : Nat) : Int) + (-1)) (y2 - 1) d4 (by omega) (P2_row (by rw [show y2 - 1 + 1 = y2 by omega, ← show x2 = 0 by omega]; exact hq2)) (by omega) H locs hP hD hS ls (lv_sub hl [0, 2, 3, 4] rfl)
                  · have hb4 := hq2.2 y2 x2
                    have hpo := P2_pos hF hR hq2
                    refine lv_aload_n kx kb dX2_depths_103 rfl (lv_at hl 2 rfl) ?_
                    refine lv_iload_n kx kb dX2_depths_104 rfl (lv_at hl 1 rfl) ?_
                    refine ta_rald C hK hP 3 rfl y2 (by omega) dX2_depths_105 ?_
                    refine W.eq (g2 := F0 m0 106 ls [.ref (q_1 + 1 + y2)]) rfl ?_
                    refine lv_iload kx kb dX2_depths_106 (lv_at hl 0 rfl) ?_
                    refine ta_rsald (fx := [(a, .inr (2, [.int (iI ((w : Nat) : Int)), .int (iI ((g : Nat) : Int)), .ref b])), (b, .inr (3, [.ref v, .int (iI ((un P : Nat) : Int)), .int (zI false)])), (v, .inl (D.2 2, n, .inr (.inl (wd P)))), (q_1, .inl (D.2 4, g + 2, .inr (.inr (.inr (.inr (fun j_ => some (q_1 + 1 + j_)))))))]) (q := q_1) (nR := g + 2) (mR := w + 2) (d := d4) C hK hP y2 x2 (by omega) dX2_depths_108 ?_
                    refine ti_if_le (tgt := 139) kx kb (by omega) dX2_depths_109 (by decide) (fun h109 => ?_) (fun h109 => ?_)
                    · refine ti_iinc (a := ((x2 : Nat) : Int)) (lv' := [(4, .int (iI (((x2 : Nat) : Int) + (-1)))), (3, .int (iI ((y2 : Nat) : Int))), (2, .ref q_1), (0, .ref a), (1, .int (zI ch))]) kx kb dX2_depths_139 hl (k := 0) rfl (by decide) rfl (fun ls hl => ?_)
                      refine lv_goto (tgt := 98) kx kb dX2_depths_142 (by decide) ?_
                      exact ih98 (((x2 : Nat) : Int) + (-1)) (x2 - 1) d4 (by omega) (P2_no (by rw [show x2 - 1 + 1 = x2 by omega]; exact hq2) (by rw [show x2 - 1 + 1 = x2 by omega]; cases hk_ : kD w g P y2 x2; rfl; have := hpo.mpr hk_; omega)) (by omega) H locs hP hD hS ls hl
                    · have hbv := mnV_rng (ch := ch) hq2.2 (x := x2) (y := y2)
                      refine lv_aload_n kx kb dX2_depths_112 rfl (lv_at hl 2 rfl) ?_
                      refine lv_iload_n kx kb dX2_depths_113 rfl (lv_at hl 1 rfl) ?_
                      refine ta_rald C hK hP 3 rfl y2 (by omega) dX2_depths_114 ?_
                      refine W.eq (g2 := F0 m0 115 ls [.ref (q_1 + 1 + y2)]) rfl ?_
                      refine lv_iload kx kb dX2_depths_115 (lv_at hl 0 rfl) ?_
                      refine lv_aload_n kx kb dX2_depths_117 rfl (lv_at hl 2 rfl) ?_
                      refine lv_iload_n kx kb dX2_depths_118 rfl (lv_at hl 1 rfl) ?_
                      refine ta_rald C hK hP 3 rfl y2 (by omega) dX2_depths_119 ?_
                      refine W.eq (g2 := F0 m0 120 ls [.ref (q_1 + 1 + y2), .int (iI ((x2 : Nat) : Int)), .ref (q_1 + 1 + y2)]) rfl ?_
                      refine lv_iload kx kb dX2_depths_120 (lv_at hl 0 rfl) ?_
                      refine ta_rsald (fx := [(a, .inr (2, [.int (iI ((w : Nat) : Int)), .int (iI ((g : Nat) : Int)), .ref b])), (b, .inr (3, [.ref v, .int (iI ((un P : Nat) : Int)), .int (zI false)])), (v, .inl (D.2 2, n, .inr (.inl (wd P)))), (q_1, .inl (D.2 4, g + 2, .inr (.inr (.inr (.inr (fun j_ => some (q_1 + 1 + j_)))))))]) (q := q_1) (nR := g + 2) (mR := w + 2) (d := d4) C hK hP y2 x2 (by omega) dX2_depths_122 ?_
                      refine lv_iconst (v := iI 1) kx kb dX2_depths_123 rfl ?_
                      refine lv_aload_n kx kb dX2_depths_124 rfl (lv_at hl 2 rfl) ?_
                      refine lv_iload kx kb dX2_depths_125 (lv_at hl 0 rfl) ?_
                      refine lv_iload_n kx kb dX2_depths_127 rfl (lv_at hl 1 rfl) ?_
                      refine lv_iload_n kx kb dX2_depths_128 rfl (lv_at hl 4 rfl) ?_
                      refine lv_iconst (v := iI 1) kx kb dX2_depths_129 rfl ?_
                      refine t_callRS C (met_X2_least_d l D E q_1 (g + 2) (w + 2) d4 x2 y2 ch (by omega) (by omega) (hq2.2)) (va_cwS 5 hts (lw_S q667 q668 q60 q669) rfl rfl rfl (by decide +kernel) ⟨Nat.le_of_ble_eq_true rfl, Nat.le_of_ble_eq_true rfl⟩) hK hX hP hD hS hA ([3] ++ List.range' 4 (rwP D q_1 (g + 2) (w + 2) d4).length) (pl_R (fx := [(a, .inr (2, [.int (iI ((w : Nat) : Int)), .int (iI ((g : Nat) : Int)), .ref b])), (b, .inr (3, [.ref v, .int (iI ((un P : Nat) : Int)), .int (zI false)])), (v, .inl (D.2 2, n, .inr (.inl (wd P)))), (q_1, .inl (D.2 4, g + 2, .inr (.inr (.inr (.inr (fun j_ => some (q_1 + 1 + j_)))))))]) (pool := rwP D q_1 (g + 2) (w + 2) d4) rfl) (pl_ndR (by decide) (by decide)) tYb_0 (fun _ _ _ => trivial)  rfl hl.1 rfl (Nat.le_of_ble_eq_true rfl) dX2_depths_130 ⟨(show 0 + 1 + (g + 2) ≤ 1 + (g + 2) from by omega), (show 0 + (g + 2) + (g + 2) * (w + 2) ≤ (g + 2) + (g + 2) * (w + 2) from by omega)⟩ ?_
                      refine W.eq (g2 := F0 m0 133 ls [.int (iI (mnV ch d4 x2 y2)), .int (iI 1), .int (iI (d4 y2 x2)), .int (iI ((x2 : Nat) : Int)), .ref (q_1 + 1 + y2)]) rfl ?_
                      refine ti_iadd kx kb dX2_depths_133 ?_
                      refine ti_mmin kx kb (hml.trans hl.1.symm) hown (hts _ q670) (hts _ q290) (hts _ q74) (hts _ q291) (Nat.le_of_ble_eq_true rfl) (Nat.le_of_ble_eq_true rfl) (show 0 + 1 + (g + 2) ≤ 1 + (g + 2) from by omega) (show 0 + (g + 2) + (g + 2) * (w + 2) ≤ (g + 2) + (g + 2) * (w + 2) from by omega) (by omega) dX2_depths_134 ?_
                      refine ti_i2s kx kb (by omega) dX2_depths_137 ?_
                      refine ta_rsast (fx := [(a, .inr (2, [.int (iI ((w : Nat) : Int)), .int (iI ((g : Nat) : Int)), .ref b])), (b, .inr (3, [.ref v, .int (iI ((un P : Nat) : Int)), .int (zI false)])), (v, .inl (D.2 2, n, .inr (.inl (wd P)))), (q_1, .inl (D.2 4, g + 2, .inr (.inr (.inr (.inr (fun j_ => some (q_1 + 1 + j_)))))))]) (q := q_1) (nR := g + 2) (mR := w + 2) (d := d4) C hK hP hD hS y2 x2 (by omega) (by omega) dX2_depths_138 (fun H locs hP hD hS => ?_)
                      have hP : va_P D.1 clAll ([(a, .inr (2, [.int (iI ((w : Nat) : Int)), .int (iI ((g : Nat) : Int)), .ref b])), (b, .inr (3, [.ref v, .int (iI ((un P : Nat) : Int)), .int (zI false)])), (v, .inl (D.2 2, n, .inr (.inl (wd P)))), (q_1, .inl (D.2 4, g + 2, .inr (.inr (.inr (.inr (fun j_ => some (q_1 + 1 + j_)))))))] ++ (rwP D q_1 (g + 2) (w + 2) (up2 d4 y2 x2 (min (d4 y2 x2) (1 + (mnV ch d4 x2 y2)))))) H := hP
                      have hD : va_D A ([(a, .inr (2, [.int (iI ((w : Nat) : Int)), .int (iI ((g : Nat) : Int)), .ref b])), (b, .inr (3, [.ref v, .int (iI ((un P : Nat) : Int)), .int (zI false)])), (v, .inl (D.2 2, n, .inr (.inl (wd P)))), (q_1, .inl (D.2 4, g + 2, .inr (.inr (.inr (.inr (fun j_ => some (q_1 + 1 + j_)))))))] ++ (rwP D q_1 (g + 2) (w + 2) (up2 d4 y2 x2 (min (d4 y2 x2) (1 + (mnV ch d4 x2 y2)))))) := hD
                      refine ti_iinc (a := ((x2 : Nat) : Int)) (lv' := [(4, .int (iI (((x2 : Nat) : Int) + (-1)))), (3, .int (iI ((y2 : Nat) : Int))), (2, .ref q_1), (0, .ref a), (1, .int (zI ch))]) kx kb dX2_depths_139 hl (k := 0) rfl (by decide) rfl (fun ls hl => ?_)
                      refine lv_goto (tgt := 98) kx kb dX2_depths_142 (by decide) ?_
                      exact ih98 (((x2 : Nat) : Int) + (-1)) (x2 - 1) (up2 d4 y2 x2 (min (d4 y2 x2) (1 + (mnV ch d4 x2 y2)))) (by omega) (by have h9_ := P2_yes (x := x2 - 1) (by rw [show x2 - 1 + 1 = x2 by omega]; exact hq2) hR (by rw [show x2 - 1 + 1 = x2 by omega]; exact hpo.mp h109); rw [show x2 - 1 + 1 = x2 by omega] at h9_; exact h9_) (by omega) H locs hP hD hS ls hl
              exact cut98 (w + 1) ((w : Nat) : Int) w d3 (by omega) (hq1) (Nat.lt_succ_self _) H locs hP hD hS ls hl
        exact cut88 (g + 1) ((g : Nat) : Int) g d1 (by omega) (P2_0 hF hR) (Nat.lt_succ_self _) H locs hP hD hS ls hl
      · refine lv_iconst (v := iI 1) kx kb dX2_depths_27 rfl ?_
        refine lv_istore (lv' := [(4, .int (iI 1)), (3, .int (iI (yy : Int))), (2, .ref q_1), (0, .ref a), (1, .int (zI ch))]) kx kb dX2_depths_28 hl (by decide) rfl (fun ls hl => ?_)
        have cut30 : ∀ (fuel : Nat) (xx : Nat) (d2 : Nat → Nat → Int), (1 ≤ xx ∧ xx ≤ w + 1) → (P1 w g P ch d2 yy xx) → (w + 1 - xx) < fuel → ∀ (H : Heap) (locs : List Loc), va_P D.1 clAll ([(a, .inr (2, [.int (iI ((w : Nat) : Int)), .int (iI ((g : Nat) : Int)), .ref b])), (b, .inr (3, [.ref v, .int (iI ((un P : Nat) : Int)), .int (zI false)])), (v, .inl (D.2 2, n, .inr (.inl (wd P)))), (q_1, .inl (D.2 4, g + 2, .inr (.inr (.inr (.inr (fun j_ => some (q_1 + 1 + j_)))))))] ++ (rwP D q_1 (g + 2) (w + 2) d2)) H → va_D A ([(a, .inr (2, [.int (iI ((w : Nat) : Int)), .int (iI ((g : Nat) : Int)), .ref b])), (b, .inr (3, [.ref v, .int (iI ((un P : Nat) : Int)), .int (zI false)])), (v, .inl (D.2 2, n, .inr (.inl (wd P)))), (q_1, .inl (D.2 4, g + 2, .inr (.inr (.inr (.inr (fun j_ => some (q_1 + 1 + j_)))))))] ++ (rwP D q_1 (g + 2) (w + 2) d2)) → va_S A s0.heap H locs → ∀ ls : Array Slot, lv_has ls 5 [(4, .int (iI (xx : Int))), (3, .int (iI (yy : Int))), (2, .ref q_1), (0, .ref a), (1, .int (zI ch))] → W p0 l e0 ({ frames := 3, cells := 1 + (g + 2), slots := (g + 2) + (g + 2) * (w + 2), locals := 66 } : Room) s0 m0 args below meth c0 H locs (0 + 1 + (g + 2)) (0 + (g + 2) + (g + 2) * (w + 2)) Q (F0 m0 30 ls []) := by
          intro fuel
          induction fuel with
          | zero =>
            intro xx d2 hxx hp2 hfuel30
            exact absurd hfuel30 (Nat.not_lt_zero _)
          | succ fuel ih30 =>
            intro xx d2 hxx hp2 hfuel30 H locs hP hD hS ls hl
            refine lv_iload kx kb dX2_depths_30 (lv_at hl 0 rfl) ?_
            refine lv_aload_n kx kb dX2_depths_32 rfl (lv_at hl 3 rfl) ?_
            refine va_get (D := D.1) (ci := 2) (v := .int (iI ((w : Nat) : Int))) (C := RX2) (T := TX2) (N := 3) kx kb hts in_X2 hown hK hP 0 rfl rfl 0 (by decide) (hts _ q137) (fun _ h9 => h9) rfl dX2_depths_33 ?_
            refine ti_icmp_gt (tgt := 77) kx kb (by omega) dX2_depths_36 (by decide) (fun h36 => ?_) (fun h36 => ?_)
            · refine ti_iinc (a := (yy : Int)) (lv' := [(3, .int (iI ((yy : Int) + 1))), (4, .int (iI (xx : Int))), (2, .ref q_1), (0, .ref a), (1, .int (zI ch))]) kx kb dX2_depths_77 hl (k := 1) rfl (by decide) rfl (fun ls hl => ?_)
              refine lv_goto (tgt := 19) kx kb dX2_depths_80 (by decide) ?_
              exact ih19 (yy + 1) d2 (by omega) (P1_row hp2 (by omega)) (by omega) H locs hP hD hS ls (lv_sub hl [0, 2, 3, 4] rfl)
            · refine lv_aload_n kx kb dX2_depths_39 rfl (lv_at hl 3 rfl) ?_
              refine lv_iload kx kb dX2_depths_40 (lv_at hl 0 rfl) ?_
              refine lv_iconst (v := iI 1) kx kb dX2_depths_42 rfl ?_
              refine ti_isub kx kb dX2_depths_43 ?_
              refine lv_iload_n kx kb dX2_depths_44 rfl (lv_at hl 1 rfl) ?_
              refine lv_iconst (v := iI 1) kx kb dX2_depths_45 rfl ?_
              refine ti_isub kx kb dX2_depths_46 ?_
              refine t_callRV C (met_X2_has l D E a b v n w g P ((xx : Int) - 1) ((yy : Int) - 1) (by first | assumption | omega) (by first | assumption | omega) (by first | assumption | omega) (by first | assumption | omega) (by first | assumption | omega)) (cwV 2 hts (lw_V q608 q609 q610 q60 q611) rfl rfl rfl (by decide +kernel) ⟨Nat.le_of_ble_eq_true rfl, Nat.le_of_ble_eq_true rfl⟩) (va_recv hK hP (ci := 2) (q0 := 0) rfl rfl) hK hX hP hD hS hA [0, 1, 2] (pl_F (fx := [(a, .inr (2, [.int (iI ((w : Nat) : Int)), .int (iI ((g : Nat) : Int)), .ref b])), (b, .inr (3, [.ref v, .int (iI ((un P : Nat) : Int)), .int (zI false)])), (v, .inl (D.2 2, n, .inr (.inl (wd P)))), (q_1, .inl (D.2 4, g + 2, .inr (.inr (.inr (.inr (fun j_ => some (q_1 + 1 + j_)))))))]) (pool := rwP D q_1 (g + 2) (w + 2) d2) rfl) (by decide) tYb_0 (fun _ _ _ => trivial) rfl hl.1 rfl (Nat.le_of_ble_eq_true rfl) dX2_depths_47 ⟨(show 0 + 1 + (g + 2) ≤ 1 + (g + 2) from by omega), (show 0 + (g + 2) + (g + 2) * (w + 2) ≤ (g + 2) + (g + 2) * (w + 2) from by omega)⟩ ?_
              refine W.eq (g2 := F0 m0 50 ls [.int (zI (isK w g P ((xx : Int) - 1) ((yy : Int) - 1)))]) rfl ?_
              refine tz_if_eq (tgt := 71) kx kb dX2_depths_50 (by decide) (fun h50 => ?_) (fun h50 => ?_)
              · refine ti_iinc (a := (xx : Int)) (lv' := [(4, .int (iI ((xx : Int) + 1))), (3, .int (iI (yy : Int))), (2, .ref q_1), (0, .ref a), (1, .int (zI ch))]) kx kb dX2_depths_71 hl (k := 0) rfl (by decide) rfl (fun ls hl => ?_)
                refine lv_goto (tgt := 30) kx kb dX2_depths_74 (by decide) ?_
                exact ih30 (xx + 1) d2 (by omega) (P1_no hp2 h50) (by omega) H locs hP hD hS ls hl
              · have hbu := mnU_rng (ch := ch) hp2.2 (x := xx) (y := yy) (by omega)
                refine lv_aload_n kx kb dX2_depths_53 rfl (lv_at hl 2 rfl) ?_
                refine lv_iload_n kx kb dX2_depths_54 rfl (lv_at hl 1 rfl) ?_
                refine ta_rald C hK hP 3 rfl yy (by omega) dX2_depths_55 ?_
                refine W.eq (g2 := F0 m0 56 ls [.ref (q_1 + 1 + yy)]) rfl ?_
                refine lv_iload kx kb dX2_depths_56 (lv_at hl 0 rfl) ?_
                refine lv_iconst (v := iI 1) kx kb dX2_depths_58 rfl ?_
                refine lv_aload_n kx kb dX2_depths_59 rfl (lv_at hl 2 rfl) ?_
                refine lv_iload kx kb dX2_depths_60 (lv_at hl 0 rfl) ?_
                refine lv_iload_n kx kb dX2_depths_62 rfl (lv_at hl 1 rfl) ?_
                refine lv_iload_n kx kb dX2_depths_63 rfl (lv_at hl 4 rfl) ?_
                refine lv_iconst (v := iI (-1)) kx kb dX2_depths_64 rfl ?_
                refine t_callRS C (met_X2_least_u l D E q_1 (g + 2) (w + 2) d2 xx yy ch (by omega) (by omega) (hp2.2)) (va_cwS 5 hts (lw_S q667 q668 q60 q669) rfl rfl rfl (by decide +kernel) ⟨Nat.le_of_ble_eq_true rfl, Nat.le_of_ble_eq_true rfl⟩) hK hX hP hD hS hA ([3] ++ List.range' 4 (rwP D q_1 (g + 2) (w + 2) d2).length) (pl_R (fx := [(a, .inr (2, [.int (iI ((w : Nat) : Int)), .int (iI ((g : Nat) : Int)), .ref b])), (b, .inr (3, [.ref v, .int (iI ((un P : Nat) : Int)), .int (zI false)])), (v, .inl (D.2 2, n, .inr (.inl (wd P)))), (q_1, .inl (D.2 4, g + 2, .inr (.inr (.inr (.inr (fun j_ => some (q_1 + 1 + j_)))))))]) (pool := rwP D q_1 (g + 2) (w + 2) d2) rfl) (pl_ndR (by decide) (by decide)) tYb_0 (fun _ _ _ => trivial)  rfl hl.1 rfl (Nat.le_of_ble_eq_true rfl) dX2_depths_65 ⟨(show 0 + 1 + (g + 2) ≤ 1 + (g + 2) from by omega), (show 0 + (g + 2) + (g + 2) * (w + 2) ≤ (g + 2) + (g + 2) * (w + 2) from by omega)⟩ ?_
                refine W.eq (g2 := F0 m0 68 ls [.int (iI (mnU ch d2 xx yy)), .int (iI 1), .int (iI (xx : Int)), .ref (q_1 + 1 + yy)]) rfl ?_
                refine ti_iadd kx kb dX2_depths_68 ?_
                refine ti_i2s kx kb (by omega) dX2_depths_69 ?_
                refine ta_rsast (fx := [(a, .inr (2, [.int (iI ((w : Nat) : Int)), .int (iI ((g : Nat) : Int)), .ref b])), (b, .inr (3, [.ref v, .int (iI ((un P : Nat) : Int)), .int (zI false)])), (v, .inl (D.2 2, n, .inr (.inl (wd P)))), (q_1, .inl (D.2 4, g + 2, .inr (.inr (.inr (.inr (fun j_ => some (q_1 + 1 + j_)))))))]) (q := q_1) (nR := g + 2) (mR := w + 2) (d := d2) C hK hP hD hS yy xx (by omega) (by omega) dX2_depths_70 (fun H locs hP hD hS => ?_)
                have hP : va_P D.1 clAll ([(a, .inr (2, [.int (iI ((w : Nat) : Int)), .int (iI ((g : Nat) : Int)), .ref b])), (b, .inr (3, [.ref v, .int (iI ((un P : Nat) : Int)), .int (zI false)])), (v, .inl (D.2 2, n, .inr (.inl (wd P)))), (q_1, .inl (D.2 4, g + 2, .inr (.inr (.inr (.inr (fun j_ => some (q_1 + 1 + j_)))))))] ++ (rwP D q_1 (g + 2) (w + 2) (up2 d2 yy xx (1 + (mnU ch d2 xx yy))))) H := hP
                have hD : va_D A ([(a, .inr (2, [.int (iI ((w : Nat) : Int)), .int (iI ((g : Nat) : Int)), .ref b])), (b, .inr (3, [.ref v, .int (iI ((un P : Nat) : Int)), .int (zI false)])), (v, .inl (D.2 2, n, .inr (.inl (wd P)))), (q_1, .inl (D.2 4, g + 2, .inr (.inr (.inr (.inr (fun j_ => some (q_1 + 1 + j_)))))))] ++ (rwP D q_1 (g + 2) (w + 2) (up2 d2 yy xx (1 + (mnU ch d2 xx yy))))) := hD
                refine ti_iinc (a := (xx : Int)) (lv' := [(4, .int (iI ((xx : Int) + 1))), (3, .int (iI (yy : Int))), (2, .ref q_1), (0, .ref a), (1, .int (zI ch))]) kx kb dX2_depths_71 hl (k := 0) rfl (by decide) rfl (fun ls hl => ?_)
                refine lv_goto (tgt := 30) kx kb dX2_depths_74 (by decide) ?_
                exact ih30 (xx + 1) (up2 d2 yy xx (1 + (mnU ch d2 xx yy))) (by omega) (P1_yes hp2 h50) (by omega) H locs hP hD hS ls hl
        exact cut30 ((w + 1 - 1) + 1) 1 d1 (by omega) (hp1) (Nat.lt_succ_self _) H locs hP hD hS ls hl
  exact cut19 ((g + 1 - 1) + 1) 1 (fun _ _ => 0) (by omega) (P1_0) (Nat.lt_succ_self _) H locs hP hD hS ls hl
