set_option maxRecDepth 100000
set_option maxHeartbeats 4000000 in
set_option maxRecDepth 100000 in
theorem met_X2_seen (l : Launch) (D : TG) (E : TE) (a : Nat) (b : Nat) (v : Nat) (n : Nat) (w : Nat) (g : Nat) (P : Nat → Bool) (x : Int) (y : Int) (ch : Bool) (hw : 1 ≤ w ∧ w ≤ 32) (hg : 1 ≤ g ∧ g ≤ 32) (hB : BB P n) (hxy : 0 ≤ x ∧ x < 32 ∧ 0 ≤ y ∧ y < 32) : tRd l yX2_seen cX2_seen 9 (some .int) 3 66 [.ref a, .int (iI x), .int (iI y), .int (zI ch)] D E [(a, .inr (2, [.int (iI ((w : Nat) : Int)), .int (iI ((g : Nat) : Int)), .ref b])), (b, .inr (3, [.ref v, .int (iI ((un P : Nat) : Int)), .int (zI false)])), (v, .inl (D.2 2, n, .inr (.inl (wd P))))] tY0 (some (.int (iI (lkA w g P x y ch (g + 2) 2147483647)))) := by
  refine tu_rd (by decide +kernel) (Nat.le_of_ble_eq_true rfl) ?_
  intro p0 e0 s0 m0 below meth c0 A ls args Q hag hQ C hK hX hY hP hD hA hAe hl
  obtain ⟨kx, kb, hml, hown, hts, -⟩ := id C
  have hS : va_S A s0.heap s0.heap [] := va_S.rf
  have hl : lv_has ls 9 [(0, .ref a), (1, .int (iI x)), (2, .int (iI y)), (3, .int (zI ch))] := hl
  have hwg := wg_le hw hg
  have hBn := hB.1
  have hBm := hB.2.1
  have hul := un_le hB
  refine lv_ldc (v := iI 2147483647) kx kb hown (hts _ q994) dX2_seen_0 ?_
  refine lv_istore (lv' := [(4, .int (iI 2147483647)), (0, .ref a), (1, .int (iI x)), (2, .int (iI y)), (3, .int (zI ch))]) kx kb dX2_seen_2 hl (by decide) rfl (fun ls hl => ?_)
  refine lv_iconst (v := iI (-1)) kx kb dX2_seen_4 rfl ?_
  refine lv_istore (lv' := [(5, .int (iI (-1))), (4, .int (iI 2147483647)), (0, .ref a), (1, .int (iI x)), (2, .int (iI y)), (3, .int (zI ch))]) kx kb dX2_seen_5 hl (by decide) rfl (fun ls hl => ?_)
  have cut7 : ∀ (fuel : Nat) (r : Int) (m : Int) (i : Nat), (r = (i : Int) - 1 ∧ i ≤ g + 2) → (m = lkA w g P x y ch i 2147483647) → (g + 2 - i) < fuel → ∀ ls : Array Slot, lv_has ls 9 [(5, .int (iI r)), (4, .int (iI m)), (0, .ref a), (1, .int (iI x)), (2, .int (iI y)), (3, .int (zI ch))] → W p0 l e0 ({ frames := 3, cells := 0, slots := 0, locals := 66 } : Room) s0 m0 args below meth c0 s0.heap [] (0) (0) Q (F0 m0 7 ls []) := by
    intro fuel
    induction fuel with
    | zero =>
      intro r m i hr hm hfuel7
      exact absurd hfuel7 (Nat.not_lt_zero _)
    | succ fuel ih7 =>
      intro r m i hr hm hfuel7  ls hl
      have hlr := lkA_rng w g P x y ch i 2147483647 (by decide)
      refine lv_iload kx kb dX2_seen_7 (lv_at hl 0 rfl) ?_
      refine lv_aload_n kx kb dX2_seen_9 rfl (lv_at hl 2 rfl) ?_
      refine va_get (D := D.1) (ci := 2) (v := .int (iI ((g : Nat) : Int))) (C := RX2) (T := TX2) (N := 3) kx kb hts in_X2 hown hK hP 0 rfl rfl 1 (by decide) (hts _ q139) (fun _ h9 => h9) rfl dX2_seen_10 ?_
      refine ti_icmp_gt (tgt := 98) kx kb (by omega) dX2_seen_13 (by decide) (fun h13 => ?_) (fun h13 => ?_)
      · refine lv_iload kx kb dX2_seen_98 (lv_at hl 1 rfl) ?_
        subst hQ
        exact tr_iret C rfl (by rw [hm, show i = g + 2 from by omega]) dX2_seen_100
      · refine lv_iconst (v := iI (-1)) kx kb dX2_seen_16 rfl ?_
        refine lv_istore (lv' := [(6, .int (iI (-1))), (5, .int (iI r)), (4, .int (iI m)), (0, .ref a), (1, .int (iI x)), (2, .int (iI y)), (3, .int (zI ch))]) kx kb dX2_seen_17 hl (by decide) rfl (fun ls hl => ?_)
        have cut19 : ∀ (fuel : Nat) (cc_ : Int) (m2 : Int) (q : Nat), (cc_ = (q : Int) - 1 ∧ q ≤ w + 2) → (m2 = lkR w g P x y ch ((i : Int) - 1) q m) → (w + 2 - q) < fuel → ∀ ls : Array Slot, lv_has ls 9 [(6, .int (iI cc_)), (5, .int (iI r)), (4, .int (iI m2)), (0, .ref a), (1, .int (iI x)), (2, .int (iI y)), (3, .int (zI ch))] → W p0 l e0 ({ frames := 3, cells := 0, slots := 0, locals := 66 } : Room) s0 m0 args below meth c0 s0.heap [] (0) (0) Q (F0 m0 19 ls []) := by
          intro fuel
          induction fuel with
          | zero =>
            intro cc_ m2 q hq hm2 hfuel19
            exact absurd hfuel19 (Nat.not_lt_zero _)
          | succ fuel ih19 =>
            intro cc_ m2 q hq hm2 hfuel19  ls hl
            have hl2 := lkR_rng w g P x y ch ((i : Int) - 1) q m (by omega)
            refine lv_iload kx kb dX2_seen_19 (lv_at hl 0 rfl) ?_
            refine lv_aload_n kx kb dX2_seen_21 rfl (lv_at hl 3 rfl) ?_
            refine va_get (D := D.1) (ci := 2) (v := .int (iI ((w : Nat) : Int))) (C := RX2) (T := TX2) (N := 3) kx kb hts in_X2 hown hK hP 0 rfl rfl 0 (by decide) (hts _ q137) (fun _ h9 => h9) rfl dX2_seen_22 ?_
            refine ti_icmp_gt (tgt := 92) kx kb (by omega) dX2_seen_25 (by decide) (fun h25 => ?_) (fun h25 => ?_)
            · refine ti_iinc (a := r) (lv' := [(5, .int (iI (r + 1))), (6, .int (iI cc_)), (4, .int (iI m2)), (0, .ref a), (1, .int (iI x)), (2, .int (iI y)), (3, .int (zI ch))]) kx kb dX2_seen_92 hl (k := 1) rfl (by decide) rfl (fun ls hl => ?_)
              refine lv_goto (tgt := 7) kx kb dX2_seen_95 (by decide) ?_
              exact ih7 (r + 1) m2 (i + 1) (by omega) (by rw [lkA, hm2, hm, show q = w + 2 from by omega]) (by omega) ls (lv_sub hl [0, 2, 3, 4, 5, 6] rfl)
            · refine lv_aload_n kx kb dX2_seen_28 rfl (lv_at hl 3 rfl) ?_
              refine lv_iload kx kb dX2_seen_29 (lv_at hl 0 rfl) ?_
              refine lv_iload kx kb dX2_seen_31 (lv_at hl 1 rfl) ?_
              refine t_callRV C (met_X2_has l D E a b v n w g P cc_ r (by first | assumption | omega) (by first | assumption | omega) (by first | assumption | omega) (by first | assumption | omega) (by first | assumption | omega)) (cwV 2 hts (lw_V q608 q609 q610 q60 q611) rfl rfl rfl (by decide +kernel) ⟨Nat.le_of_ble_eq_true rfl, Nat.le_of_ble_eq_true rfl⟩) (va_recv hK hP (ci := 2) (q0 := 0) rfl rfl) hK hX hP hD hS hA [0, 1, 2] rfl (by decide) tYb_0 (fun _ _ _ => trivial) rfl hl.1 rfl (Nat.le_of_ble_eq_true rfl) dX2_seen_33 ⟨(show 0 ≤ 0 from by omega), (show 0 ≤ 0 from by omega)⟩ ?_
              refine W.eq (g2 := F0 m0 36 ls [.int (zI (isK w g P cc_ r))]) rfl ?_
              refine tz_if_eq (tgt := 42) kx kb dX2_seen_36 (by decide) (fun h36 => ?_) (fun h36 => ?_)
              · have ht1 := tabs_pos (x - cc_)
                have ht2 := tabs_pos (y - r)
                have ht3 : tabs (x - cc_) < 2000 := by unfold tabs; split <;> omega
                have ht4 : tabs (y - r) < 2000 := by unfold tabs; split <;> omega
                refine lv_iload_n kx kb dX2_seen_42 rfl (lv_at hl 4 rfl) ?_
                refine lv_iload kx kb dX2_seen_43 (lv_at hl 0 rfl) ?_
                refine ti_isub kx kb dX2_seen_45 ?_
                refine ti_mabs kx kb (hml.trans hl.1.symm) hown (hts _ q995) (hts _ q996) (hts _ q74) (hts _ q997) (Nat.le_of_ble_eq_true rfl) (Nat.le_of_ble_eq_true rfl) (show 0 ≤ 0 from by omega) (show 0 ≤ 0 from by omega) (by omega) dX2_seen_46 ?_
                refine lv_istore (lv' := [(7, .int (iI (tabs (x - cc_)))), (6, .int (iI cc_)), (5, .int (iI r)), (4, .int (iI m2)), (0, .ref a), (1, .int (iI x)), (2, .int (iI y)), (3, .int (zI ch))]) kx kb dX2_seen_49 hl (by decide) rfl (fun ls hl => ?_)
                refine lv_iload_n kx kb dX2_seen_51 rfl (lv_at hl 6 rfl) ?_
                refine lv_iload kx kb dX2_seen_52 (lv_at hl 2 rfl) ?_
                refine ti_isub kx kb dX2_seen_54 ?_
                refine ti_mabs kx kb (hml.trans hl.1.symm) hown (hts _ q995) (hts _ q996) (hts _ q74) (hts _ q997) (Nat.le_of_ble_eq_true rfl) (Nat.le_of_ble_eq_true rfl) (show 0 ≤ 0 from by omega) (show 0 ≤ 0 from by omega) (by omega) dX2_seen_55 ?_
                refine lv_istore (lv' := [(8, .int (iI (tabs (y - r)))), (7, .int (iI (tabs (x - cc_)))), (6, .int (iI cc_)), (5, .int (iI r)), (4, .int (iI m2)), (0, .ref a), (1, .int (iI x)), (2, .int (iI y)), (3, .int (zI ch))]) kx kb dX2_seen_58 hl (by decide) rfl (fun ls hl => ?_)
                refine lv_iload kx kb dX2_seen_60 (lv_at hl 4 rfl) ?_
                refine lv_iload_n kx kb dX2_seen_62 rfl (lv_at hl 8 rfl) ?_
                refine tz_if_eq (tgt := 76) kx kb dX2_seen_63 (by decide) (fun h63 => ?_) (fun h63 => ?_)
                · refine lv_iload kx kb dX2_seen_76 (lv_at hl 1 rfl) ?_
                  refine lv_iload kx kb dX2_seen_78 (lv_at hl 0 rfl) ?_
                  refine ti_iadd kx kb dX2_seen_80 ?_
                  refine ti_mmin kx kb (hml.trans hl.1.symm) hown (hts _ q670) (hts _ q290) (hts _ q74) (hts _ q291) (Nat.le_of_ble_eq_true rfl) (Nat.le_of_ble_eq_true rfl) (show 0 ≤ 0 from by omega) (show 0 ≤ 0 from by omega) (by omega) dX2_seen_81 ?_
                  refine lv_istore (lv' := [(4, .int (iI (min m2 ((tabs (x - cc_)) + (tabs (y - r)))))), (8, .int (iI (tabs (y - r)))), (7, .int (iI (tabs (x - cc_)))), (6, .int (iI cc_)), (5, .int (iI r)), (0, .ref a), (1, .int (iI x)), (2, .int (iI y)), (3, .int (zI ch))]) kx kb dX2_seen_84 hl (by decide) rfl (fun ls hl => ?_)
                  refine ti_iinc (a := cc_) (lv' := [(6, .int (iI (cc_ + 1))), (4, .int (iI (min m2 ((tabs (x - cc_)) + (tabs (y - r)))))), (8, .int (iI (tabs (y - r)))), (7, .int (iI (tabs (x - cc_)))), (5, .int (iI r)), (0, .ref a), (1, .int (iI x)), (2, .int (iI y)), (3, .int (zI ch))]) kx kb dX2_seen_86 hl (k := 3) rfl (by decide) rfl (fun ls hl => ?_)
                  refine lv_goto (tgt := 19) kx kb dX2_seen_89 (by decide) ?_
                  exact ih19 (cc_ + 1) (min m2 ((tabs (x - cc_)) + (tabs (y - r)))) (q + 1) (by omega) (by rw [lkR, show ((q : Nat) : Int) - 1 = cc_ from by omega, show ((i : Nat) : Int) - 1 = r from by omega, h36, if_neg (by decide), ← show ((i : Nat) : Int) - 1 = r from by omega, ← hm2, dstC, h63]; rw [tabs_sub cc_ x, show ((i : Nat) : Int) - 1 = r from by omega, tabs_sub r y]; rfl) (by omega) ls (lv_sub hl [0, 4, 1, 5, 6, 7, 8] rfl)
                · refine lv_iload kx kb dX2_seen_66 (lv_at hl 1 rfl) ?_
                  refine lv_iload kx kb dX2_seen_68 (lv_at hl 0 rfl) ?_
                  refine ti_mmax kx kb (hml.trans hl.1.symm) hown (hts _ q998) (hts _ q272) (hts _ q74) (hts _ q273) (Nat.le_of_ble_eq_true rfl) (Nat.le_of_ble_eq_true rfl) (show 0 ≤ 0 from by omega) (show 0 ≤ 0 from by omega) (by omega) dX2_seen_70 ?_
                  refine lv_goto (tgt := 81) kx kb dX2_seen_73 (by decide) ?_
                  refine ti_mmin kx kb (hml.trans hl.1.symm) hown (hts _ q670) (hts _ q290) (hts _ q74) (hts _ q291) (Nat.le_of_ble_eq_true rfl) (Nat.le_of_ble_eq_true rfl) (show 0 ≤ 0 from by omega) (show 0 ≤ 0 from by omega) (by omega) dX2_seen_81 ?_
                  refine lv_istore (lv' := [(4, .int (iI (min m2 (max (tabs (x - cc_)) (tabs (y - r)))))), (8, .int (iI (tabs (y - r)))), (7, .int (iI (tabs (x - cc_)))), (6, .int (iI cc_)), (5, .int (iI r)), (0, .ref a), (1, .int (iI x)), (2, .int (iI y)), (3, .int (zI ch))]) kx kb dX2_seen_84 hl (by decide) rfl (fun ls hl => ?_)
                  refine ti_iinc (a := cc_) (lv' := [(6, .int (iI (cc_ + 1))), (4, .int (iI (min m2 (max (tabs (x - cc_)) (tabs (y - r)))))), (8, .int (iI (tabs (y - r)))), (7, .int (iI (tabs (x - cc_)))), (5, .int (iI r)), (0, .ref a), (1, .int (iI x)), (2, .int (iI y)), (3, .int (zI ch))]) kx kb dX2_seen_86 hl (k := 3) rfl (by decide) rfl (fun ls hl => ?_)
                  refine lv_goto (tgt := 19) kx kb dX2_seen_89 (by decide) ?_
                  exact ih19 (cc_ + 1) (min m2 (max (tabs (x - cc_)) (tabs (y - r)))) (q + 1) (by omega) (by rw [lkR, show ((q : Nat) : Int) - 1 = cc_ from by omega, show ((i : Nat) : Int) - 1 = r from by omega, h36, if_neg (by decide), ← show ((i : Nat) : Int) - 1 = r from by omega, ← hm2, dstC, h63]; rw [tabs_sub cc_ x, show ((i : Nat) : Int) - 1 = r from by omega, tabs_sub r y]; rfl) (by omega) ls (lv_sub hl [0, 4, 1, 5, 6, 7, 8] rfl)
              · refine lv_goto (tgt := 86) kx kb dX2_seen_39 (by decide) ?_
                refine ti_iinc (a := cc_) (lv' := [(6, .int (iI (cc_ + 1))), (5, .int (iI r)), (4, .int (iI m2)), (0, .ref a), (1, .int (iI x)), (2, .int (iI y)), (3, .int (zI ch))]) kx kb dX2_seen_86 hl (k := 0) rfl (by decide) rfl (fun ls hl => ?_)
                refine lv_goto (tgt := 19) kx kb dX2_seen_89 (by decide) ?_
                exact ih19 (cc_ + 1) m2 (q + 1) (by omega) (by rw [lkR, show ((q : Nat) : Int) - 1 = cc_ from by omega, show ((i : Nat) : Int) - 1 = r from by omega, h36, if_pos rfl, ← show ((i : Nat) : Int) - 1 = r from by omega, ← hm2]) (by omega) ls hl
        exact cut19 ((w + 2 - 0) + 1) (-1) m 0 (by omega) (by rfl) (Nat.lt_succ_self _) ls hl
  exact cut7 ((g + 2 - 0) + 1) (-1) 2147483647 0 (by omega) (by rfl) (Nat.lt_succ_self _) ls hl
