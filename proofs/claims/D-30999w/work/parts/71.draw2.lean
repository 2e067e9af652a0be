set_option maxRecDepth 100000
set_option maxHeartbeats 4000000 in
set_option maxRecDepth 100000 in
theorem met_X2_drawLine (l : Launch) (D : TG) (E : TE) (a : Nat) (b : Nat) (v : Nat) (n : Nat) (w : Nat) (g : Nat) (P : Nat → Bool) (x1 : Int) (y1 : Int) (x2 : Int) (y2 : Int) (q : Nat) (z : Bool) (hw : 1 ≤ w ∧ w ≤ 32) (hg : 1 ≤ g ∧ g ≤ 32) (hB : BB P n) (rx1 : -40 ≤ x1 ∧ x1 ≤ 72) (ry1 : -40 ≤ y1 ∧ y1 ≤ 72) (rx2 : -40 ≤ x2 ∧ x2 ≤ 72) (ry2 : -40 ≤ y2 ∧ y2 ≤ 72) : tMet l yX2_drawLine cX2_drawLine 12 none 12 400 (29) (58) [.ref a, .int (iI x1), .int (iI y1), .int (iI x2), .int (iI y2), .ref q] D E [(a, .inr (2, [.int (iI ((w : Nat) : Int)), .int (iI ((g : Nat) : Int)), .ref b])), (b, .inr (3, [.ref v, .int (iI ((un P : Nat) : Int)), .int (zI false)])), (v, .inl (D.2 2, n, .inr (.inl (wd P))))] (tYpen E a z q) (S := Nat × Nat) (fun u_ => BB (drwL w g z (lnL x1 y1 x2 y2) P) u_.2) (fun u_ => none) (fun u_ => [(a, .inr (2, [.int (iI ((w : Nat) : Int)), .int (iI ((g : Nat) : Int)), .ref b])), (b, .inr (3, [.ref u_.1, .int (iI ((un (drwL w g z (lnL x1 y1 x2 y2) P) : Nat) : Int)), .int (zI false)])), (u_.1, .inl (D.2 2, u_.2, .inr (.inl (wd (drwL w g z (lnL x1 y1 x2 y2) P)))))]) := by
  refine tu_met (by decide +kernel) (Nat.le_of_ble_eq_true rfl) ?_
  intro p0 e0 s0 m0 below meth c0 A ls args Q hag hQ C hK hX hY hP hD hA hAe hl
  obtain ⟨kx, kb, hml, hown, hts, -⟩ := id C
  have hS : va_S A s0.heap s0.heap [] := va_S.rf
  have hl : lv_has ls 12 [(0, .ref a), (1, .int (iI x1)), (2, .int (iI y1)), (3, .int (iI x2)), (4, .int (iI y2)), (5, .ref q)] := hl
  have hwg := wg_le hw hg
  have hBn := hB.1
  have hBm := hB.2.1
  have hul := un_le hB
  refine lv_iload_n kx kb dX2_drawLine_0 rfl (lv_at hl 1 rfl) ?_
  refine lv_iload_n kx kb dX2_drawLine_1 rfl (lv_at hl 3 rfl) ?_
  refine ti_isub kx kb dX2_drawLine_2 ?_
  refine ti_mabs kx kb (hml.trans hl.1.symm) hown (hts _ q995) (hts _ q996) (hts _ q74) (hts _ q997) (Nat.le_of_ble_eq_true rfl) (Nat.le_of_ble_eq_true rfl) (show 0 ≤ 29 from by omega) (show 0 ≤ 58 from by omega) (by omega) dX2_drawLine_3 ?_
  refine lv_istore (lv' := [(6, .int (iI (tabs (x1 - x2)))), (0, .ref a), (1, .int (iI x1)), (2, .int (iI y1)), (3, .int (iI x2)), (4, .int (iI y2)), (5, .ref q)]) kx kb dX2_drawLine_6 hl (by decide) rfl (fun ls hl => ?_)
  refine lv_iload_n kx kb dX2_drawLine_8 rfl (lv_at hl 3 rfl) ?_
  refine lv_iload kx kb dX2_drawLine_9 (lv_at hl 5 rfl) ?_
  refine ti_isub kx kb dX2_drawLine_11 ?_
  refine ti_mabs kx kb (hml.trans hl.1.symm) hown (hts _ q995) (hts _ q996) (hts _ q74) (hts _ q997) (Nat.le_of_ble_eq_true rfl) (Nat.le_of_ble_eq_true rfl) (show 0 ≤ 29 from by omega) (show 0 ≤ 58 from by omega) (by omega) dX2_drawLine_12 ?_
  refine lv_istore (lv' := [(7, .int (iI (tabs (y1 - y2)))), (6, .int (iI (tabs (x1 - x2)))), (0, .ref a), (1, .int (iI x1)), (2, .int (iI y1)), (3, .int (iI x2)), (4, .int (iI y2)), (5, .ref q)]) kx kb dX2_drawLine_15 hl (by decide) rfl (fun ls hl => ?_)
  refine lv_iload kx kb dX2_drawLine_17 (lv_at hl 1 rfl) ?_
  have hdx : tabs (x1 - x2) = ((x2 - x1).natAbs : Int) := by rw [tabs_nat]; omega
  have hdy : tabs (y1 - y2) = ((y2 - y1).natAbs : Int) := by rw [tabs_nat]; omega
  refine lv_iload kx kb dX2_drawLine_19 (lv_at hl 0 rfl) ?_
  refine ti_isub kx kb dX2_drawLine_21 ?_
  refine lv_istore (lv' := [(8, .int (iI ((tabs (x1 - x2)) - (tabs (y1 - y2))))), (7, .int (iI (tabs (y1 - y2)))), (6, .int (iI (tabs (x1 - x2)))), (0, .ref a), (1, .int (iI x1)), (2, .int (iI y1)), (3, .int (iI x2)), (4, .int (iI y2)), (5, .ref q)]) kx kb dX2_drawLine_22 hl (by decide) rfl (fun ls hl => ?_)
  refine lv_iload_n kx kb dX2_drawLine_24 rfl (lv_at hl 4 rfl) ?_
  refine lv_istore (lv' := [(9, .int (iI x1)), (8, .int (iI ((tabs (x1 - x2)) - (tabs (y1 - y2))))), (7, .int (iI (tabs (y1 - y2)))), (6, .int (iI (tabs (x1 - x2)))), (0, .ref a), (1, .int (iI x1)), (2, .int (iI y1)), (3, .int (iI x2)), (4, .int (iI y2)), (5, .ref q)]) kx kb dX2_drawLine_25 hl (by decide) rfl (fun ls hl => ?_)
  refine lv_iload_n kx kb dX2_drawLine_27 rfl (lv_at hl 6 rfl) ?_
  refine lv_istore (lv' := [(10, .int (iI y1)), (9, .int (iI x1)), (8, .int (iI ((tabs (x1 - x2)) - (tabs (y1 - y2))))), (7, .int (iI (tabs (y1 - y2)))), (6, .int (iI (tabs (x1 - x2)))), (0, .ref a), (1, .int (iI x1)), (2, .int (iI y1)), (3, .int (iI x2)), (4, .int (iI y2)), (5, .ref q)]) kx kb dX2_drawLine_28 hl (by decide) rfl (fun ls hl => ?_)
  have cut30 : ∀ (fuel : Nat) (ca : Nat) (cb : Nat) (f : Nat) (e : Int) (x : Int) (y : Int) (sv : Nat) (nd : Nat) (k1 : Nat → Bool), (ca ≤ (x2 - x1).natAbs) → (cb ≤ (y2 - y1).natAbs) → (((x2 - x1).natAbs - ca) + ((y2 - y1).natAbs - cb) ≤ f) → (e = lnE (x2 - x1).natAbs (y2 - y1).natAbs ca cb) → (x = x1 + tsg (x2 - x1) * (ca : Int)) → (y = y1 + tsg (y2 - y1) * (cb : Int)) → (drwL w g z ((x, y) :: lnT x1 y1 (tsg (x2 - x1)) (tsg (y2 - y1)) (x2 - x1).natAbs (y2 - y1).natAbs f ca cb) k1 = drwL w g z (lnL x1 y1 x2 y2) P) → (BB k1 nd) → (n ≤ nd) → (((x2 - x1).natAbs - ca) + ((y2 - y1).natAbs - cb)) < fuel → ∀ (H : Heap) (locs : List Loc), va_P D.1 clAll [(a, .inr (2, [.int (iI ((w : Nat) : Int)), .int (iI ((g : Nat) : Int)), .ref b])), (b, .inr (3, [.ref sv, .int (iI ((un k1 : Nat) : Int)), .int (zI false)])), (sv, .inl (D.2 2, nd, .inr (.inl (wd k1))))] H → va_D A [(a, .inr (2, [.int (iI ((w : Nat) : Int)), .int (iI ((g : Nat) : Int)), .ref b])), (b, .inr (3, [.ref sv, .int (iI ((un k1 : Nat) : Int)), .int (zI false)])), (sv, .inl (D.2 2, nd, .inr (.inl (wd k1))))] → va_S A s0.heap H locs → ∀ ls : Array Slot, lv_has ls 12 [(10, .int (iI y)), (9, .int (iI x)), (8, .int (iI e)), (7, .int (iI (tabs (y1 - y2)))), (6, .int (iI (tabs (x1 - x2)))), (0, .ref a), (1, .int (iI x1)), (2, .int (iI y1)), (3, .int (iI x2)), (4, .int (iI y2)), (5, .ref q)] → W p0 l e0 ({ frames := 12, cells := 29, slots := 58, locals := 400 } : Room) s0 m0 args below meth c0 H locs (nd - n) (2 * (nd - n)) Q (F0 m0 30 ls []) := by
    intro fuel
    induction fuel with
    | zero =>
      intro ca cb f e x y sv nd k1 ha hb hf he hx hy hT hBk hnn hfuel30
      exact absurd hfuel30 (Nat.not_lt_zero _)
    | succ fuel ih30 =>
      intro ca cb f e x y sv nd k1 ha hb hf he hx hy hT hBk hnn hfuel30 H locs hP hD hS ls hl
      have hta := tsg_mul (x2 - x1) ca
      have htb := tsg_mul (y2 - y1) cb
      have hrg := lnE_rng (a := ca) (b := cb) (dx := (x2 - x1).natAbs) (dy := (y2 - y1).natAbs) (by omega) (by omega) ha hb
      have hdx : tabs (x1 - x2) = ((x2 - x1).natAbs : Int) := by rw [tabs_nat]; omega
      have hdy : tabs (y1 - y2) = ((y2 - y1).natAbs : Int) := by rw [tabs_nat]; omega
      have hea := tsg_end ha
      have heb := tsg_end hb
      have hdc := dN_cost w g x y z nd
      have hBd := drw_BB (x := x) (y := y) (z := z) hwg hBk
      have hBd2 := hBd.2.1
      refine lv_aload kx kb dX2_drawLine_30 (lv_at hl 10 rfl) ?_
      refine lv_iload kx kb dX2_drawLine_32 (lv_at hl 1 rfl) ?_
      refine lv_iload kx kb dX2_drawLine_34 (lv_at hl 0 rfl) ?_
      refine t_callDraw (wr := []) C hY q1246 (met_X2_lambda_pen_0 l D E a b sv nd w g k1 z x y (by first | assumption | omega) (by first | assumption | omega) (by first | assumption | omega) (by first | assumption | omega) (by first | assumption | omega)) (fun _ => rfl) ⟨Nat.le_of_ble_eq_true rfl, Nat.le_of_ble_eq_true rfl⟩  (va_recv hK hP (ci := 2) (q0 := 0) rfl rfl) hK hX hP hD hS hA [0, 1, 2] [] rfl rfl (by decide) (by decide) (by decide)  hl.1 rfl (Nat.le_of_ble_eq_true rfl) dX2_drawLine_36 ⟨(show nd - n + (dN w g x y z nd - nd) ≤ 29 from by omega), (show 2 * (nd - n) + (2 * (dN w g x y z nd - nd)) ≤ 58 from by omega)⟩ (fun u_ H locs hp hP hD hS => ?_)
      obtain ⟨w2_1, rfl⟩ : ∃ z, z = u_ := ⟨_, rfl⟩
      have hP : va_P D.1 clAll [(a, .inr (2, [.int (iI ((w : Nat) : Int)), .int (iI ((g : Nat) : Int)), .ref b])), (b, .inr (3, [.ref w2_1, .int (iI ((un (drw w g x y z k1) : Nat) : Int)), .int (zI false)])), (w2_1, .inl (D.2 2, dN w g x y z nd, .inr (.inl (wd (drw w g x y z k1)))))] H := hP
      have hD : va_D A [(a, .inr (2, [.int (iI ((w : Nat) : Int)), .int (iI ((g : Nat) : Int)), .ref b])), (b, .inr (3, [.ref w2_1, .int (iI ((un (drw w g x y z k1) : Nat) : Int)), .int (zI false)])), (w2_1, .inl (D.2 2, dN w g x y z nd, .inr (.inl (wd (drw w g x y z k1)))))] := hD
      refine W.eq (g2 := F0 m0 41 ls []) rfl ?_
      refine W.widen (k := nd - n + (dN w g x y z nd - nd)) (n := 2 * (nd - n) + (2 * (dN w g x y z nd - nd))) (Nat.le_refl _) (Nat.le_refl _) ?_
      refine lv_iload kx kb dX2_drawLine_41 (lv_at hl 1 rfl) ?_
      refine lv_iload_n kx kb dX2_drawLine_43 rfl (lv_at hl 8 rfl) ?_
      refine ti_icmp_ne (tgt := 55) kx kb (by omega) dX2_drawLine_44 (by decide) (fun h44 => ?_) (fun h44 => ?_)
      · have htl := tsg_left ha
        have htl2 := tsg_left hb
        have hnd : ¬ (ca = (x2 - x1).natAbs ∧ cb = (y2 - y1).natAbs) := by omega
        have hst := ln_step ha hb hnd
        obtain ⟨f2, hf2, hgo⟩ := lnT_go (x1 := x1) (y1 := y1) (sx := tsg (x2 - x1)) (sy := tsg (y2 - y1)) ha hb hnd hf
        refine lv_iconst (v := iI 2) kx kb dX2_drawLine_55 rfl ?_
        refine lv_iload kx kb dX2_drawLine_56 (lv_at hl 2 rfl) ?_
        refine ti_imul kx kb dX2_drawLine_58 ?_
        refine lv_istore (lv' := [(11, .int (iI (2 * e))), (10, .int (iI y)), (9, .int (iI x)), (8, .int (iI e)), (7, .int (iI (tabs (y1 - y2)))), (6, .int (iI (tabs (x1 - x2)))), (0, .ref a), (1, .int (iI x1)), (2, .int (iI y1)), (3, .int (iI x2)), (4, .int (iI y2)), (5, .ref q)]) kx kb dX2_drawLine_59 hl (by decide) rfl (fun ls hl => ?_)
        refine lv_iload kx kb dX2_drawLine_61 (lv_at hl 0 rfl) ?_
        refine lv_iload kx kb dX2_drawLine_63 (lv_at hl 4 rfl) ?_
        refine ti_ineg kx kb dX2_drawLine_65 ?_
        refine ti_icmp_le (tgt := 88) kx kb (by omega) dX2_drawLine_66 (by decide) (fun h66 => ?_) (fun h66 => ?_)
        · refine lv_iload kx kb dX2_drawLine_88 (lv_at hl 0 rfl) ?_
          refine lv_iload kx kb dX2_drawLine_90 (lv_at hl 5 rfl) ?_
          refine ti_icmp_ge (tgt := 115) kx kb (by omega) dX2_drawLine_92 (by decide) (fun h92 => ?_) (fun h92 => ?_)
          · omega
          · refine lv_iload kx kb dX2_drawLine_95 (lv_at hl 3 rfl) ?_
            refine lv_iload kx kb dX2_drawLine_97 (lv_at hl 5 rfl) ?_
            refine ti_iadd kx kb dX2_drawLine_99 ?_
            refine lv_istore (lv' := [(8, .int (iI (e + (tabs (x1 - x2))))), (11, .int (iI (2 * e))), (10, .int (iI y)), (9, .int (iI x)), (7, .int (iI (tabs (y1 - y2)))), (6, .int (iI (tabs (x1 - x2)))), (0, .ref a), (1, .int (iI x1)), (2, .int (iI y1)), (3, .int (iI x2)), (4, .int (iI y2)), (5, .ref q)]) kx kb dX2_drawLine_100 hl (by decide) rfl (fun ls hl => ?_)
            refine lv_iload kx kb dX2_drawLine_102 (lv_at hl 2 rfl) ?_
            refine lv_iload kx kb dX2_drawLine_104 (lv_at hl 10 rfl) ?_
            refine lv_iload kx kb dX2_drawLine_106 (lv_at hl 2 rfl) ?_
            refine ti_isub kx kb dX2_drawLine_108 ?_
            refine t_callRS C (met_J17_signum l D E (y2 - y) (by first | assumption | omega)) (va_cwS 1 hts (lw_S q1249 q1250 q80 q1251) rfl rfl rfl (by decide +kernel) ⟨Nat.le_of_ble_eq_true rfl, Nat.le_of_ble_eq_true rfl⟩) hK hX hP hD hS hA [] rfl (by decide) tYb_0 (fun _ _ _ => trivial) rfl hl.1 rfl (Nat.le_of_ble_eq_true rfl) dX2_drawLine_109 ⟨(show nd - n + (dN w g x y z nd - nd) ≤ 29 from by omega), (show 2 * (nd - n) + (2 * (dN w g x y z nd - nd)) ≤ 58 from by omega)⟩ ?_
            refine W.eq (g2 := F0 m0 112 ls [.int (iI (tsg (y2 - y))), .int (iI y)]) rfl ?_
            have hsy : tsg (y2 - y) = tsg (y2 - y1) := by rw [show y2 - y = (y2 - y1) - tsg (y2 - y1) * (cb : Int) from by omega]; exact tsg_mid (ln_b ha hb hnd (by omega))
            refine ti_iadd kx kb dX2_drawLine_112 ?_
            refine lv_istore (lv' := [(10, .int (iI (y + (tsg (y2 - y))))), (8, .int (iI (e + (tabs (x1 - x2))))), (11, .int (iI (2 * e))), (9, .int (iI x)), (7, .int (iI (tabs (y1 - y2)))), (6, .int (iI (tabs (x1 - x2)))), (0, .ref a), (1, .int (iI x1)), (2, .int (iI y1)), (3, .int (iI x2)), (4, .int (iI y2)), (5, .ref q)]) kx kb dX2_drawLine_113 hl (by decide) rfl (fun ls hl => ?_)
            have hqa : lnA (x2 - x1).natAbs (y2 - y1).natAbs ca cb = ca := by unfold lnA; rw [if_neg (by omega)]
            have hqb : lnB (x2 - x1).natAbs (y2 - y1).natAbs ca cb = cb + 1 := by unfold lnB; rw [if_pos (by omega)]
            have hX2 : x = x1 + tsg (x2 - x1) * ((lnA (x2 - x1).natAbs (y2 - y1).natAbs ca cb : Nat) : Int) := by rw [hqa, hx]
            have hY2 : y + (tsg (y2 - y)) = y1 + tsg (y2 - y1) * ((lnB (x2 - x1).natAbs (y2 - y1).natAbs ca cb : Nat) : Int) := by rw [hqb, hsy, hy]; rw [Int.natCast_add, Int.mul_add]; omega
            have hE : e + (tabs (x1 - x2)) = lnE (x2 - x1).natAbs (y2 - y1).natAbs (lnA (x2 - x1).natAbs (y2 - y1).natAbs ca cb) (lnB (x2 - x1).natAbs (y2 - y1).natAbs ca cb) := by rw [hqa, hqb]; rw [lnE_b]; omega
            have hta2 := tsg_mul (x2 - x1) (lnA (x2 - x1).natAbs (y2 - y1).natAbs ca cb)
            have htb2 := tsg_mul (y2 - y1) (lnB (x2 - x1).natAbs (y2 - y1).natAbs ca cb)
            have hst1 := hst.1
            have hst2 := hst.2.1
            have hst3 := hst.2.2
            refine lv_goto (tgt := 30) kx kb dX2_drawLine_115 (by decide) ?_
            refine W.widen (k := (dN w g x y z nd) - n) (n := 2 * ((dN w g x y z nd) - n)) (by omega) (by omega) ?_
            exact ih30 (lnA (x2 - x1).natAbs (y2 - y1).natAbs ca cb) (lnB (x2 - x1).natAbs (y2 - y1).natAbs ca cb) f2 (e + (tabs (x1 - x2))) x (y + (tsg (y2 - y))) w2_1 (dN w g x y z nd) (drw w g x y z k1) (hst.1) (hst.2.1) (by omega) (by exact hE) (by exact hX2) (by exact hY2) (by rw [hgo] at hT; rw [← hX2, ← hY2] at hT; exact hT) (hBd) (by omega) (by omega) H locs hP hD hS ls (lv_sub hl [0, 3, 1, 4, 5, 6, 7, 8, 9, 10, 11] rfl)
        · refine lv_iload kx kb dX2_drawLine_69 (lv_at hl 3 rfl) ?_
          refine lv_iload kx kb dX2_drawLine_71 (lv_at hl 4 rfl) ?_
          refine ti_isub kx kb dX2_drawLine_73 ?_
          refine lv_istore (lv' := [(8, .int (iI (e - (tabs (y1 - y2))))), (11, .int (iI (2 * e))), (10, .int (iI y)), (9, .int (iI x)), (7, .int (iI (tabs (y1 - y2)))), (6, .int (iI (tabs (x1 - x2)))), (0, .ref a), (1, .int (iI x1)), (2, .int (iI y1)), (3, .int (iI x2)), (4, .int (iI y2)), (5, .ref q)]) kx kb dX2_drawLine_74 hl (by decide) rfl (fun ls hl => ?_)
          refine lv_iload kx kb dX2_drawLine_76 (lv_at hl 3 rfl) ?_
          refine lv_iload_n kx kb dX2_drawLine_78 rfl (lv_at hl 9 rfl) ?_
          refine lv_iload kx kb dX2_drawLine_79 (lv_at hl 3 rfl) ?_
          refine ti_isub kx kb dX2_drawLine_81 ?_
          refine t_callRS C (met_J17_signum l D E (x2 - x) (by first | assumption | omega)) (va_cwS 1 hts (lw_S q1249 q1250 q80 q1251) rfl rfl rfl (by decide +kernel) ⟨Nat.le_of_ble_eq_true rfl, Nat.le_of_ble_eq_true rfl⟩) hK hX hP hD hS hA [] rfl (by decide) tYb_0 (fun _ _ _ => trivial) rfl hl.1 rfl (Nat.le_of_ble_eq_true rfl) dX2_drawLine_82 ⟨(show nd - n + (dN w g x y z nd - nd) ≤ 29 from by omega), (show 2 * (nd - n) + (2 * (dN w g x y z nd - nd)) ≤ 58 from by omega)⟩ ?_
          refine W.eq (g2 := F0 m0 85 ls [.int (iI (tsg (x2 - x))), .int (iI x)]) rfl ?_
          have hsx : tsg (x2 - x) = tsg (x2 - x1) := by rw [show x2 - x = (x2 - x1) - tsg (x2 - x1) * (ca : Int) from by omega]; exact tsg_mid (ln_a ha hb hnd (by omega))
          refine ti_iadd kx kb dX2_drawLine_85 ?_
          refine lv_istore (lv' := [(9, .int (iI (x + (tsg (x2 - x))))), (8, .int (iI (e - (tabs (y1 - y2))))), (11, .int (iI (2 * e))), (10, .int (iI y)), (7, .int (iI (tabs (y1 - y2)))), (6, .int (iI (tabs (x1 - x2)))), (0, .ref a), (1, .int (iI x1)), (2, .int (iI y1)), (3, .int (iI x2)), (4, .int (iI y2)), (5, .ref q)]) kx kb dX2_drawLine_86 hl (by decide) rfl (fun ls hl => ?_)
          refine lv_iload kx kb dX2_drawLine_88 (lv_at hl 2 rfl) ?_
          refine lv_iload kx kb dX2_drawLine_90 (lv_at hl 5 rfl) ?_
          refine ti_icmp_ge (tgt := 115) kx kb (by omega) dX2_drawLine_92 (by decide) (fun h92 => ?_) (fun h92 => ?_)
          · have hqa : lnA (x2 - x1).natAbs (y2 - y1).natAbs ca cb = ca + 1 := by unfold lnA; rw [if_pos (by omega)]
            have hqb : lnB (x2 - x1).natAbs (y2 - y1).natAbs ca cb = cb := by unfold lnB; rw [if_neg (by omega)]
            have hX2 : x + (tsg (x2 - x)) = x1 + tsg (x2 - x1) * ((lnA (x2 - x1).natAbs (y2 - y1).natAbs ca cb : Nat) : Int) := by rw [hqa, hsx, hx]; rw [Int.natCast_add, Int.mul_add]; omega
            have hY2 : y = y1 + tsg (y2 - y1) * ((lnB (x2 - x1).natAbs (y2 - y1).natAbs ca cb : Nat) : Int) := by rw [hqb, hy]
            have hE : e - (tabs (y1 - y2)) = lnE (x2 - x1).natAbs (y2 - y1).natAbs (lnA (x2 - x1).natAbs (y2 - y1).natAbs ca cb) (lnB (x2 - x1).natAbs (y2 - y1).natAbs ca cb) := by rw [hqa, hqb]; rw [lnE_a]; omega
            have hta2 := tsg_mul (x2 - x1) (lnA (x2 - x1).natAbs (y2 - y1).natAbs ca cb)
            have htb2 := tsg_mul (y2 - y1) (lnB (x2 - x1).natAbs (y2 - y1).natAbs ca cb)
            have hst1 := hst.1
            have hst2 := hst.2.1
            have hst3 := hst.2.2
            refine lv_goto (tgt := 30) kx kb dX2_drawLine_115 (by decide) ?_
            refine W.widen (k := (dN w g x y z nd) - n) (n := 2 * ((dN w g x y z nd) - n)) (by omega) (by omega) ?_
            exact ih30 (lnA (x2 - x1).natAbs (y2 - y1).natAbs ca cb) (lnB (x2 - x1).natAbs (y2 - y1).natAbs ca cb) f2 (e - (tabs (y1 - y2))) (x + (tsg (x2 - x))) y w2_1 (dN w g x y z nd) (drw w g x y z k1) (hst.1) (hst.2.1) (by omega) (by exact hE) (by exact hX2) (by exact hY2) (by rw [hgo] at hT; rw [← hX2, ← hY2] at hT; exact hT) (hBd) (by omega) (by omega) H locs hP hD hS ls (lv_sub hl [3, 0, 1, 4, 5, 6, 7, 8, 9, 10, 11] rfl)
          · refine lv_iload kx kb dX2_drawLine_95 (lv_at hl 1 rfl) ?_
            refine lv_iload kx kb dX2_drawLine_97 (lv_at hl 5 rfl) ?_
            refine ti_iadd kx kb dX2_drawLine_99 ?_
            refine lv_istore (lv' := [(8, .int (iI ((e - (tabs (y1 - y2))) + (tabs (x1 - x2))))), (9, .int (iI (x + (tsg (x2 - x))))), (11, .int (iI (2 * e))), (10, .int (iI y)), (7, .int (iI (tabs (y1 - y2)))), (6, .int (iI (tabs (x1 - x2)))), (0, .ref a), (1, .int (iI x1)), (2, .int (iI y1)), (3, .int (iI x2)), (4, .int (iI y2)), (5, .ref q)]) kx kb dX2_drawLine_100 hl (by decide) rfl (fun ls hl => ?_)
            refine lv_iload kx kb dX2_drawLine_102 (lv_at hl 3 rfl) ?_
            refine lv_iload kx kb dX2_drawLine_104 (lv_at hl 10 rfl) ?_
            refine lv_iload kx kb dX2_drawLine_106 (lv_at hl 3 rfl) ?_
            refine ti_isub kx kb dX2_drawLine_108 ?_
            refine t_callRS C (met_J17_signum l D E (y2 - y) (by first | assumption | omega)) (va_cwS 1 hts (lw_S q1249 q1250 q80 q1251) rfl rfl rfl (by decide +kernel) ⟨Nat.le_of_ble_eq_true rfl, Nat.le_of_ble_eq_true rfl⟩) hK hX hP hD hS hA [] rfl (by decide) tYb_0 (fun _ _ _ => trivial) rfl hl.1 rfl (Nat.le_of_ble_eq_true rfl) dX2_drawLine_109 ⟨(show nd - n + (dN w g x y z nd - nd) ≤ 29 from by omega), (show 2 * (nd - n) + (2 * (dN w g x y z nd - nd)) ≤ 58 from by omega)⟩ ?_
            refine W.eq (g2 := F0 m0 112 ls [.int (iI (tsg (y2 - y))), .int (iI y)]) rfl ?_
            have hsy : tsg (y2 - y) = tsg (y2 - y1) := by rw [show y2 - y = (y2 - y1) - tsg (y2 - y1) * (cb : Int) from by omega]; exact tsg_mid (ln_b ha hb hnd (by omega))
            refine ti_iadd kx kb dX2_drawLine_112 ?_
            refine lv_istore (lv' := [(10, .int (iI (y + (tsg (y2 - y))))), (8, .int (iI ((e - (tabs (y1 - y2))) + (tabs (x1 - x2))))), (9, .int (iI (x + (tsg (x2 - x))))), (11, .int (iI (2 * e))), (7, .int (iI (tabs (y1 - y2)))), (6, .int (iI (tabs (x1 - x2)))), (0, .ref a), (1, .int (iI x1)), (2, .int (iI y1)), (3, .int (iI x2)), (4, .int (iI y2)), (5, .ref q)]) kx kb dX2_drawLine_113 hl (by decide) rfl (fun ls hl => ?_)
            have hqa : lnA (x2 - x1).natAbs (y2 - y1).natAbs ca cb = ca + 1 := by unfold lnA; rw [if_pos (by omega)]
            have hqb : lnB (x2 - x1).natAbs (y2 - y1).natAbs ca cb = cb + 1 := by unfold lnB; rw [if_pos (by omega)]
            have hX2 : x + (tsg (x2 - x)) = x1 + tsg (x2 - x1) * ((lnA (x2 - x1).natAbs (y2 - y1).natAbs ca cb : Nat) : Int) := by rw [hqa, hsx, hx]; rw [Int.natCast_add, Int.mul_add]; omega
            have hY2 : y + (tsg (y2 - y)) = y1 + tsg (y2 - y1) * ((lnB (x2 - x1).natAbs (y2 - y1).natAbs ca cb : Nat) : Int) := by rw [hqb, hsy, hy]; rw [Int.natCast_add, Int.mul_add]; omega
            have hE : (e - (tabs (y1 - y2))) + (tabs (x1 - x2)) = lnE (x2 - x1).natAbs (y2 - y1).natAbs (lnA (x2 - x1).natAbs (y2 - y1).natAbs ca cb) (lnB (x2 - x1).natAbs (y2 - y1).natAbs ca cb) := by rw [hqa, hqb]; rw [lnE_a, lnE_b]; omega
            have hta2 := tsg_mul (x2 - x1) (lnA (x2 - x1).natAbs (y2 - y1).natAbs ca cb)
            have htb2 := tsg_mul (y2 - y1) (lnB (x2 - x1).natAbs (y2 - y1).natAbs ca cb)
            have hst1 := hst.1
            have hst2 := hst.2.1
            have hst3 := hst.2.2
            refine lv_goto (tgt := 30) kx kb dX2_drawLine_115 (by decide) ?_
            refine W.widen (k := (dN w g x y z nd) - n) (n := 2 * ((dN w g x y z nd) - n)) (by omega) (by omega) ?_
            exact ih30 (lnA (x2 - x1).natAbs (y2 - y1).natAbs ca cb) (lnB (x2 - x1).natAbs (y2 - y1).natAbs ca cb) f2 ((e - (tabs (y1 - y2))) + (tabs (x1 - x2))) (x + (tsg (x2 - x))) (y + (tsg (y2 - y))) w2_1 (dN w g x y z nd) (drw w g x y z k1) (hst.1) (hst.2.1) (by omega) (by exact hE) (by exact hX2) (by exact hY2) (by rw [hgo] at hT; rw [← hX2, ← hY2] at hT; exact hT) (hBd) (by omega) (by omega) H locs hP hD hS ls (lv_sub hl [0, 2, 1, 4, 5, 6, 7, 8, 9, 10, 11] rfl)
      · refine lv_iload kx kb dX2_drawLine_47 (lv_at hl 0 rfl) ?_
        refine lv_iload kx kb dX2_drawLine_49 (lv_at hl 9 rfl) ?_
        refine ti_icmp_ne (tgt := 55) kx kb (by omega) dX2_drawLine_51 (by decide) (fun h51 => ?_) (fun h51 => ?_)
        · have htl := tsg_left ha
          have htl2 := tsg_left hb
          have hnd : ¬ (ca = (x2 - x1).natAbs ∧ cb = (y2 - y1).natAbs) := by omega
          have hst := ln_step ha hb hnd
          obtain ⟨f2, hf2, hgo⟩ := lnT_go (x1 := x1) (y1 := y1) (sx := tsg (x2 - x1)) (sy := tsg (y2 - y1)) ha hb hnd hf
          refine lv_iconst (v := iI 2) kx kb dX2_drawLine_55 rfl ?_
          refine lv_iload kx kb dX2_drawLine_56 (lv_at hl 2 rfl) ?_
          refine ti_imul kx kb dX2_drawLine_58 ?_
          refine lv_istore (lv' := [(11, .int (iI (2 * e))), (10, .int (iI y)), (9, .int (iI x)), (8, .int (iI e)), (7, .int (iI (tabs (y1 - y2)))), (6, .int (iI (tabs (x1 - x2)))), (0, .ref a), (1, .int (iI x1)), (2, .int (iI y1)), (3, .int (iI x2)), (4, .int (iI y2)), (5, .ref q)]) kx kb dX2_drawLine_59 hl (by decide) rfl (fun ls hl => ?_)
          refine lv_iload kx kb dX2_drawLine_61 (lv_at hl 0 rfl) ?_
          refine lv_iload kx kb dX2_drawLine_63 (lv_at hl 4 rfl) ?_
          refine ti_ineg kx kb dX2_drawLine_65 ?_
          refine ti_icmp_le (tgt := 88) kx kb (by omega) dX2_drawLine_66 (by decide) (fun h66 => ?_) (fun h66 => ?_)
          · refine lv_iload kx kb dX2_drawLine_88 (lv_at hl 0 rfl) ?_
            refine lv_iload kx kb dX2_drawLine_90 (lv_at hl 5 rfl) ?_
            refine ti_icmp_ge (tgt := 115) kx kb (by omega) dX2_drawLine_92 (by decide) (fun h92 => ?_) (fun h92 => ?_)
            · omega
            · refine lv_iload kx kb dX2_drawLine_95 (lv_at hl 3 rfl) ?_
              refine lv_iload kx kb dX2_drawLine_97 (lv_at hl 5 rfl) ?_
              refine ti_iadd kx kb dX2_drawLine_99 ?_
              refine lv_istore (lv' := [(8, .int (iI (e + (tabs (x1 - x2))))), (11, .int (iI (2 * e))), (10, .int (iI y)), (9, .int (iI x)), (7, .int (iI (tabs (y1 - y2)))), (6, .int (iI (tabs (x1 - x2)))), (0, .ref a), (1, .int (iI x1)), (2, .int (iI y1)), (3, .int (iI x2)), (4, .int (iI y2)), (5, .ref q)]) kx kb dX2_drawLine_100 hl (by decide) rfl (fun ls hl => ?_)
              refine lv_iload kx kb dX2_drawLine_102 (lv_at hl 2 rfl) ?_
              refine lv_iload kx kb dX2_drawLine_104 (lv_at hl 10 rfl) ?_
              refine lv_iload kx kb dX2_drawLine_106 (lv_at hl 2 rfl) ?_
              refine ti_isub kx kb dX2_drawLine_108 ?_
              refine t_callRS C (met_J17_signum l D E (y2 - y) (by first | assumption | omega)) (va_cwS 1 hts (lw_S q1249 q1250 q80 q1251) rfl rfl rfl (by decide +kernel) ⟨Nat.le_of_ble_eq_true rfl, Nat.le_of_ble_eq_true rfl⟩) hK hX hP hD hS hA [] rfl (by decide) tYb_0 (fun _ _ _ => trivial) rfl hl.1 rfl (Nat.le_of_ble_eq_true rfl) dX2_drawLine_109 ⟨(show nd - n + (dN w g x y z nd - nd) ≤ 29 from by omega), (show 2 * (nd - n) + (2 * (dN w g x y z nd - nd)) ≤ 58 from by omega)⟩ ?_
              refine W.eq (g2 := F0 m0 112 ls [.int (iI (tsg (y2 - y))), .int (iI y)]) rfl ?_
              have hsy : tsg (y2 - y) = tsg (y2 - y1) := by rw [show y2 - y = (y2 - y1) - tsg (y2 - y1) * (cb : Int) from by omega]; exact tsg_mid (ln_b ha hb hnd (by omega))
              refine ti_iadd kx kb dX2_drawLine_112 ?_
              refine lv_istore (lv' := [(10, .int (iI (y + (tsg (y2 - y))))), (8, .int (iI (e + (tabs (x1 - x2))))), (11, .int (iI (2 * e))), (9, .int (iI x)), (7, .int (iI (tabs (y1 - y2)))), (6, .int (iI (tabs (x1 - x2)))), (0, .ref a), (1, .int (iI x1)), (2, .int (iI y1)), (3, .int (iI x2)), (4, .int (iI y2)), (5, .ref q)]) kx kb dX2_drawLine_113 hl (by decide) rfl (fun ls hl => ?_)
              have hqa : lnA (x2 - x1).natAbs (y2 - y1).natAbs ca cb = ca := by unfold lnA; rw [if_neg (by omega)]
              have hqb : lnB (x2 - x1).natAbs (y2 - y1).natAbs ca cb = cb + 1 := by unfold lnB; rw [if_pos (by omega)]
              have hX2 : x = x1 + tsg (x2 - x1) * ((lnA (x2 - x1).natAbs (y2 - y1).natAbs ca cb : Nat) : Int) := by rw [hqa, hx]
              have hY2 : y + (tsg (y2 - y)) = y1 + tsg (y2 - y1) * ((lnB (x2 - x1).natAbs (y2 - y1).natAbs ca cb : Nat) : Int) := by rw [hqb, hsy, hy]; rw [Int.natCast_add, Int.mul_add]; omega
              have hE : e + (tabs (x1 - x2)) = lnE (x2 - x1).natAbs (y2 - y1).natAbs (lnA (x2 - x1).natAbs (y2 - y1).natAbs ca cb) (lnB (x2 - x1).natAbs (y2 - y1).natAbs ca cb) := by rw [hqa, hqb]; rw [lnE_b]; omega
              have hta2 := tsg_mul (x2 - x1) (lnA (x2 - x1).natAbs (y2 - y1).natAbs ca cb)
              have htb2 := tsg_mul (y2 - y1) (lnB (x2 - x1).natAbs (y2 - y1).natAbs ca cb)
              have hst1 := hst.1
              have hst2 := hst.2.1
              have hst3 := hst.2.2
              refine lv_goto (tgt := 30) kx kb dX2_drawLine_115 (by decide) ?_
              refine W.widen (k := (dN w g x y z nd) - n) (n := 2 * ((dN w g x y z nd) - n)) (by omega) (by omega) ?_
              exact ih30 (lnA (x2 - x1).natAbs (y2 - y1).natAbs ca cb) (lnB (x2 - x1).natAbs (y2 - y1).natAbs ca cb) f2 (e + (tabs (x1 - x2))) x (y + (tsg (y2 - y))) w2_1 (dN w g x y z nd) (drw w g x y z k1) (hst.1) (hst.2.1) (by omega) (by exact hE) (by exact hX2) (by exact hY2) (by rw [hgo] at hT; rw [← hX2, ← hY2] at hT; exact hT) (hBd) (by omega) (by omega) H locs hP hD hS ls (lv_sub hl [0, 3, 1, 4, 5, 6, 7, 8, 9, 10, 11] rfl)
          · refine lv_iload kx kb dX2_drawLine_69 (lv_at hl 3 rfl) ?_
            refine lv_iload kx kb dX2_drawLine_71 (lv_at hl 4 rfl) ?_
            refine ti_isub kx kb dX2_drawLine_73 ?_
            refine lv_istore (lv' := [(8, .int (iI (e - (tabs (y1 - y2))))), (11, .int (iI (2 * e))), (10, .int (iI y)), (9, .int (iI x)), (7, .int (iI (tabs (y1 - y2)))), (6, .int (iI (tabs (x1 - x2)))), (0, .ref a), (1, .int (iI x1)), (2, .int (iI y1)), (3, .int (iI x2)), (4, .int (iI y2)), (5, .ref q)]) kx kb dX2_drawLine_74 hl (by decide) rfl (fun ls hl => ?_)
            refine lv_iload kx kb dX2_drawLine_76 (lv_at hl 3 rfl) ?_
            refine lv_iload_n kx kb dX2_drawLine_78 rfl (lv_at hl 9 rfl) ?_
            refine lv_iload kx kb dX2_drawLine_79 (lv_at hl 3 rfl) ?_
            refine ti_isub kx kb dX2_drawLine_81 ?_
            refine t_callRS C (met_J17_signum l D E (x2 - x) (by first | assumption | omega)) (va_cwS 1 hts (lw_S q1249 q1250 q80 q1251) rfl rfl rfl (by decide +kernel) ⟨Nat.le_of_ble_eq_true rfl, Nat.le_of_ble_eq_true rfl⟩) hK hX hP hD hS hA [] rfl (by decide) tYb_0 (fun _ _ _ => trivial) rfl hl.1 rfl (Nat.le_of_ble_eq_true rfl) dX2_drawLine_82 ⟨(show nd - n + (dN w g x y z nd - nd) ≤ 29 from by omega), (show 2 * (nd - n) + (2 * (dN w g x y z nd - nd)) ≤ 58 from by omega)⟩ ?_
            refine W.eq (g2 := F0 m0 85 ls [.int (iI (tsg (x2 - x))), .int (iI x)]) rfl ?_
            have hsx : tsg (x2 - x) = tsg (x2 - x1) := by rw [show x2 - x = (x2 - x1) - tsg (x2 - x1) * (ca : Int) from by omega]; exact tsg_mid (ln_a ha hb hnd (by omega))
            refine ti_iadd kx kb dX2_drawLine_85 ?_
            refine lv_istore (lv' := [(9, .int (iI (x + (tsg (x2 - x))))), (8, .int (iI (e - (tabs (y1 - y2))))), (11, .int (iI (2 * e))), (10, .int (iI y)), (7, .int (iI (tabs (y1 - y2)))), (6, .int (iI (tabs (x1 - x2)))), (0, .ref a), (1, .int (iI x1)), (2, .int (iI y1)), (3, .int (iI x2)), (4, .int (iI y2)), (5, .ref q)]) kx kb dX2_drawLine_86 hl (by decide) rfl (fun ls hl => ?_)
            refine lv_iload kx kb dX2_drawLine_88 (lv_at hl 2 rfl) ?_
            refine lv_iload kx kb dX2_drawLine_90 (lv_at hl 5 rfl) ?_
            refine ti_icmp_ge (tgt := 115) kx kb (by omega) dX2_drawLine_92 (by decide) (fun h92 => ?_) (fun h92 => ?_)
            · have hqa : lnA (x2 - x1).natAbs (y2 - y1).natAbs ca cb = ca + 1 := by unfold lnA; rw [if_pos (by omega)]
              have hqb : lnB (x2 - x1).natAbs (y2 - y1).natAbs ca cb = cb := by unfold lnB; rw [if_neg (by omega)]
              have hX2 : x + (tsg (x2 - x)) = x1 + tsg (x2 - x1) * ((lnA (x2 - x1).natAbs (y2 - y1).natAbs ca cb : Nat) : Int) := by rw [hqa, hsx, hx]; rw [Int.natCast_add, Int.mul_add]; omega
              have hY2 : y = y1 + tsg (y2 - y1) * ((lnB (x2 - x1).natAbs (y2 - y1).natAbs ca cb : Nat) : Int) := by rw [hqb, hy]
              have hE : e - (tabs (y1 - y2)) = lnE (x2 - x1).natAbs (y2 - y1).natAbs (lnA (x2 - x1).natAbs (y2 - y1).natAbs ca cb) (lnB (x2 - x1).natAbs (y2 - y1).natAbs ca cb) := by rw [hqa, hqb]; rw [lnE_a]; omega
              have hta2 := tsg_mul (x2 - x1) (lnA (x2 - x1).natAbs (y2 - y1).natAbs ca cb)
              have htb2 := tsg_mul (y2 - y1) (lnB (x2 - x1).natAbs (y2 - y1).natAbs ca cb)
              have hst1 := hst.1
              have hst2 := hst.2.1
              have hst3 := hst.2.2
              refine lv_goto (tgt := 30) kx kb dX2_drawLine_115 (by decide) ?_
              refine W.widen (k := (dN w g x y z nd) - n) (n := 2 * ((dN w g x y z nd) - n)) (by omega) (by omega) ?_
              exact ih30 (lnA (x2 - x1).natAbs (y2 - y1).natAbs ca cb) (lnB (x2 - x1).natAbs (y2 - y1).natAbs ca cb) f2 (e - (tabs (y1 - y2))) (x + (tsg (x2 - x))) y w2_1 (dN w g x y z nd) (drw w g x y z k1) (hst.1) (hst.2.1) (by omega) (by exact hE) (by exact hX2) (by exact hY2) (by rw [hgo] at hT; rw [← hX2, ← hY2] at hT; exact hT) (hBd) (by omega) (by omega) H locs hP hD hS ls (lv_sub hl [3, 0, 1, 4, 5, 6, 7, 8, 9, 10, 11] rfl)
            · refine lv_iload kx kb dX2_drawLine_95 (lv_at hl 1 rfl) ?_
              refine lv_iload kx kb dX2_drawLine_97 (lv_at hl 5 rfl) ?_
              refine ti_iadd kx kb dX2_drawLine_99 ?_
              refine lv_istore (lv' := [(8, .int (iI ((e - (tabs (y1 - y2))) + (tabs (x1 - x2))))), (9, .int (iI (x + (tsg (x2 - x))))), (11, .int (iI (2 * e))), (10, .int (iI y)), (7, .int (iI (tabs (y1 - y2)))), (6, .int (iI (tabs (x1 - x2)))), (0, .ref a), (1, .int (iI x1)), (2, .int (iI y1)), (3, .int (iI x2)), (4, .int (iI y2)), (5, .ref q)]) kx kb dX2_drawLine_100 hl (by decide) rfl (fun ls hl => ?_)
              refine lv_iload kx kb dX2_drawLine_102 (lv_at hl 3 rfl) ?_
              refine lv_iload kx kb dX2_drawLine_104 (lv_at hl 10 rfl) ?_
              refine lv_iload kx kb dX2_drawLine_106 (lv_at hl 3 rfl) ?_
              refine ti_isub kx kb dX2_drawLine_108 ?_
              refine t_callRS C (met_J17_signum l D E (y2 - y) (by first | assumption | omega)) (va_cwS 1 hts (lw_S q1249 q1250 q80 q1251) rfl rfl rfl (by decide +kernel) ⟨Nat.le_of_ble_eq_true rfl, Nat.le_of_ble_eq_true rfl⟩) hK hX hP hD hS hA [] rfl (by decide) tYb_0 (fun _ _ _ => trivial) rfl hl.1 rfl (Nat.le_of_ble_eq_true rfl) dX2_drawLine_109 ⟨(show nd - n + (dN w g x y z nd - nd) ≤ 29 from by omega), (show 2 * (nd - n) + (2 * (dN w g x y z nd - nd)) ≤ 58 from by omega)⟩ ?_
              refine W.eq (g2 := F0 m0 112 ls [.int (iI (tsg (y2 - y))), .int (iI y)]) rfl ?_
              have hsy : tsg (y2 - y) = tsg (y2 - y1) := by rw [show y2 - y = (y2 - y1) - tsg (y2 - y1) * (cb : Int) from by omega]; exact tsg_mid (ln_b ha hb hnd (by omega))
              refine ti_iadd kx kb dX2_drawLine_112 ?_
              refine lv_istore (lv' := [(10, .int (iI (y + (tsg (y2 - y))))), (8, .int (iI ((e - (tabs (y1 - y2))) + (tabs (x1 - x2))))), (9, .int (iI (x + (tsg (x2 - x))))), (11, .int (iI (2 * e))), (7, .int (iI (tabs (y1 - y2)))), (6, .int (iI (tabs (x1 - x2)))), (0, .ref a), (1, .int (iI x1)), (2, .int (iI y1)), (3, .int (iI x2)), (4, .int (iI y2)), (5, .ref q)]) kx kb dX2_drawLine_113 hl (by decide) rfl (fun ls hl => ?_)
              have hqa : lnA (x2 - x1).natAbs (y2 - y1).natAbs ca cb = ca + 1 := by unfold lnA; rw [if_pos (by omega)]
              have hqb : lnB (x2 - x1).natAbs (y2 - y1).natAbs ca cb = cb + 1 := by unfold lnB; rw [if_pos (by omega)]
              have hX2 : x + (tsg (x2 - x)) = x1 + tsg (x2 - x1) * ((lnA (x2 - x1).natAbs (y2 - y1).natAbs ca cb : Nat) : Int) := by rw [hqa, hsx, hx]; rw [Int.natCast_add, Int.mul_add]; omega
              have hY2 : y + (tsg (y2 - y)) = y1 + tsg (y2 - y1) * ((lnB (x2 - x1).natAbs (y2 - y1).natAbs ca cb : Nat) : Int) := by rw [hqb, hsy, hy]; rw [Int.natCast_add, Int.mul_add]; omega
              have hE : (e - (tabs (y1 - y2))) + (tabs (x1 - x2)) = lnE (x2 - x1).natAbs (y2 - y1).natAbs (lnA (x2 - x1).natAbs (y2 - y1).natAbs ca cb) (lnB (x2 - x1).natAbs (y2 - y1).natAbs ca cb) := by rw [hqa, hqb]; rw [lnE_a, lnE_b]; omega
              have hta2 := tsg_mul (x2 - x1) (lnA (x2 - x1).natAbs (y2 - y1).natAbs ca cb)
              have htb2 := tsg_mul (y2 - y1) (lnB (x2 - x1).natAbs (y2 - y1).natAbs ca cb)
              have hst1 := hst.1
              have hst2 := hst.2.1
              have hst3 := hst.2.2
              refine lv_goto (tgt := 30) kx kb dX2_drawLine_115 (by decide) ?_
              refine W.widen (k := (dN w g x y z nd) - n) (n := 2 * ((dN w g x y z nd) - n)) (by omega) (by omega) ?_
              exact ih30 (lnA (x2 - x1).natAbs (y2 - y1).natAbs ca cb) (lnB (x2 - x1).natAbs (y2 - y1).natAbs ca cb) f2 ((e - (tabs (y1 - y2))) + (tabs (x1 - x2))) (x + (tsg (x2 - x))) (y + (tsg (y2 - y))) w2_1 (dN w g x y z nd) (drw w g x y z k1) (hst.1) (hst.2.1) (by omega) (by exact hE) (by exact hX2) (by exact hY2) (by rw [hgo] at hT; rw [← hX2, ← hY2] at hT; exact hT) (hBd) (by omega) (by omega) H locs hP hD hS ls (lv_sub hl [0, 2, 1, 4, 5, 6, 7, 8, 9, 10, 11] rfl)
        · have hfa : ca = (x2 - x1).natAbs ∧ cb = (y2 - y1).natAbs := by omega
          rw [hfa.1, hfa.2, lnT_end] at hT
          have hT2 : drw w g x y z k1 = drwL w g z (lnL x1 y1 x2 y2) P := hT
          have hP : va_P D.1 clAll [(a, .inr (2, [.int (iI ((w : Nat) : Int)), .int (iI ((g : Nat) : Int)), .ref b])), (b, .inr (3, [.ref w2_1, .int (iI ((un (drwL w g z (lnL x1 y1 x2 y2) P) : Nat) : Int)), .int (zI false)])), (w2_1, .inl (D.2 2, dN w g x y z nd, .inr (.inl (wd (drwL w g z (lnL x1 y1 x2 y2) P)))))] H := by rw [← hT2]; exact hP
          have hD : va_D A [(a, .inr (2, [.int (iI ((w : Nat) : Int)), .int (iI ((g : Nat) : Int)), .ref b])), (b, .inr (3, [.ref w2_1, .int (iI ((un (drwL w g z (lnL x1 y1 x2 y2) P) : Nat) : Int)), .int (zI false)])), (w2_1, .inl (D.2 2, dN w g x y z nd, .inr (.inl (wd (drwL w g z (lnL x1 y1 x2 y2) P)))))] := by rw [← hT2]; exact hD
          subst hQ
          exact tm_vret C (w2_1, dN w g x y z nd) (by rw [← hT2]; exact hBd) hP hD hS (show nd - n + (dN w g x y z nd - nd) ≤ 29 from by omega) (show 2 * (nd - n) + (2 * (dN w g x y z nd - nd)) ≤ 58 from by omega) rfl rfl dX2_drawLine_54
  refine W.widen (k := n - n) (n := 2 * (n - n)) (by omega) (by omega) ?_
  exact cut30 ((((x2 - x1).natAbs - 0) + ((y2 - y1).natAbs - 0)) + 1) 0 0 ((x2 - x1).natAbs + (y2 - y1).natAbs) ((tabs (x1 - x2)) - (tabs (y1 - y2))) x1 y1 v n P (by omega) (by omega) (by omega) (by rw [hdx, hdy]; simp [lnE]) (by simp) (by simp) (by rfl) (hB) (Nat.le_refl _) (Nat.lt_succ_self _) s0.heap [] hP hD hS ls hl
set_option maxHeartbeats 4000000 in
set_option maxRecDepth 100000 in
theorem met_X2_drawCircle (l : Launch) (D : TG) (E : TE) (a : Nat) (b : Nat) (v : Nat) (n : Nat) (w : Nat) (g : Nat) (P : Nat → Bool) (cx : Int) (cy : Int) (r : Int) (q : Nat) (z : Bool) (hw : 1 ≤ w ∧ w ≤ 32) (hg : 1 ≤ g ∧ g ≤ 32) (hB : BB P n) (rcx : -40 ≤ cx ∧ cx ≤ 72) (rcy : -40 ≤ cy ∧ cy ≤ 72) (hr : 0 ≤ r ∧ r ≤ 40) : tMet l yX2_drawCircle cX2_drawCircle 11 none 12 400 (29) (58) [.ref a, .int (iI cx), .int (iI cy), .int (iI r), .ref q] D E [(a, .inr (2, [.int (iI ((w : Nat) : Int)), .int (iI ((g : Nat) : Int)), .ref b])), (b, .inr (3, [.ref v, .int (iI ((un P : Nat) : Int)), .int (zI false)])), (v, .inl (D.2 2, n, .inr (.inl (wd P))))] (tYpen E a z q) (S := Nat × Nat) (fun u_ => BB (drwL w g z (crA cx cy r) P) u_.2) (fun u_ => none) (fun u_ => [(a, .inr (2, [.int (iI ((w : Nat) : Int)), .int (iI ((g : Nat) : Int)), .ref b])), (b, .inr (3, [.ref u_.1, .int (iI ((un (drwL w g z (crA cx cy r) P) : Nat) : Int)), .int (zI false)])), (u_.1, .inl (D.2 2, u_.2, .inr (.inl (wd (drwL w g z (crA cx cy r) P)))))]) := by
  refine tu_met (by decide +kernel) (Nat.le_of_ble_eq_true rfl) ?_
  intro p0 e0 s0 m0 below meth c0 A ls args Q hag hQ C hK hX hY hP hD hA hAe hl
  obtain ⟨kx, kb, hml, hown, hts, -⟩ := id C
  have hS : va_S A s0.heap s0.heap [] := va_S.rf
  have hl : lv_has ls 11 [(0, .ref a), (1, .int (iI cx)), (2, .int (iI cy)), (3, .int (iI r)), (4, .ref q)] := hl
  have hwg := wg_le hw hg
  have hBn := hB.1
  have hBm := hB.2.1
  have hul := un_le hB
  refine lv_iload_n kx kb dX2_drawCircle_0 rfl (lv_at hl 3 rfl) ?_
  refine lv_istore (lv' := [(5, .int (iI r)), (0, .ref a), (1, .int (iI cx)), (2, .int (iI cy)), (3, .int (iI r)), (4, .ref q)]) kx kb dX2_drawCircle_1 hl (by decide) rfl (fun ls hl => ?_)
  refine lv_iconst (v := iI 0) kx kb dX2_drawCircle_3 rfl ?_
  refine lv_istore (lv' := [(6, .int (iI 0)), (5, .int (iI r)), (0, .ref a), (1, .int (iI cx)), (2, .int (iI cy)), (3, .int (iI r)), (4, .ref q)]) kx kb dX2_drawCircle_4 hl (by decide) rfl (fun ls hl => ?_)
  refine lv_iconst (v := iI 1) kx kb dX2_drawCircle_6 rfl ?_
  refine lv_iload_n kx kb dX2_drawCircle_7 rfl (lv_at hl 5 rfl) ?_
  refine ti_isub kx kb dX2_drawCircle_8 ?_
  refine lv_istore (lv' := [(7, .int (iI (1 - r))), (6, .int (iI 0)), (5, .int (iI r)), (0, .ref a), (1, .int (iI cx)), (2, .int (iI cy)), (3, .int (iI r)), (4, .ref q)]) kx kb dX2_drawCircle_9 hl (by decide) rfl (fun ls hl => ?_)
  have cut11 : ∀ (fuel : Nat) (cu : Int) (cv : Int) (e : Int) (f : Nat) (sv : Nat) (nd : Nat) (k1 : Nat → Bool), (0 ≤ cv ∧ cv ≤ 41 ∧ cu ≤ r ∧ cv - 2 ≤ cu ∧ -100 ≤ e ∧ e ≤ 100 + 5 * cv ∧ cu - cv + 1 ≤ (f : Int)) → (drwL w g z (crL cx cy f cu cv e) k1 = drwL w g z (crA cx cy r) P) → (BB k1 nd) → (n ≤ nd) → ((cu - cv + 1).toNat) < fuel → ∀ (H : Heap) (locs : List Loc), va_P D.1 clAll [(a, .inr (2, [.int (iI ((w : Nat) : Int)), .int (iI ((g : Nat) : Int)), .ref b])), (b, .inr (3, [.ref sv, .int (iI ((un k1 : Nat) : Int)), .int (zI false)])), (sv, .inl (D.2 2, nd, .inr (.inl (wd k1))))] H → va_D A [(a, .inr (2, [.int (iI ((w : Nat) : Int)), .int (iI ((g : Nat) : Int)), .ref b])), (b, .inr (3, [.ref sv, .int (iI ((un k1 : Nat) : Int)), .int (zI false)])), (sv, .inl (D.2 2, nd, .inr (.inl (wd k1))))] → va_S A s0.heap H locs → ∀ ls : Array Slot, lv_has ls 11 [(7, .int (iI e)), (6, .int (iI cv)), (5, .int (iI cu)), (0, .ref a), (1, .int (iI cx)), (2, .int (iI cy)), (3, .int (iI r)), (4, .ref q)] → W p0 l e0 ({ frames := 12, cells := 29, slots := 58, locals := 400 } : Room) s0 m0 args below meth c0 H locs (nd - n) (2 * (nd - n)) Q (F0 m0 11 ls []) := by
    intro fuel
    induction fuel with
    | zero =>
      intro cu cv e f sv nd k1 hu hT hBk hnn hfuel11
      exact absurd hfuel11 (Nat.not_lt_zero _)
    | succ fuel ih11 =>
      intro cu cv e f sv nd k1 hu hT hBk hnn hfuel11 H locs hP hD hS ls hl
      refine lv_iload kx kb dX2_drawCircle_11 (lv_at hl 2 rfl) ?_
      refine lv_iload kx kb dX2_drawCircle_13 (lv_at hl 1 rfl) ?_
      refine ti_icmp_lt (tgt := 144) kx kb (by omega) dX2_drawCircle_15 (by decide) (fun h15 => ?_) (fun h15 => ?_)
      · rw [crL_end h15] at hT
        have hT : k1 = drwL w g z (crA cx cy r) P := hT
        have hBk2 := hBk.2.1
        have hP : va_P D.1 clAll [(a, .inr (2, [.int (iI ((w : Nat) : Int)), .int (iI ((g : Nat) : Int)), .ref b])), (b, .inr (3, [.ref sv, .int (iI ((un (drwL w g z (crA cx cy r) P) : Nat) : Int)), .int (zI false)])), (sv, .inl (D.2 2, nd, .inr (.inl (wd (drwL w g z (crA cx cy r) P)))))] H := by rw [← hT]; exact hP
        have hD : va_D A [(a, .inr (2, [.int (iI ((w : Nat) : Int)), .int (iI ((g : Nat) : Int)), .ref b])), (b, .inr (3, [.ref sv, .int (iI ((un (drwL w g z (crA cx cy r) P) : Nat) : Int)), .int (zI false)])), (sv, .inl (D.2 2, nd, .inr (.inl (wd (drwL w g z (crA cx cy r) P)))))] := by rw [← hT]; exact hD
        subst hQ
        exact tm_vret C (sv, nd) (by rw [← hT]; exact hBk) hP hD hS (show nd - n ≤ 29 from by omega) (show 2 * (nd - n) ≤ 58 from by omega) rfl rfl dX2_drawCircle_144
      · obtain ⟨f2, hf2, hgo⟩ := crL_go (cx := cx) (cy := cy) (e := e) h15 hu.2.2.2.2.2.2
        refine lv_iconst (v := iI 0) kx kb dX2_drawCircle_18 rfl ?_
        refine lv_istore (lv' := [(8, .int (iI 0)), (7, .int (iI e)), (6, .int (iI cv)), (5, .int (iI cu)), (0, .ref a), (1, .int (iI cx)), (2, .int (iI cy)), (3, .int (iI r)), (4, .ref q)]) kx kb dX2_drawCircle_19 hl (by decide) rfl (fun ls hl => ?_)
        have cut21 : ∀ (fuel : Nat) (k : Nat) (sv2 : Nat) (ne : Nat) (k2 : Nat → Bool), (k ≤ 4) → (k2 = drwL w g z (cqL cx cy cu cv k) k1) → (BB k2 ne) → (nd ≤ ne) → (4 - k) < fuel → ∀ (H : Heap) (locs : List Loc), va_P D.1 clAll [(a, .inr (2, [.int (iI ((w : Nat) : Int)), .int (iI ((g : Nat) : Int)), .ref b])), (b, .inr (3, [.ref sv2, .int (iI ((un k2 : Nat) : Int)), .int (zI false)])), (sv2, .inl (D.2 2, ne, .inr (.inl (wd k2))))] H → va_D A [(a, .inr (2, [.int (iI ((w : Nat) : Int)), .int (iI ((g : Nat) : Int)), .ref b])), (b, .inr (3, [.ref sv2, .int (iI ((un k2 : Nat) : Int)), .int (zI false)])), (sv2, .inl (D.2 2, ne, .inr (.inl (wd k2))))] → va_S A s0.heap H locs → ∀ ls : Array Slot, lv_has ls 11 [(8, .int (iI (k : Int))), (7, .int (iI e)), (6, .int (iI cv)), (5, .int (iI cu)), (0, .ref a), (1, .int (iI cx)), (2, .int (iI cy)), (3, .int (iI r)), (4, .ref q)] → W p0 l e0 ({ frames := 12, cells := 29, slots := 58, locals := 400 } : Room) s0 m0 args below meth c0 H locs (ne - n) (2 * (ne - n)) Q (F0 m0 21 ls []) := by
          intro fuel
          induction fuel with
          | zero =>
            intro k sv2 ne k2 hk hTi hBi hni hfuel21
            exact absurd hfuel21 (Nat.not_lt_zero _)
          | succ fuel ih21 =>
            intro k sv2 ne k2 hk hTi hBi hni hfuel21 H locs hP hD hS ls hl
            have hBi3 := hBi.2.1
            refine lv_iload kx kb dX2_drawCircle_21 (lv_at hl 0 rfl) ?_
            refine lv_iconst (v := iI 4) kx kb dX2_drawCircle_23 rfl ?_
            refine ti_icmp_ge (tgt := 102) kx kb (by omega) dX2_drawCircle_24 (by decide) (fun h24 => ?_) (fun h24 => ?_)
            · have hk4 : k2 = drwL w g z (eiL cx cy cu cv 8) k1 := by rw [hTi, show k = 4 from by omega, drwL_cq]
              have hBo := hBi
              rw [hk4] at hBo
              have hP : va_P D.1 clAll [(a, .inr (2, [.int (iI ((w : Nat) : Int)), .int (iI ((g : Nat) : Int)), .ref b])), (b, .inr (3, [.ref sv2, .int (iI ((un (drwL w g z (eiL cx cy cu cv 8) k1) : Nat) : Int)), .int (zI false)])), (sv2, .inl (D.2 2, ne, .inr (.inl (wd (drwL w g z (eiL cx cy cu cv 8) k1)))))] H := by rw [← hk4]; exact hP
              have hD : va_D A [(a, .inr (2, [.int (iI ((w : Nat) : Int)), .int (iI ((g : Nat) : Int)), .ref b])), (b, .inr (3, [.ref sv2, .int (iI ((un (drwL w g z (eiL cx cy cu cv 8) k1) : Nat) : Int)), .int (zI false)])), (sv2, .inl (D.2 2, ne, .inr (.inl (wd (drwL w g z (eiL cx cy cu cv 8) k1)))))] := by rw [← hk4]; exact hD
              refine ti_iinc (a := cv) (lv' := [(6, .int (iI (cv + 1))), (8, .int (iI (k : Int))), (7, .int (iI e)), (5, .int (iI cu)), (0, .ref a), (1, .int (iI cx)), (2, .int (iI cy)), (3, .int (iI r)), (4, .ref q)]) kx kb dX2_drawCircle_102 hl (k := 2) rfl (by decide) rfl (fun ls hl => ?_)
              refine lv_iload kx kb dX2_drawCircle_105 (lv_at hl 2 rfl) ?_
              refine ti_if_ge (tgt := 124) kx kb (by omega) dX2_drawCircle_107 (by decide) (fun h107 => ?_) (fun h107 => ?_)
              · refine ti_iinc (a := cu) (lv' := [(5, .int (iI (cu + (-1)))), (6, .int (iI (cv + 1))), (8, .int (iI (k : Int))), (7, .int (iI e)), (0, .ref a), (1, .int (iI cx)), (2, .int (iI cy)), (3, .int (iI r)), (4, .ref q)]) kx kb dX2_drawCircle_124 hl (k := 3) rfl (by decide) rfl (fun ls hl => ?_)
                refine lv_iload kx kb dX2_drawCircle_127 (lv_at hl 3 rfl) ?_
                refine lv_iconst (v := iI 2) kx kb dX2_drawCircle_129 rfl ?_
                refine lv_iload kx kb dX2_drawCircle_130 (lv_at hl 1 rfl) ?_
                refine lv_iload kx kb dX2_drawCircle_132 (lv_at hl 0 rfl) ?_
                refine ti_isub kx kb dX2_drawCircle_134 ?_
                refine ti_imul kx kb dX2_drawCircle_135 ?_
                refine lv_iconst (v := iI 1) kx kb dX2_drawCircle_136 rfl ?_
                refine ti_iadd kx kb dX2_drawCircle_137 ?_
                refine ti_iadd kx kb dX2_drawCircle_138 ?_
                refine lv_istore (lv' := [(7, .int (iI (e + ((2 * ((cv + 1) - (cu + (-1)))) + 1)))), (5, .int (iI (cu + (-1)))), (6, .int (iI (cv + 1))), (8, .int (iI (k : Int))), (0, .ref a), (1, .int (iI cx)), (2, .int (iI cy)), (3, .int (iI r)), (4, .ref q)]) kx kb dX2_drawCircle_139 hl (by decide) rfl (fun ls hl => ?_)
                refine lv_goto (tgt := 11) kx kb dX2_drawCircle_141 (by decide) ?_
                exact ih11 (cu + (-1)) (cv + 1) (e + ((2 * ((cv + 1) - (cu + (-1)))) + 1)) f2 sv2 ne (drwL w g z (eiL cx cy cu cv 8) k1) (by omega) (by rw [hgo, drwL_app] at hT; (first | rw [if_pos h107] at hT | rw [if_neg (by omega)] at hT); exact hT) (hBo) (by omega) (by omega) H locs hP hD hS ls (lv_sub hl [0, 2, 1, 4, 5, 6, 7, 8] rfl)
              · refine lv_iload kx kb dX2_drawCircle_110 (lv_at hl 2 rfl) ?_
                refine lv_iconst (v := iI 2) kx kb dX2_drawCircle_112 rfl ?_
                refine lv_iload kx kb dX2_drawCircle_113 (lv_at hl 0 rfl) ?_
                refine ti_imul kx kb dX2_drawCircle_115 ?_
                refine lv_iconst (v := iI 1) kx kb dX2_drawCircle_116 rfl ?_
                refine ti_iadd kx kb dX2_drawCircle_117 ?_
                refine ti_iadd kx kb dX2_drawCircle_118 ?_
                refine lv_istore (lv' := [(7, .int (iI (e + ((2 * (cv + 1)) + 1)))), (6, .int (iI (cv + 1))), (8, .int (iI (k : Int))), (5, .int (iI cu)), (0, .ref a), (1, .int (iI cx)), (2, .int (iI cy)), (3, .int (iI r)), (4, .ref q)]) kx kb dX2_drawCircle_119 hl (by decide) rfl (fun ls hl => ?_)
                refine lv_goto (tgt := 11) kx kb dX2_drawCircle_121 (by decide) ?_
                exact ih11 cu (cv + 1) (e + ((2 * (cv + 1)) + 1)) f2 sv2 ne (drwL w g z (eiL cx cy cu cv 8) k1) (by omega) (by rw [hgo, drwL_app] at hT; (first | rw [if_pos h107] at hT | rw [if_neg (by omega)] at hT); exact hT) (hBo) (by omega) (by omega) H locs hP hD hS ls (lv_sub hl [0, 1, 3, 4, 5, 6, 7, 8] rfl)
            · refine lv_iload kx kb dX2_drawCircle_27 (lv_at hl 0 rfl) ?_
              refine lv_iconst (v := iI 2) kx kb dX2_drawCircle_29 rfl ?_
              refine ti_irem kx kb (by omega) dX2_drawCircle_30 ?_
              refine ti_if_ne (tgt := 38) kx kb (by omega) dX2_drawCircle_31 (by decide) (fun h31 => ?_) (fun h31 => ?_)
              · refine lv_iconst (v := iI (-1)) kx kb dX2_drawCircle_38 rfl ?_
                refine lv_istore (lv' := [(9, .int (iI (-1))), (8, .int (iI (k : Int))), (7, .int (iI e)), (6, .int (iI cv)), (5, .int (iI cu)), (0, .ref a), (1, .int (iI cx)), (2, .int (iI cy)), (3, .int (iI r)), (4, .ref q)]) kx kb dX2_drawCircle_39 hl (by decide) rfl (fun ls hl => ?_)
                refine lv_iload kx kb dX2_drawCircle_41 (lv_at hl 1 rfl) ?_
                refine lv_iconst (v := iI 2) kx kb dX2_drawCircle_43 rfl ?_
                refine ti_icmp_ge (tgt := 51) kx kb (by omega) dX2_drawCircle_44 (by decide) (fun h44 => ?_) (fun h44 => ?_)
                · refine lv_iconst (v := iI (-1)) kx kb dX2_drawCircle_51 rfl ?_
                  refine lv_istore (lv' := [(10, .int (iI (-1))), (9, .int (iI (-1))), (8, .int (iI (k : Int))), (7, .int (iI e)), (6, .int (iI cv)), (5, .int (iI cu)), (0, .ref a), (1, .int (iI cx)), (2, .int (iI cy)), (3, .int (iI r)), (4, .ref q)]) kx kb dX2_drawCircle_52 hl (by decide) rfl (fun ls hl => ?_)
                  refine lv_aload kx kb dX2_drawCircle_54 (lv_at hl 10 rfl) ?_
                  refine lv_iload_n kx kb dX2_drawCircle_56 rfl (lv_at hl 7 rfl) ?_
                  refine lv_iload kx kb dX2_drawCircle_57 (lv_at hl 1 rfl) ?_
                  refine lv_iload kx kb dX2_drawCircle_59 (lv_at hl 5 rfl) ?_
                  refine ti_imul kx kb dX2_drawCircle_61 ?_
                  refine ti_iadd kx kb dX2_drawCircle_62 ?_
                  refine lv_iload_n kx kb dX2_drawCircle_63 rfl (lv_at hl 8 rfl) ?_
                  refine lv_iload kx kb dX2_drawCircle_64 (lv_at hl 0 rfl) ?_
                  refine lv_iload kx kb dX2_drawCircle_66 (lv_at hl 4 rfl) ?_
                  refine ti_imul kx kb dX2_drawCircle_68 ?_
                  refine ti_iadd kx kb dX2_drawCircle_69 ?_
                  have he0 : ei1 cx cy cu cv (k) = (cx + ((-1) * cu), cy + ((-1) * cv)) := by unfold ei1; exact Prod.ext (by simp only []; (repeat' split) <;> omega) (by simp only []; (repeat' split) <;> omega)
                  have hdc0 := dN_cost w g (cx + ((-1) * cu)) (cy + ((-1) * cv)) z ne
                  have hBd0 := drw_BB (x := cx + ((-1) * cu)) (y := cy + ((-1) * cv)) (z := z) hwg hBi
                  have hBe0 := hBd0.2.1
                  refine t_callDraw (wr := []) C hY q1246 (met_X2_lambda_pen_0 l D E a b sv2 ne w g k2 z (cx + ((-1) * cu)) (cy + ((-1) * cv)) (by first | assumption | omega) (by first | assumption | omega) (by first | assumption | omega) (by first | assumption | omega) (by first | assumption | omega)) (fun _ => rfl) ⟨Nat.le_of_ble_eq_true rfl, Nat.le_of_ble_eq_true rfl⟩  (va_recv hK hP (ci := 2) (q0 := 0) rfl rfl) hK hX hP hD hS hA [0, 1, 2] [] rfl rfl (by decide) (by decide) (by decide)  hl.1 rfl (Nat.le_of_ble_eq_true rfl) dX2_drawCircle_70 ⟨(show ne - n + (dN w g (cx + ((-1) * cu)) (cy + ((-1) * cv)) z ne - ne) ≤ 29 from by omega), (show 2 * (ne - n) + (2 * (dN w g (cx + ((-1) * cu)) (cy + ((-1) * cv)) z ne - ne)) ≤ 58 from by omega)⟩ (fun u_ H locs hp hP hD hS => ?_)
                  obtain ⟨w2_1, rfl⟩ : ∃ z, z = u_ := ⟨_, rfl⟩
                  have hP : va_P D.1 clAll [(a, .inr (2, [.int (iI ((w : Nat) : Int)), .int (iI ((g : Nat) : Int)), .ref b])), (b, .inr (3, [.ref w2_1, .int (iI ((un (drw w g (cx + ((-1) * cu)) (cy + ((-1) * cv)) z k2) : Nat) : Int)), .int (zI false)])), (w2_1, .inl (D.2 2, dN w g (cx + ((-1) * cu)) (cy + ((-1) * cv)) z ne, .inr (.inl (wd (drw w g (cx + ((-1) * cu)) (cy + ((-1) * cv)) z k2)))))] H := hP
                  have hD : va_D A [(a, .inr (2, [.int (iI ((w : Nat) : Int)), .int (iI ((g : Nat) : Int)), .ref b])), (b, .inr (3, [.ref w2_1, .int (iI ((un (drw w g (cx + ((-1) * cu)) (cy + ((-1) * cv)) z k2) : Nat) : Int)), .int (zI false)])), (w2_1, .inl (D.2 2, dN w g (cx + ((-1) * cu)) (cy + ((-1) * cv)) z ne, .inr (.inl (wd (drw w g (cx + ((-1) * cu)) (cy + ((-1) * cv)) z k2)))))] := hD
                  refine W.eq (g2 := F0 m0 75 ls []) rfl ?_
                  refine W.widen (k := ne - n + (dN w g (cx + ((-1) * cu)) (cy + ((-1) * cv)) z ne - ne)) (n := 2 * (ne - n) + (2 * (dN w g (cx + ((-1) * cu)) (cy + ((-1) * cv)) z ne - ne))) (Nat.le_refl _) (Nat.le_refl _) ?_
                  refine lv_aload kx kb dX2_drawCircle_75 (lv_at hl 10 rfl) ?_
                  refine lv_iload_n kx kb dX2_drawCircle_77 rfl (lv_at hl 7 rfl) ?_
                  refine lv_iload kx kb dX2_drawCircle_78 (lv_at hl 1 rfl) ?_
                  refine lv_iload kx kb dX2_drawCircle_80 (lv_at hl 4 rfl) ?_
                  refine ti_imul kx kb dX2_drawCircle_82 ?_
                  refine ti_iadd kx kb dX2_drawCircle_83 ?_
                  refine lv_iload_n kx kb dX2_drawCircle_84 rfl (lv_at hl 8 rfl) ?_
                  refine lv_iload kx kb dX2_drawCircle_85 (lv_at hl 0 rfl) ?_
                  refine lv_iload kx kb dX2_drawCircle_87 (lv_at hl 5 rfl) ?_
                  refine ti_imul kx kb dX2_drawCircle_89 ?_
                  refine ti_iadd kx kb dX2_drawCircle_90 ?_
                  have he1 : ei1 cx cy cu cv (k + 4) = (cx + ((-1) * cv), cy + ((-1) * cu)) := by unfold ei1; exact Prod.ext (by simp only []; (repeat' split) <;> omega) (by simp only []; (repeat' split) <;> omega)
                  have hdc1 := dN_cost w g (cx + ((-1) * cv)) (cy + ((-1) * cu)) z (dN w g (cx + ((-1) * cu)) (cy + ((-1) * cv)) z ne)
                  have hBd1 := drw_BB (x := cx + ((-1) * cv)) (y := cy + ((-1) * cu)) (z := z) hwg hBd0
                  have hBe1 := hBd1.2.1
                  refine t_callDraw (wr := []) C hY q1246 (met_X2_lambda_pen_0 l D E a b w2_1 (dN w g (cx + ((-1) * cu)) (cy + ((-1) * cv)) z ne) w g (drw w g (cx + ((-1) * cu)) (cy + ((-1) * cv)) z k2) z (cx + ((-1) * cv)) (cy + ((-1) * cu)) (by first | assumption | omega) (by first | assumption | omega) (by first | assumption | omega) (by first | assumption | omega) (by first | assumption | omega)) (fun _ => rfl) ⟨Nat.le_of_ble_eq_true rfl, Nat.le_of_ble_eq_true rfl⟩  (va_recv hK hP (ci := 2) (q0 := 0) rfl rfl) hK hX hP hD hS hA [0, 1, 2] [] rfl rfl (by decide) (by decide) (by decide)  hl.1 rfl (Nat.le_of_ble_eq_true rfl) dX2_drawCircle_91 ⟨(show ne - n + (dN w g (cx + ((-1) * cu)) (cy + ((-1) * cv)) z ne - ne) + (dN w g (cx + ((-1) * cv)) (cy + ((-1) * cu)) z (dN w g (cx + ((-1) * cu)) (cy + ((-1) * cv)) z ne) - (dN w g (cx + ((-1) * cu)) (cy + ((-1) * cv)) z ne)) ≤ 29 from by omega), (show 2 * (ne - n) + (2 * (dN w g (cx + ((-1) * cu)) (cy + ((-1) * cv)) z ne - ne)) + (2 * (dN w g (cx + ((-1) * cv)) (cy + ((-1) * cu)) z (dN w g (cx + ((-1) * cu)) (cy + ((-1) * cv)) z ne) - (dN w g (cx + ((-1) * cu)) (cy + ((-1) * cv)) z ne))) ≤ 58 from by omega)⟩ (fun u_ H locs hp hP hD hS => ?_)
                  obtain ⟨w2_2, rfl⟩ : ∃ z, z = u_ := ⟨_, rfl⟩
                  have hP : va_P D.1 clAll [(a, .inr (2, [.int (iI ((w : Nat) : Int)), .int (iI ((g : Nat) : Int)), .ref b])), (b, .inr (3, [.ref w2_2, .int (iI ((un (drw w g (cx + ((-1) * cv)) (cy + ((-1) * cu)) z (drw w g (cx + ((-1) * cu)) (cy + ((-1) * cv)) z k2)) : Nat) : Int)), .int (zI false)])), (w2_2, .inl (D.2 2, dN w g (cx + ((-1) * cv)) (cy + ((-1) * cu)) z (dN w g (cx + ((-1) * cu)) (cy + ((-1) * cv)) z ne), .inr (.inl (wd (drw w g (cx + ((-1) * cv)) (cy + ((-1) * cu)) z (drw w g (cx + ((-1) * cu)) (cy + ((-1) * cv)) z k2))))))] H := hP
                  have hD : va_D A [(a, .inr (2, [.int (iI ((w : Nat) : Int)), .int (iI ((g : Nat) : Int)), .ref b])), (b, .inr (3, [.ref w2_2, .int (iI ((un (drw w g (cx + ((-1) * cv)) (cy + ((-1) * cu)) z (drw w g (cx + ((-1) * cu)) (cy + ((-1) * cv)) z k2)) : Nat) : Int)), .int (zI false)])), (w2_2, .inl (D.2 2, dN w g (cx + ((-1) * cv)) (cy + ((-1) * cu)) z (dN w g (cx + ((-1) * cu)) (cy + ((-1) * cv)) z ne), .inr (.inl (wd (drw w g (cx + ((-1) * cv)) (cy + ((-1) * cu)) z (drw w g (cx + ((-1) * cu)) (cy + ((-1) * cv)) z k2))))))] := hD
                  refine W.eq (g2 := F0 m0 96 ls []) rfl ?_
                  refine W.widen (k := ne - n + (dN w g (cx + ((-1) * cu)) (cy + ((-1) * cv)) z ne - ne) + (dN w g (cx + ((-1) * cv)) (cy + ((-1) * cu)) z (dN w g (cx + ((-1) * cu)) (cy + ((-1) * cv)) z ne) - (dN w g (cx + ((-1) * cu)) (cy + ((-1) * cv)) z ne))) (n := 2 * (ne - n) + (2 * (dN w g (cx + ((-1) * cu)) (cy + ((-1) * cv)) z ne - ne)) + (2 * (dN w g (cx + ((-1) * cv)) (cy + ((-1) * cu)) z (dN w g (cx + ((-1) * cu)) (cy + ((-1) * cv)) z ne) - (dN w g (cx + ((-1) * cu)) (cy + ((-1) * cv)) z ne)))) (Nat.le_refl _) (Nat.le_refl _) ?_
                  have hk2 : (drw w g (cx + ((-1) * cv)) (cy + ((-1) * cu)) z (drw w g (cx + ((-1) * cu)) (cy + ((-1) * cv)) z k2)) = drwL w g z (cqL cx cy cu cv (k + 1)) k1 := by simp only [cqL]; rw [drwL_app, ← hTi, he0, he1]; rfl
                  have hBi2 := hBd1
                  rw [hk2] at hBi2
                  have hP : va_P D.1 clAll [(a, .inr (2, [.int (iI ((w : Nat) : Int)), .int (iI ((g : Nat) : Int)), .ref b])), (b, .inr (3, [.ref w2_2, .int (iI ((un (drwL w g z (cqL cx cy cu cv (k + 1)) k1) : Nat) : Int)), .int (zI false)])), (w2_2, .inl (D.2 2, dN w g (cx + ((-1) * cv)) (cy + ((-1) * cu)) z (dN w g (cx + ((-1) * cu)) (cy + ((-1) * cv)) z ne), .inr (.inl (wd (drwL w g z (cqL cx cy cu cv (k + 1)) k1)))))] H := by rw [← hk2]; exact hP
                  have hD : va_D A [(a, .inr (2, [.int (iI ((w : Nat) : Int)), .int (iI ((g : Nat) : Int)), .ref b])), (b, .inr (3, [.ref w2_2, .int (iI ((un (drwL w g z (cqL cx cy cu cv (k + 1)) k1) : Nat) : Int)), .int (zI false)])), (w2_2, .inl (D.2 2, dN w g (cx + ((-1) * cv)) (cy + ((-1) * cu)) z (dN w g (cx + ((-1) * cu)) (cy + ((-1) * cv)) z ne), .inr (.inl (wd (drwL w g z (cqL cx cy cu cv (k + 1)) k1)))))] := by rw [← hk2]; exact hD
                  refine ti_iinc (a := (k : Int)) (lv' := [(8, .int (iI ((k : Int) + 1))), (10, .int (iI (-1))), (9, .int (iI (-1))), (7, .int (iI e)), (6, .int (iI cv)), (5, .int (iI cu)), (0, .ref a), (1, .int (iI cx)), (2, .int (iI cy)), (3, .int (iI r)), (4, .ref q)]) kx kb dX2_drawCircle_96 hl (k := 2) rfl (by decide) rfl (fun ls hl => ?_)
                  refine lv_goto (tgt := 21) kx kb dX2_drawCircle_99 (by decide) ?_
                  refine W.widen (k := (dN w g (cx + ((-1) * cv)) (cy + ((-1) * cu)) z (dN w g (cx + ((-1) * cu)) (cy + ((-1) * cv)) z ne)) - n) (n := 2 * ((dN w g (cx + ((-1) * cv)) (cy + ((-1) * cu)) z (dN w g (cx + ((-1) * cu)) (cy + ((-1) * cv)) z ne)) - n)) (by omega) (by omega) ?_
                  exact ih21 (k + 1) w2_2 (dN w g (cx + ((-1) * cv)) (cy + ((-1) * cu)) z (dN w g (cx + ((-1) * cu)) (cy + ((-1) * cv)) z ne)) (drwL w g z (cqL cx cy cu cv (k + 1)) k1) (by omega) (by rfl) (hBi2) (by omega) (by omega) H locs hP hD hS ls (lv_sub hl [0, 3, 4, 5, 6, 7, 8, 9, 10] rfl)
                · refine lv_iconst (v := iI 1) kx kb dX2_drawCircle_47 rfl ?_
                  refine lv_goto (tgt := 52) kx kb dX2_drawCircle_48 (by decide) ?_
                  refine lv_istore (lv' := [(10, .int (iI 1)), (9, .int (iI (-1))), (8, .int (iI (k : Int))), (7, .int (iI e)), (6, .int (iI cv)), (5, .int (iI cu)), (0, .ref a), (1, .int (iI cx)), (2, .int (iI cy)), (3, .int (iI r)), (4, .ref q)]) kx kb dX2_drawCircle_52 hl (by decide) rfl (fun ls hl => ?_)
                  refine lv_aload kx kb dX2_drawCircle_54 (lv_at hl 10 rfl) ?_
                  refine lv_iload_n kx kb dX2_drawCircle_56 rfl (lv_at hl 7 rfl) ?_
                  refine lv_iload kx kb dX2_drawCircle_57 (lv_at hl 1 rfl) ?_
                  refine lv_iload kx kb dX2_drawCircle_59 (lv_at hl 5 rfl) ?_
                  refine ti_imul kx kb dX2_drawCircle_61 ?_
                  refine ti_iadd kx kb dX2_drawCircle_62 ?_
                  refine lv_iload_n kx kb dX2_drawCircle_63 rfl (lv_at hl 8 rfl) ?_
                  refine lv_iload kx kb dX2_drawCircle_64 (lv_at hl 0 rfl) ?_
                  refine lv_iload kx kb dX2_drawCircle_66 (lv_at hl 4 rfl) ?_
                  refine ti_imul kx kb dX2_drawCircle_68 ?_
                  refine ti_iadd kx kb dX2_drawCircle_69 ?_
                  have he0 : ei1 cx cy cu cv (k) = (cx + ((-1) * cu), cy + (1 * cv)) := by unfold ei1; exact Prod.ext (by simp only []; (repeat' split) <;> omega) (by simp only []; (repeat' split) <;> omega)
                  have hdc0 := dN_cost w g (cx + ((-1) * cu)) (cy + (1 * cv)) z ne
                  have hBd0 := drw_BB (x := cx + ((-1) * cu)) (y := cy + (1 * cv)) (z := z) hwg hBi
                  have hBe0 := hBd0.2.1
                  refine t_callDraw (wr := []) C hY q1246 (met_X2_lambda_pen_0 l D E a b sv2 ne w g k2 z (cx + ((-1) * cu)) (cy + (1 * cv)) (by first | assumption | omega) (by first | assumption | omega) (by first | assumption | omega) (by first | assumption | omega) (by first | assumption | omega)) (fun _ => rfl) ⟨Nat.le_of_ble_eq_true rfl, Nat.le_of_ble_eq_true rfl⟩  (va_recv hK hP (ci := 2) (q0 := 0) rfl rfl) hK hX hP hD hS hA [0, 1, 2] [] rfl rfl (by decide) (by decide) (by decide)  hl.1 rfl (Nat.le_of_ble_eq_true rfl) dX2_drawCircle_70 ⟨(show ne - n + (dN w g (cx + ((-1) * cu)) (cy + (1 * cv)) z ne - ne) ≤ 29 from by omega), (show 2 * (ne - n) + (2 * (dN w g (cx + ((-1) * cu)) (cy + (1 * cv)) z ne - ne)) ≤ 58 from by omega)⟩ (fun u_ H locs hp hP hD hS => ?_)
                  obtain ⟨w2_3, rfl⟩ : ∃ z, z = u_ := ⟨_, rfl⟩
                  have hP : va_P D.1 clAll [(a, .inr (2, [.int (iI ((w : Nat) : Int)), .int (iI ((g : Nat) : Int)), .ref b])), (b, .inr (3, [.ref w2_3, .int (iI ((un (drw w g (cx + ((-1) * cu)) (cy + (1 * cv)) z k2) : Nat) : Int)), .int (zI false)])), (w2_3, .inl (D.2 2, dN w g (cx + ((-1) * cu)) (cy + (1 * cv)) z ne, .inr (.inl (wd (drw w g (cx + ((-1) * cu)) (cy + (1 * cv)) z k2)))))] H := hP
                  have hD : va_D A [(a, .inr (2, [.int (iI ((w : Nat) : Int)), .int (iI ((g : Nat) : Int)), .ref b])), (b, .inr (3, [.ref w2_3, .int (iI ((un (drw w g (cx + ((-1) * cu)) (cy + (1 * cv)) z k2) : Nat) : Int)), .int (zI false)])), (w2_3, .inl (D.2 2, dN w g (cx + ((-1) * cu)) (cy + (1 * cv)) z ne, .inr (.inl (wd (drw w g (cx + ((-1) * cu)) (cy + (1 * cv)) z k2)))))] := hD
                  refine W.eq (g2 := F0 m0 75 ls []) rfl ?_
                  refine W.widen (k := ne - n + (dN w g (cx + ((-1) * cu)) (cy + (1 * cv)) z ne - ne)) (n := 2 * (ne - n) + (2 * (dN w g (cx + ((-1) * cu)) (cy + (1 * cv)) z ne - ne))) (Nat.le_refl _) (Nat.le_refl _) ?_
                  refine lv_aload kx kb dX2_drawCircle_75 (lv_at hl 10 rfl) ?_
                  refine lv_iload_n kx kb dX2_drawCircle_77 rfl (lv_at hl 7 rfl) ?_
                  refine lv_iload kx kb dX2_drawCircle_78 (lv_at hl 1 rfl) ?_
                  refine lv_iload kx kb dX2_drawCircle_80 (lv_at hl 4 rfl) ?_
                  refine ti_imul kx kb dX2_drawCircle_82 ?_
                  refine ti_iadd kx kb dX2_drawCircle_83 ?_
                  refine lv_iload_n kx kb dX2_drawCircle_84 rfl (lv_at hl 8 rfl) ?_
                  refine lv_iload kx kb dX2_drawCircle_85 (lv_at hl 0 rfl) ?_
                  refine lv_iload kx kb dX2_drawCircle_87 (lv_at hl 5 rfl) ?_
                  refine ti_imul kx kb dX2_drawCircle_89 ?_
                  refine ti_iadd kx kb dX2_drawCircle_90 ?_
                  have he1 : ei1 cx cy cu cv (k + 4) = (cx + ((-1) * cv), cy + (1 * cu)) := by unfold ei1; exact Prod.ext (by simp only []; (repeat' split) <;> omega) (by simp only []; (repeat' split) <;> omega)
                  have hdc1 := dN_cost w g (cx + ((-1) * cv)) (cy + (1 * cu)) z (dN w g (cx + ((-1) * cu)) (cy + (1 * cv)) z ne)
                  have hBd1 := drw_BB (x := cx + ((-1) * cv)) (y := cy + (1 * cu)) (z := z) hwg hBd0
                  have hBe1 := hBd1.2.1
                  refine t_callDraw (wr := []) C hY q1246 (met_X2_lambda_pen_0 l D E a b w2_3 (dN w g (cx + ((-1) * cu)) (cy + (1 * cv)) z ne) w g (drw w g (cx + ((-1) * cu)) (cy + (1 * cv)) z k2) z (cx + ((-1) * cv)) (cy + (1 * cu)) (by first | assumption | omega) (by first | assumption | omega) (by first | assumption | omega) (by first | assumption | omega) (by first | assumption | omega)) (fun _ => rfl) ⟨Nat.le_of_ble_eq_true rfl, Nat.le_of_ble_eq_true rfl⟩  (va_recv hK hP (ci := 2) (q0 := 0) rfl rfl) hK hX hP hD hS hA [0, 1, 2] [] rfl rfl (by decide) (by decide) (by decide)  hl.1 rfl (Nat.le_of_ble_eq_true rfl) dX2_drawCircle_91 ⟨(show ne - n + (dN w g (cx + ((-1) * cu)) (cy + (1 * cv)) z ne - ne) + (dN w g (cx + ((-1) * cv)) (cy + (1 * cu)) z (dN w g (cx + ((-1) * cu)) (cy + (1 * cv)) z ne) - (dN w g (cx + ((-1) * cu)) (cy + (1 * cv)) z ne)) ≤ 29 from by omega), (show 2 * (ne - n) + (2 * (dN w g (cx + ((-1) * cu)) (cy + (1 * cv)) z ne - ne)) + (2 * (dN w g (cx + ((-1) * cv)) (cy + (1 * cu)) z (dN w g (cx + ((-1) * cu)) (cy + (1 * cv)) z ne) - (dN w g (cx + ((-1) * cu)) (cy + (1 * cv)) z ne))) ≤ 58 from by omega)⟩ (fun u_ H locs hp hP hD hS => ?_)
                  obtain ⟨w2_4, rfl⟩ : ∃ z, z = u_ := ⟨_, rfl⟩
                  have hP : va_P D.1 clAll [(a, .inr (2, [.int (iI ((w : Nat) : Int)), .int (iI ((g : Nat) : Int)), .ref b])), (b, .inr (3, [.ref w2_4, .int (iI ((un (drw w g (cx + ((-1) * cv)) (cy + (1 * cu)) z (drw w g (cx + ((-1) * cu)) (cy + (1 * cv)) z k2)) : Nat) : Int)), .int (zI false)])), (w2_4, .inl (D.2 2, dN w g (cx + ((-1) * cv)) (cy + (1 * cu)) z (dN w g (cx + ((-1) * cu)) (cy + (1 * cv)) z ne), .inr (.inl (wd (drw w g (cx + ((-1) * cv)) (cy + (1 * cu)) z (drw w g (cx + ((-1) * cu)) (cy + (1 * cv)) z k2))))))] H := hP
                  have hD : va_D A [(a, .inr (2, [.int (iI ((w : Nat) : Int)), .int (iI ((g : Nat) : Int)), .ref b])), (b, .inr (3, [.ref w2_4, .int (iI ((un (drw w g (cx + ((-1) * cv)) (cy + (1 * cu)) z (drw w g (cx + ((-1) * cu)) (cy + (1 * cv)) z k2)) : Nat) : Int)), .int (zI false)])), (w2_4, .inl (D.2 2, dN w g (cx + ((-1) * cv)) (cy + (1 * cu)) z (dN w g (cx + ((-1) * cu)) (cy + (1 * cv)) z ne), .inr (.inl (wd (drw w g (cx + ((-1) * cv)) (cy + (1 * cu)) z (drw w g (cx + ((-1) * cu)) (cy + (1 * cv)) z k2))))))] := hD
                  refine W.eq (g2 := F0 m0 96 ls []) rfl ?_
                  refine W.widen (k := ne - n + (dN w g (cx + ((-1) * cu)) (cy + (1 * cv)) z ne - ne) + (dN w g (cx + ((-1) * cv)) (cy + (1 * cu)) z (dN w g (cx + ((-1) * cu)) (cy + (1 * cv)) z ne) - (dN w g (cx + ((-1) * cu)) (cy + (1 * cv)) z ne))) (n := 2 * (ne - n) + (2 * (dN w g (cx + ((-1) * cu)) (cy + (1 * cv)) z ne - ne)) + (2 * (dN w g (cx + ((-1) * cv)) (cy + (1 * cu)) z (dN w g (cx + ((-1) * cu)) (cy + (1 * cv)) z ne) - (dN w g (cx + ((-1) * cu)) (cy + (1 * cv)) z ne)))) (Nat.le_refl _) (Nat.le_refl _) ?_
                  have hk2 : (drw w g (cx + ((-1) * cv)) (cy + (1 * cu)) z (drw w g (cx + ((-1) * cu)) (cy + (1 * cv)) z k2)) = drwL w g z (cqL cx cy cu cv (k + 1)) k1 := by simp only [cqL]; rw [drwL_app, ← hTi, he0, he1]; rfl
                  have hBi2 := hBd1
                  rw [hk2] at hBi2
                  have hP : va_P D.1 clAll [(a, .inr (2, [.int (iI ((w : Nat) : Int)), .int (iI ((g : Nat) : Int)), .ref b])), (b, .inr (3, [.ref w2_4, .int (iI ((un (drwL w g z (cqL cx cy cu cv (k + 1)) k1) : Nat) : Int)), .int (zI false)])), (w2_4, .inl (D.2 2, dN w g (cx + ((-1) * cv)) (cy + (1 * cu)) z (dN w g (cx + ((-1) * cu)) (cy + (1 * cv)) z ne), .inr (.inl (wd (drwL w g z (cqL cx cy cu cv (k + 1)) k1)))))] H := by rw [← hk2]; exact hP
                  have hD : va_D A [(a, .inr (2, [.int (iI ((w : Nat) : Int)), .int (iI ((g : Nat) : Int)), .ref b])), (b, .inr (3, [.ref w2_4, .int (iI ((un (drwL w g z (cqL cx cy cu cv (k + 1)) k1) : Nat) : Int)), .int (zI false)])), (w2_4, .inl (D.2 2, dN w g (cx + ((-1) * cv)) (cy + (1 * cu)) z (dN w g (cx + ((-1) * cu)) (cy + (1 * cv)) z ne), .inr (.inl (wd (drwL w g z (cqL cx cy cu cv (k + 1)) k1)))))] := by rw [← hk2]; exact hD
                  refine ti_iinc (a := (k : Int)) (lv' := [(8, .int (iI ((k : Int) + 1))), (10, .int (iI 1)), (9, .int (iI (-1))), (7, .int (iI e)), (6, .int (iI cv)), (5, .int (iI cu)), (0, .ref a), (1, .int (iI cx)), (2, .int (iI cy)), (3, .int (iI r)), (4, .ref q)]) kx kb dX2_drawCircle_96 hl (k := 2) rfl (by decide) rfl (fun ls hl => ?_)
                  refine lv_goto (tgt := 21) kx kb dX2_drawCircle_99 (by decide) ?_
                  refine W.widen (k := (dN w g (cx + ((-1) * cv)) (cy + (1 * cu)) z (dN w g (cx + ((-1) * cu)) (cy + (1 * cv)) z ne)) - n) (n := 2 * ((dN w g (cx + ((-1) * cv)) (cy + (1 * cu)) z (dN w g (cx + ((-1) * cu)) (cy + (1 * cv)) z ne)) - n)) (by omega) (by omega) ?_
                  exact ih21 (k + 1) w2_4 (dN w g (cx + ((-1) * cv)) (cy + (1 * cu)) z (dN w g (cx + ((-1) * cu)) (cy + (1 * cv)) z ne)) (drwL w g z (cqL cx cy cu cv (k + 1)) k1) (by omega) (by rfl) (hBi2) (by omega) (by omega) H locs hP hD hS ls (lv_sub hl [0, 3, 4, 5, 6, 7, 8, 9, 10] rfl)
              · refine lv_iconst (v := iI 1) kx kb dX2_drawCircle_34 rfl ?_
                refine lv_goto (tgt := 39) kx kb dX2_drawCircle_35 (by decide) ?_
                refine lv_istore (lv' := [(9, .int (iI 1)), (8, .int (iI (k : Int))), (7, .int (iI e)), (6, .int (iI cv)), (5, .int (iI cu)), (0, .ref a), (1, .int (iI cx)), (2, .int (iI cy)), (3, .int (iI r)), (4, .ref q)]) kx kb dX2_drawCircle_39 hl (by decide) rfl (fun ls hl => ?_)
                refine lv_iload kx kb dX2_drawCircle_41 (lv_at hl 1 rfl) ?_
                refine lv_iconst (v := iI 2) kx kb dX2_drawCircle_43 rfl ?_
                refine ti_icmp_ge (tgt := 51) kx kb (by omega) dX2_drawCircle_44 (by decide) (fun h44 => ?_) (fun h44 => ?_)
                · refine lv_iconst (v := iI (-1)) kx kb dX2_drawCircle_51 rfl ?_
                  refine lv_istore (lv' := [(10, .int (iI (-1))), (9, .int (iI 1)), (8, .int (iI (k : Int))), (7, .int (iI e)), (6, .int (iI cv)), (5, .int (iI cu)), (0, .ref a), (1, .int (iI cx)), (2, .int (iI cy)), (3, .int (iI r)), (4, .ref q)]) kx kb dX2_drawCircle_52 hl (by decide) rfl (fun ls hl => ?_)
                  refine lv_aload kx kb dX2_drawCircle_54 (lv_at hl 10 rfl) ?_
                  refine lv_iload_n kx kb dX2_drawCircle_56 rfl (lv_at hl 7 rfl) ?_
                  refine lv_iload kx kb dX2_drawCircle_57 (lv_at hl 1 rfl) ?_
                  refine lv_iload kx kb dX2_drawCircle_59 (lv_at hl 5 rfl) ?_
                  refine ti_imul kx kb dX2_drawCircle_61 ?_
                  refine ti_iadd kx kb dX2_drawCircle_62 ?_
                  refine lv_iload_n kx kb dX2_drawCircle_63 rfl (lv_at hl 8 rfl) ?_
                  refine lv_iload kx kb dX2_drawCircle_64 (lv_at hl 0 rfl) ?_
                  refine lv_iload kx kb dX2_drawCircle_66 (lv_at hl 4 rfl) ?_
                  refine ti_imul kx kb dX2_drawCircle_68 ?_
                  refine ti_iadd kx kb dX2_drawCircle_69 ?_
                  have he0 : ei1 cx cy cu cv (k) = (cx + (1 * cu), cy + ((-1) * cv)) := by unfold ei1; exact Prod.ext (by simp only []; (repeat' split) <;> omega) (by simp only []; (repeat' split) <;> omega)
                  have hdc0 := dN_cost w g (cx + (1 * cu)) (cy + ((-1) * cv)) z ne
                  have hBd0 := drw_BB (x := cx + (1 * cu)) (y := cy + ((-1) * cv)) (z := z) hwg hBi
                  have hBe0 := hBd0.2.1
                  refine t_callDraw (wr := []) C hY q1246 (met_X2_lambda_pen_0 l D E a b sv2 ne w g k2 z (cx + (1 * cu)) (cy + ((-1) * cv)) (by first | assumption | omega) (by first | assumption | omega) (by first | assumption | omega) (by first | assumption | omega) (by first | assumption | omega)) (fun _ => rfl) ⟨Nat.le_of_ble_eq_true rfl, Nat.le_of_ble_eq_true rfl⟩  (va_recv hK hP (ci := 2) (q0 := 0) rfl rfl) hK hX hP hD hS hA [0, 1, 2] [] rfl rfl (by decide) (by decide) (by decide)  hl.1 rfl (Nat.le_of_ble_eq_true rfl) dX2_drawCircle_70 ⟨(show ne - n + (dN w g (cx + (1 * cu)) (cy + ((-1) * cv)) z ne - ne) ≤ 29 from by omega), (show 2 * (ne - n) + (2 * (dN w g (cx + (1 * cu)) (cy + ((-1) * cv)) z ne - ne)) ≤ 58 from by omega)⟩ (fun u_ H locs hp hP hD hS => ?_)
                  obtain ⟨w2_5, rfl⟩ : ∃ z, z = u_ := ⟨_, rfl⟩
                  have hP : va_P D.1 clAll [(a, .inr (2, [.int (iI ((w : Nat) : Int)), .int (iI ((g : Nat) : Int)), .ref b])), (b, .inr (3, [.ref w2_5, .int (iI ((un (drw w g (cx + (1 * cu)) (cy + ((-1) * cv)) z k2) : Nat) : Int)), .int (zI false)])), (w2_5, .inl (D.2 2, dN w g (cx + (1 * cu)) (cy + ((-1) * cv)) z ne, .inr (.inl (wd (drw w g (cx + (1 * cu)) (cy + ((-1) * cv)) z k2)))))] H := hP
                  have hD : va_D A [(a, .inr (2, [.int (iI ((w : Nat) : Int)), .int (iI ((g : Nat) : Int)), .ref b])), (b, .inr (3, [.ref w2_5, .int (iI ((un (drw w g (cx + (1 * cu)) (cy + ((-1) * cv)) z k2) : Nat) : Int)), .int (zI false)])), (w2_5, .inl (D.2 2, dN w g (cx + (1 * cu)) (cy + ((-1) * cv)) z ne, .inr (.inl (wd (drw w g (cx + (1 * cu)) (cy + ((-1) * cv)) z k2)))))] := hD
                  refine W.eq (g2 := F0 m0 75 ls []) rfl ?_
                  refine W.widen (k := ne - n + (dN w g (cx + (1 * cu)) (cy + ((-1) * cv)) z ne - ne)) (n := 2 * (ne - n) + (2 * (dN w g (cx + (1 * cu)) (cy + ((-1) * cv)) z ne - ne))) (Nat.le_refl _) (Nat.le_refl _) ?_
                  refine lv_aload kx kb dX2_drawCircle_75 (lv_at hl 10 rfl) ?_
                  refine lv_iload_n kx kb dX2_drawCircle_77 rfl (lv_at hl 7 rfl) ?_
                  refine lv_iload kx kb dX2_drawCircle_78 (lv_at hl 1 rfl) ?_
                  refine lv_iload kx kb dX2_drawCircle_80 (lv_at hl 4 rfl) ?_
                  refine ti_imul kx kb dX2_drawCircle_82 ?_
                  refine ti_iadd kx kb dX2_drawCircle_83 ?_
                  refine lv_iload_n kx kb dX2_drawCircle_84 rfl (lv_at hl 8 rfl) ?_
                  refine lv_iload kx kb dX2_drawCircle_85 (lv_at hl 0 rfl) ?_
                  refine lv_iload kx kb dX2_drawCircle_87 (lv_at hl 5 rfl) ?_
                  refine ti_imul kx kb dX2_drawCircle_89 ?_
                  refine ti_iadd kx kb dX2_drawCircle_90 ?_
                  have he1 : ei1 cx cy cu cv (k + 4) = (cx + (1 * cv), cy + ((-1) * cu)) := by unfold ei1; exact Prod.ext (by simp only []; (repeat' split) <;> omega) (by simp only []; (repeat' split) <;> omega)
                  have hdc1 := dN_cost w g (cx + (1 * cv)) (cy + ((-1) * cu)) z (dN w g (cx + (1 * cu)) (cy + ((-1) * cv)) z ne)
                  have hBd1 := drw_BB (x := cx + (1 * cv)) (y := cy + ((-1) * cu)) (z := z) hwg hBd0
                  have hBe1 := hBd1.2.1
                  refine t_callDraw (wr := []) C hY q1246 (met_X2_lambda_pen_0 l D E a b w2_5 (dN w g (cx + (1 * cu)) (cy + ((-1) * cv)) z ne) w g (drw w g (cx + (1 * cu)) (cy + ((-1) * cv)) z k2) z (cx + (1 * cv)) (cy + ((-1) * cu)) (by first | assumption | omega) (by first | assumption | omega) (by first | assumption | omega) (by first | assumption | omega) (by first | assumption | omega)) (fun _ => rfl) ⟨Nat.le_of_ble_eq_true rfl, Nat.le_of_ble_eq_true rfl⟩  (va_recv hK hP (ci := 2) (q0 := 0) rfl rfl) hK hX hP hD hS hA [0, 1, 2] [] rfl rfl (by decide) (by decide) (by decide)  hl.1 rfl (Nat.le_of_ble_eq_true rfl) dX2_drawCircle_91 ⟨(show ne - n + (dN w g (cx + (1 * cu)) (cy + ((-1) * cv)) z ne - ne) + (dN w g (cx + (1 * cv)) (cy + ((-1) * cu)) z (dN w g (cx + (1 * cu)) (cy + ((-1) * cv)) z ne) - (dN w g (cx + (1 * cu)) (cy + ((-1) * cv)) z ne)) ≤ 29 from by omega), (show 2 * (ne - n) + (2 * (dN w g (cx + (1 * cu)) (cy + ((-1) * cv)) z ne - ne)) + (2 * (dN w g (cx + (1 * cv)) (cy + ((-1) * cu)) z (dN w g (cx + (1 * cu)) (cy + ((-1) * cv)) z ne) - (dN w g (cx + (1 * cu)) (cy + ((-1) * cv)) z ne))) ≤ 58 from by omega)⟩ (fun u_ H locs hp hP hD hS => ?_)
                  obtain ⟨w2_6, rfl⟩ : ∃ z, z = u_ := ⟨_, rfl⟩
                  have hP : va_P D.1 clAll [(a, .inr (2, [.int (iI ((w : Nat) : Int)), .int (iI ((g : Nat) : Int)), .ref b])), (b, .inr (3, [.ref w2_6, .int (iI ((un (drw w g (cx + (1 * cv)) (cy + ((-1) * cu)) z (drw w g (cx + (1 * cu)) (cy + ((-1) * cv)) z k2)) : Nat) : Int)), .int (zI false)])), (w2_6, .inl (D.2 2, dN w g (cx + (1 * cv)) (cy + ((-1) * cu)) z (dN w g (cx + (1 * cu)) (cy + ((-1) * cv)) z ne), .inr (.inl (wd (drw w g (cx + (1 * cv)) (cy + ((-1) * cu)) z (drw w g (cx + (1 * cu)) (cy + ((-1) * cv)) z k2))))))] H := hP
                  have hD : va_D A [(a, .inr (2, [.int (iI ((w : Nat) : Int)), .int (iI ((g : Nat) : Int)), .ref b])), (b, .inr (3, [.ref w2_6, .int (iI ((un (drw w g (cx + (1 * cv)) (cy + ((-1) * cu)) z (drw w g (cx + (1 * cu)) (cy + ((-1) * cv)) z k2)) : Nat) : Int)), .int (zI false)])), (w2_6, .inl (D.2 2, dN w g (cx + (1 * cv)) (cy + ((-1) * cu)) z (dN w g (cx + (1 * cu)) (cy + ((-1) * cv)) z ne), .inr (.inl (wd (drw w g (cx + (1 * cv)) (cy + ((-1) * cu)) z (drw w g (cx + (1 * cu)) (cy + ((-1) * cv)) z k2))))))] := hD
                  refine W.eq (g2 := F0 m0 96 ls []) rfl ?_
                  refine W.widen (k := ne - n + (dN w g (cx + (1 * cu)) (cy + ((-1) * cv)) z ne - ne) + (dN w g (cx + (1 * cv)) (cy + ((-1) * cu)) z (dN w g (cx + (1 * cu)) (cy + ((-1) * cv)) z ne) - (dN w g (cx + (1 * cu)) (cy + ((-1) * cv)) z ne))) (n := 2 * (ne - n) + (2 * (dN w g (cx + (1 * cu)) (cy + ((-1) * cv)) z ne - ne)) + (2 * (dN w g (cx + (1 * cv)) (cy + ((-1) * cu)) z (dN w g (cx + (1 * cu)) (cy + ((-1) * cv)) z ne) - (dN w g (cx + (1 * cu)) (cy + ((-1) * cv)) z ne)))) (Nat.le_refl _) (Nat.le_refl _) ?_
                  have hk2 : (drw w g (cx + (1 * cv)) (cy + ((-1) * cu)) z (drw w g (cx + (1 * cu)) (cy + ((-1) * cv)) z k2)) = drwL w g z (cqL cx cy cu cv (k + 1)) k1 := by simp only [cqL]; rw [drwL_app, ← hTi, he0, he1]; rfl
                  have hBi2 := hBd1
                  rw [hk2] at hBi2
                  have hP : va_P D.1 clAll [(a, .inr (2, [.int (iI ((w : Nat) : Int)), .int (iI ((g : Nat) : Int)), .ref b])), (b, .inr (3, [.ref w2_6, .int (iI ((un (drwL w g z (cqL cx cy cu cv (k + 1)) k1) : Nat) : Int)), .int (zI false)])), (w2_6, .inl (D.2 2, dN w g (cx + (1 * cv)) (cy + ((-1) * cu)) z (dN w g (cx + (1 * cu)) (cy + ((-1) * cv)) z ne), .inr (.inl (wd (drwL w g z (cqL cx cy cu cv (k + 1)) k1)))))] H := by rw [← hk2]; exact hP
                  have hD : va_D A [(a, .inr (2, [.int (iI ((w : Nat) : Int)), .int (iI ((g : Nat) : Int)), .ref b])), (b, .inr (3, [.ref w2_6, .int (iI ((un (drwL w g z (cqL cx cy cu cv (k + 1)) k1) : Nat) : Int)), .int (zI false)])), (w2_6, .inl (D.2 2, dN w g (cx + (1 * cv)) (cy + ((-1) * cu)) z (dN w g (cx + (1 * cu)) (cy + ((-1) * cv)) z ne), .inr (.inl (wd (drwL w g z (cqL cx cy cu cv (k + 1)) k1)))))] := by rw [← hk2]; exact hD
                  refine ti_iinc (a := (k : Int)) (lv' := [(8, .int (iI ((k : Int) + 1))), (10, .int (iI (-1))), (9, .int (iI 1)), (7, .int (iI e)), (6, .int (iI cv)), (5, .int (iI cu)), (0, .ref a), (1, .int (iI cx)), (2, .int (iI cy)), (3, .int (iI r)), (4, .ref q)]) kx kb dX2_drawCircle_96 hl (k := 2) rfl (by decide) rfl (fun ls hl => ?_)
                  refine lv_goto (tgt := 21) kx kb dX2_drawCircle_99 (by decide) ?_
                  refine W.widen (k := (dN w g (cx + (1 * cv)) (cy + ((-1) * cu)) z (dN w g (cx + (1 * cu)) (cy + ((-1) * cv)) z ne)) - n) (n := 2 * ((dN w g (cx + (1 * cv)) (cy + ((-1) * cu)) z (dN w g (cx + (1 * cu)) (cy + ((-1) * cv)) z ne)) - n)) (by omega) (by omega) ?_
                  exact ih21 (k + 1) w2_6 (dN w g (cx + (1 * cv)) (cy + ((-1) * cu)) z (dN w g (cx + (1 * cu)) (cy + ((-1) * cv)) z ne)) (drwL w g z (cqL cx cy cu cv (k + 1)) k1) (by omega) (by rfl) (hBi2) (by omega) (by omega) H locs hP hD hS ls (lv_sub hl [0, 3, 4, 5, 6, 7, 8, 9, 10] rfl)
                · refine lv_iconst (v := iI 1) kx kb dX2_drawCircle_47 rfl ?_
                  refine lv_goto (tgt := 52) kx kb dX2_drawCircle_48 (by decide) ?_
                  refine lv_istore (lv' := [(10, .int (iI 1)), (9, .int (iI 1)), (8, .int (iI (k : Int))), (7, .int (iI e)), (6, .int (iI cv)), (5, .int (iI cu)), (0, .ref a), (1, .int (iI cx)), (2, .int (iI cy)), (3, .int (iI r)), (4, .ref q)]) kx kb dX2_drawCircle_52 hl (by decide) rfl (fun ls hl => ?_)
                  refine lv_aload kx kb dX2_drawCircle_54 (lv_at hl 10 rfl) ?_
                  refine lv_iload_n kx kb dX2_drawCircle_56 rfl (lv_at hl 7 rfl) ?_
                  refine lv_iload kx kb dX2_drawCircle_57 (lv_at hl 1 rfl) ?_
                  refine lv_iload kx kb dX2_drawCircle_59 (lv_at hl 5 rfl) ?_
                  refine ti_imul kx kb dX2_drawCircle_61 ?_
                  refine ti_iadd kx kb dX2_drawCircle_62 ?_
                  refine lv_iload_n kx kb dX2_drawCircle_63 rfl (lv_at hl 8 rfl) ?_
                  refine lv_iload kx kb dX2_drawCircle_64 (lv_at hl 0 rfl) ?_
                  refine lv_iload kx kb dX2_drawCircle_66 (lv_at hl 4 rfl) ?_
                  refine ti_imul kx kb dX2_drawCircle_68 ?_
                  refine ti_iadd kx kb dX2_drawCircle_69 ?_
                  have he0 : ei1 cx cy cu cv (k) = (cx + (1 * cu), cy + (1 * cv)) := by unfold ei1; exact Prod.ext (by simp only []; (repeat' split) <;> omega) (by simp only []; (repeat' split) <;> omega)
                  have hdc0 := dN_cost w g (cx + (1 * cu)) (cy + (1 * cv)) z ne
                  have hBd0 := drw_BB (x := cx + (1 * cu)) (y := cy + (1 * cv)) (z := z) hwg hBi
                  have hBe0 := hBd0.2.1
                  refine t_callDraw (wr := []) C hY q1246 (met_X2_lambda_pen_0 l D E a b sv2 ne w g k2 z (cx + (1 * cu)) (cy + (1 * cv)) (by first | assumption | omega) (by first | assumption | omega) (by first | assumption | omega) (by first | assumption | omega) (by first | assumption | omega)) (fun _ => rfl) ⟨Nat.le_of_ble_eq_true rfl, Nat.le_of_ble_eq_true rfl⟩  (va_recv hK hP (ci := 2) (q0 := 0) rfl rfl) hK hX hP hD hS hA [0, 1, 2] [] rfl rfl (by decide) (by decide) (by decide)  hl.1 rfl (Nat.le_of_ble_eq_true rfl) dX2_drawCircle_70 ⟨(show ne - n + (dN w g (cx + (1 * cu)) (cy + (1 * cv)) z ne - ne) ≤ 29 from by omega), (show 2 * (ne - n) + (2 * (dN w g (cx + (1 * cu)) (cy + (1 * cv)) z ne - ne)) ≤ 58 from by omega)⟩ (fun u_ H locs hp hP hD hS => ?_)
                  obtain ⟨w2_7, rfl⟩ : ∃ z, z = u_ := ⟨_, rfl⟩
                  have hP : va_P D.1 clAll [(a, .inr (2, [.int (iI ((w : Nat) : Int)), .int (iI ((g : Nat) : Int)), .ref b])), (b, .inr (3, [.ref w2_7, .int (iI ((un (drw w g (cx + (1 * cu)) (cy + (1 * cv)) z k2) : Nat) : Int)), .int (zI false)])), (w2_7, .inl (D.2 2, dN w g (cx + (1 * cu)) (cy + (1 * cv)) z ne, .inr (.inl (wd (drw w g (cx + (1 * cu)) (cy + (1 * cv)) z k2)))))] H := hP
                  have hD : va_D A [(a, .inr (2, [.int (iI ((w : Nat) : Int)), .int (iI ((g : Nat) : Int)), .ref b])), (b, .inr (3, [.ref w2_7, .int (iI ((un (drw w g (cx + (1 * cu)) (cy + (1 * cv)) z k2) : Nat) : Int)), .int (zI false)])), (w2_7, .inl (D.2 2, dN w g (cx + (1 * cu)) (cy + (1 * cv)) z ne, .inr (.inl (wd (drw w g (cx + (1 * cu)) (cy + (1 * cv)) z k2)))))] := hD
                  refine W.eq (g2 := F0 m0 75 ls []) rfl ?_
                  refine W.widen (k := ne - n + (dN w g (cx + (1 * cu)) (cy + (1 * cv)) z ne - ne)) (n := 2 * (ne - n) + (2 * (dN w g (cx + (1 * cu)) (cy + (1 * cv)) z ne - ne))) (Nat.le_refl _) (Nat.le_refl _) ?_
                  refine lv_aload kx kb dX2_drawCircle_75 (lv_at hl 10 rfl) ?_
                  refine lv_iload_n kx kb dX2_drawCircle_77 rfl (lv_at hl 7 rfl) ?_
                  refine lv_iload kx kb dX2_drawCircle_78 (lv_at hl 1 rfl) ?_
                  refine lv_iload kx kb dX2_drawCircle_80 (lv_at hl 4 rfl) ?_
                  refine ti_imul kx kb dX2_drawCircle_82 ?_
                  refine ti_iadd kx kb dX2_drawCircle_83 ?_
                  refine lv_iload_n kx kb dX2_drawCircle_84 rfl (lv_at hl 8 rfl) ?_
                  refine lv_iload kx kb dX2_drawCircle_85 (lv_at hl 0 rfl) ?_
                  refine lv_iload kx kb dX2_drawCircle_87 (lv_at hl 5 rfl) ?_
                  refine ti_imul kx kb dX2_drawCircle_89 ?_
                  refine ti_iadd kx kb dX2_drawCircle_90 ?_
                  have he1 : ei1 cx cy cu cv (k + 4) = (cx + (1 * cv), cy + (1 * cu)) := by unfold ei1; exact Prod.ext (by simp only []; (repeat' split) <;> omega) (by simp only []; (repeat' split) <;> omega)
                  have hdc1 := dN_cost w g (cx + (1 * cv)) (cy + (1 * cu)) z (dN w g (cx + (1 * cu)) (cy + (1 * cv)) z ne)
                  have hBd1 := drw_BB (x := cx + (1 * cv)) (y := cy + (1 * cu)) (z := z) hwg hBd0
                  have hBe1 := hBd1.2.1
                  refine t_callDraw (wr := []) C hY q1246 (met_X2_lambda_pen_0 l D E a b w2_7 (dN w g (cx + (1 * cu)) (cy + (1 * cv)) z ne) w g (drw w g (cx + (1 * cu)) (cy + (1 * cv)) z k2) z (cx + (1 * cv)) (cy + (1 * cu)) (by first | assumption | omega) (by first | assumption | omega) (by first | assumption | omega) (by first | assumption | omega) (by first | assumption | omega)) (fun _ => rfl) ⟨Nat.le_of_ble_eq_true rfl, Nat.le_of_ble_eq_true rfl⟩  (va_recv hK hP (ci := 2) (q0 := 0) rfl rfl) hK hX hP hD hS hA [0, 1, 2] [] rfl rfl (by decide) (by decide) (by decide)  hl.1 rfl (Nat.le_of_ble_eq_true rfl) dX2_drawCircle_91 ⟨(show ne - n + (dN w g (cx + (1 * cu)) (cy + (1 * cv)) z ne - ne) + (dN w g (cx + (1 * cv)) (cy + (1 * cu)) z (dN w g (cx + (1 * cu)) (cy + (1 * cv)) z ne) - (dN w g (cx + (1 * cu)) (cy + (1 * cv)) z ne)) ≤ 29 from by omega), (show 2 * (ne - n) + (2 * (dN w g (cx + (1 * cu)) (cy + (1 * cv)) z ne - ne)) + (2 * (dN w g (cx + (1 * cv)) (cy + (1 * cu)) z (dN w g (cx + (1 * cu)) (cy + (1 * cv)) z ne) - (dN w g (cx + (1 * cu)) (cy + (1 * cv)) z ne))) ≤ 58 from by omega)⟩ (fun u_ H locs hp hP hD hS => ?_)
                  obtain ⟨w2_8, rfl⟩ : ∃ z, z = u_ := ⟨_, rfl⟩
                  have hP : va_P D.1 clAll [(a, .inr (2, [.int (iI ((w : Nat) : Int)), .int (iI ((g : Nat) : Int)), .ref b])), (b, .inr (3, [.ref w2_8, .int (iI ((un (drw w g (cx + (1 * cv)) (cy + (1 * cu)) z (drw w g (cx + (1 * cu)) (cy + (1 * cv)) z k2)) : Nat) : Int)), .int (zI false)])), (w2_8, .inl (D.2 2, dN w g (cx + (1 * cv)) (cy + (1 * cu)) z (dN w g (cx + (1 * cu)) (cy + (1 * cv)) z ne), .inr (.inl (wd (drw w g (cx + (1 * cv)) (cy + (1 * cu)) z (drw w g (cx + (1 * cu)) (cy + (1 * cv)) z k2))))))] H := hP
                  have hD : va_D A [(a, .inr (2, [.int (iI ((w : Nat) : Int)), .int (iI ((g : Nat) : Int)), .ref b])), (b, .inr (3, [.ref w2_8, .int (iI ((un (drw w g (cx + (1 * cv)) (cy + (1 * cu)) z (drw w g (cx + (1 * cu)) (cy + (1 * cv)) z k2)) : Nat) : Int)), .int (zI false)])), (w2_8, .inl (D.2 2, dN w g (cx + (1 * cv)) (cy + (1 * cu)) z (dN w g (cx + (1 * cu)) (cy + (1 * cv)) z ne), .inr (.inl (wd (drw w g (cx + (1 * cv)) (cy + (1 * cu)) z (drw w g (cx + (1 * cu)) (cy + (1 * cv)) z k2))))))] := hD
                  refine W.eq (g2 := F0 m0 96 ls []) rfl ?_
                  refine W.widen (k := ne - n + (dN w g (cx + (1 * cu)) (cy + (1 * cv)) z ne - ne) + (dN w g (cx + (1 * cv)) (cy + (1 * cu)) z (dN w g (cx + (1 * cu)) (cy + (1 * cv)) z ne) - (dN w g (cx + (1 * cu)) (cy + (1 * cv)) z ne))) (n := 2 * (ne - n) + (2 * (dN w g (cx + (1 * cu)) (cy + (1 * cv)) z ne - ne)) + (2 * (dN w g (cx + (1 * cv)) (cy + (1 * cu)) z (dN w g (cx + (1 * cu)) (cy + (1 * cv)) z ne) - (dN w g (cx + (1 * cu)) (cy + (1 * cv)) z ne)))) (Nat.le_refl _) (Nat.le_refl _) ?_
                  have hk2 : (drw w g (cx + (1 * cv)) (cy + (1 * cu)) z (drw w g (cx + (1 * cu)) (cy + (1 * cv)) z k2)) = drwL w g z (cqL cx cy cu cv (k + 1)) k1 := by simp only [cqL]; rw [drwL_app, ← hTi, he0, he1]; rfl
                  have hBi2 := hBd1
                  rw [hk2] at hBi2
                  have hP : va_P D.1 clAll [(a, .inr (2, [.int (iI ((w : Nat) : Int)), .int (iI ((g : Nat) : Int)), .ref b])), (b, .inr (3, [.ref w2_8, .int (iI ((un (drwL w g z (cqL cx cy cu cv (k + 1)) k1) : Nat) : Int)), .int (zI false)])), (w2_8, .inl (D.2 2, dN w g (cx + (1 * cv)) (cy + (1 * cu)) z (dN w g (cx + (1 * cu)) (cy + (1 * cv)) z ne), .inr (.inl (wd (drwL w g z (cqL cx cy cu cv (k + 1)) k1)))))] H := by rw [← hk2]; exact hP
                  have hD : va_D A [(a, .inr (2, [.int (iI ((w : Nat) : Int)), .int (iI ((g : Nat) : Int)), .ref b])), (b, .inr (3, [.ref w2_8, .int (iI ((un (drwL w g z (cqL cx cy cu cv (k + 1)) k1) : Nat) : Int)), .int (zI false)])), (w2_8, .inl (D.2 2, dN w g (cx + (1 * cv)) (cy + (1 * cu)) z (dN w g (cx + (1 * cu)) (cy + (1 * cv)) z ne), .inr (.inl (wd (drwL w g z (cqL cx cy cu cv (k + 1)) k1)))))] := by rw [← hk2]; exact hD
                  refine ti_iinc (a := (k : Int)) (lv' := [(8, .int (iI ((k : Int) + 1))), (10, .int (iI 1)), (9, .int (iI 1)), (7, .int (iI e)), (6, .int (iI cv)), (5, .int (iI cu)), (0, .ref a), (1, .int (iI cx)), (2, .int (iI cy)), (3, .int (iI r)), (4, .ref q)]) kx kb dX2_drawCircle_96 hl (k := 2) rfl (by decide) rfl (fun ls hl => ?_)
                  refine lv_goto (tgt := 21) kx kb dX2_drawCircle_99 (by decide) ?_
                  refine W.widen (k := (dN w g (cx + (1 * cv)) (cy + (1 * cu)) z (dN w g (cx + (1 * cu)) (cy + (1 * cv)) z ne)) - n) (n := 2 * ((dN w g (cx + (1 * cv)) (cy + (1 * cu)) z (dN w g (cx + (1 * cu)) (cy + (1 * cv)) z ne)) - n)) (by omega) (by omega) ?_
                  exact ih21 (k + 1) w2_8 (dN w g (cx + (1 * cv)) (cy + (1 * cu)) z (dN w g (cx + (1 * cu)) (cy + (1 * cv)) z ne)) (drwL w g z (cqL cx cy cu cv (k + 1)) k1) (by omega) (by rfl) (hBi2) (by omega) (by omega) H locs hP hD hS ls (lv_sub hl [0, 3, 4, 5, 6, 7, 8, 9, 10] rfl)
        exact cut21 ((4 - 0) + 1) 0 sv nd k1 (by omega) (by rfl) (hBk) (Nat.le_refl _) (Nat.lt_succ_self _) H locs hP hD hS ls hl
  refine W.widen (k := n - n) (n := 2 * (n - n)) (by omega) (by omega) ?_
  exact cut11 (((r - 0 + 1).toNat) + 1) r 0 (1 - r) ((r + 1).toNat) v n P (by omega) (by rfl) (hB) (Nat.le_refl _) (Nat.lt_succ_self _) s0.heap [] hP hD hS ls hl
