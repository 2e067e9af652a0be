set_option maxRecDepth 100000
set_option maxHeartbeats 4000000 in
set_option maxRecDepth 100000 in
theorem met_X1_depthAt_ok (l : Launch) (D : TG) (E : TE) (t : Nat) (a : Nat) (b : Nat) (v : Nat) (n : Nat) (w : Nat) (g : Nat) (P : Nat → Bool) (c : Nat) (v3 : Nat) (n2 : Nat) (S : Nat → Bool) (x : Int) (y : Int) (ch : Bool) (hw : 1 ≤ w ∧ w ≤ 32) (hg : 1 ≤ g ∧ g ≤ 32) (hB : BB P n) (hB2 : BB S n2) (hPz : ∀ j_, w * g ≤ j_ → P j_ = false) (hSz : ∀ j_, w * g ≤ j_ → S j_ = false) (hv : 0 ≤ x ∧ x < w ∧ 0 ≤ y ∧ y < g) : tMet l yX1_depthAt cX1_depthAt 5 (some .int) 4 90 (35) (1190) [.ref t, .int (iI x), .int (iI y), .int (zI ch)] D E [(t, .inr (1, [.ref a, .ref c])), (a, .inr (2, [.int (iI ((w : Nat) : Int)), .int (iI ((g : Nat) : Int)), .ref b])), (b, .inr (3, [.ref v, .int (iI ((un P : Nat) : Int)), .int (zI false)])), (v, .inl (D.2 2, n, .inr (.inl (wd P)))), (c, .inr (3, [.ref v3, .int (iI ((un S : Nat) : Int)), .int (zI false)])), (v3, .inl (D.2 2, n2, .inr (.inl (wd S))))] tY0 (S := Unit) (fun u_ => True) (fun u_ => some (.int (iI (depF w g P ch (cel w x y))))) (fun u_ => [(t, .inr (1, [.ref a, .ref c])), (a, .inr (2, [.int (iI ((w : Nat) : Int)), .int (iI ((g : Nat) : Int)), .ref b])), (b, .inr (3, [.ref v, .int (iI ((un P : Nat) : Int)), .int (zI false)])), (v, .inl (D.2 2, n, .inr (.inl (wd P)))), (c, .inr (3, [.ref v3, .int (iI ((un S : Nat) : Int)), .int (zI false)])), (v3, .inl (D.2 2, n2, .inr (.inl (wd S))))]) := by
  refine tu_met (by decide +kernel) (Nat.le_of_ble_eq_true rfl) ?_
  intro p0 e0 s0 m0 below meth c0 A ls args Q hag hQ C hK hX hY hP hD hA hAe hl
  obtain ⟨kx, kb, hml, hown, hts, -⟩ := id C
  have hS : va_S A s0.heap s0.heap [] := va_S.rf
  have hl : lv_has ls 5 [(0, .ref t), (1, .int (iI x)), (2, .int (iI y)), (3, .int (zI ch))] := hl
  have hwg := wg_le hw hg
  have hBn := hB.1
  have hBm := hB.2.1
  have hul := un_le hB
  have hul2 := un_le hB2
  have hg2w2 : (g + 2) * (w + 2) ≤ 34 * 34 := Nat.mul_le_mul (by omega) (by omega)
  refine lv_aload_n kx kb dX1_depthAt_0 rfl (lv_at hl 0 rfl) ?_
  refine lv_iload_n kx kb dX1_depthAt_1 rfl (lv_at hl 1 rfl) ?_
  refine lv_iload_n kx kb dX1_depthAt_2 rfl (lv_at hl 2 rfl) ?_
  refine t_callRV C (met_X1_cellAt_ok l D E t a b v n w g P c v3 n2 S x y (by first | assumption | omega) (by first | assumption | omega) (by first | assumption | omega) (by first | assumption | omega) (by first | assumption | omega) (by first | assumption | omega) (by first | assumption | omega)) (cwV 2 hts (lw_V q1218 q1220 qs18 q59 q1221) rfl rfl rfl (by decide +kernel) ⟨Nat.le_of_ble_eq_true rfl, Nat.le_of_ble_eq_true rfl⟩) (va_recv hK hP (ci := 1) (q0 := 0) rfl rfl) hK hX hP hD hS hA [0, 1, 2, 3, 4, 5] rfl (by decide) tYb_0 (fun _ _ _ => trivial) rfl hl.1 rfl (Nat.le_of_ble_eq_true rfl) dX1_depthAt_3 ⟨(show 0 ≤ 35 from by omega), (show 0 ≤ 1190 from by omega)⟩ ?_
  refine W.eq (g2 := F0 m0 6 ls [.int (iI ((cel w x y : Nat) : Int))]) rfl ?_
  refine lv_istore (lv' := [(4, .int (iI ((cel w x y : Nat) : Int))), (0, .ref t), (1, .int (iI x)), (2, .int (iI y)), (3, .int (zI ch))]) kx kb dX1_depthAt_6 hl (by decide) rfl (fun ls hl => ?_)
  refine lv_aload_n kx kb dX1_depthAt_8 rfl (lv_at hl 1 rfl) ?_
  refine va_get (D := D.1) (ci := 1) (v := .ref a) (C := RX1) (T := TX1) (N := 2) kx kb hts in_X1 hown hK hP 0 rfl rfl 0 (by decide) (hts _ q152) (fun _ h9 => h9) rfl dX1_depthAt_9 ?_
  refine lv_iload_n kx kb dX1_depthAt_12 rfl (lv_at hl 4 rfl) ?_
  refine t_callV (wr := [(t, .inr (1, [.ref a, .ref c])), (c, .inr (3, [.ref v3, .int (iI ((un S : Nat) : Int)), .int (zI false)])), (v3, .inl (D.2 2, n2, .inr (.inl (wd S))))]) C (met_X2_depths l D E a b v n w g P ch (by first | assumption | omega) (by first | assumption | omega) (by first | assumption | omega)) (cwV 1 hts (lw_V q661 q662 q663 q60 q664) rfl rfl rfl (by decide +kernel) ⟨Nat.le_of_ble_eq_true rfl, Nat.le_of_ble_eq_true rfl⟩) (va_recv hK hP (ci := 2) (q0 := 1) rfl rfl) hK hX hP hD hS hA [1, 2, 3] [0, 4, 5] rfl rfl (by decide) (by decide) (by decide) tYb_0 (fun _ _ _ => trivial) rfl hl.1 rfl (Nat.le_of_ble_eq_true rfl) dX1_depthAt_13 ⟨(show 0 + (1 + (g + 2)) ≤ 35 from by omega), (show 0 + ((g + 2) + (g + 2) * (w + 2)) ≤ 1190 from by omega)⟩ (fun u_ H locs hp hP hD hS => ?_)
  obtain ⟨q_1, rfl⟩ : ∃ z, z = u_ := ⟨_, rfl⟩
  have hc13_1 : isDep w g P ch (depF w g P ch) := hp
  have hP : va_P D.1 clAll ([(t, .inr (1, [.ref a, .ref c])), (c, .inr (3, [.ref v3, .int (iI ((un S : Nat) : Int)), .int (zI false)])), (v3, .inl (D.2 2, n2, .inr (.inl (wd S)))), (a, .inr (2, [.int (iI ((w : Nat) : Int)), .int (iI ((g : Nat) : Int)), .ref b])), (b, .inr (3, [.ref v, .int (iI ((un P : Nat) : Int)), .int (zI false)])), (v, .inl (D.2 2, n, .inr (.inl (wd P)))), (q_1, .inl (D.2 4, g + 2, .inr (.inr (.inr (.inr (fun j_ => some (q_1 + 1 + j_)))))))] ++ (rwP D q_1 (g + 2) (w + 2) (dpG w g P ch))) H := hP
  have hD : va_D A ([(t, .inr (1, [.ref a, .ref c])), (c, .inr (3, [.ref v3, .int (iI ((un S : Nat) : Int)), .int (zI false)])), (v3, .inl (D.2 2, n2, .inr (.inl (wd S)))), (a, .inr (2, [.int (iI ((w : Nat) : Int)), .int (iI ((g : Nat) : Int)), .ref b])), (b, .inr (3, [.ref v, .int (iI ((un P : Nat) : Int)), .int (zI false)])), (v, .inl (D.2 2, n, .inr (.inl (wd P)))), (q_1, .inl (D.2 4, g + 2, .inr (.inr (.inr (.inr (fun j_ => some (q_1 + 1 + j_)))))))] ++ (rwP D q_1 (g + 2) (w + 2) (dpG w g P ch))) := hD
  refine W.eq (g2 := F0 m0 16 ls [.ref q_1]) rfl ?_
  refine W.widen (k := 0 + (1 + (g + 2))) (n := 0 + ((g + 2) + (g + 2) * (w + 2))) (Nat.le_refl _) (Nat.le_refl _) ?_
  refine lv_iload_n kx kb dX1_depthAt_16 rfl (lv_at hl 3 rfl) ?_
  refine lv_iconst (v := iI 1) kx kb dX1_depthAt_17 rfl ?_
  refine ti_iadd kx kb dX1_depthAt_18 ?_
  refine ta_rald C hK hP 6 rfl ((y + 1).toNat) (by omega) dX1_depthAt_19 ?_
  refine W.eq (g2 := F0 m0 20 ls [.ref (q_1 + 1 + ((y + 1).toNat))]) rfl ?_
  refine lv_iload_n kx kb dX1_depthAt_20 rfl (lv_at hl 2 rfl) ?_
  refine lv_iconst (v := iI 1) kx kb dX1_depthAt_21 rfl ?_
  refine ti_iadd kx kb dX1_depthAt_22 ?_
  refine ta_rsald (fx := [(t, .inr (1, [.ref a, .ref c])), (c, .inr (3, [.ref v3, .int (iI ((un S : Nat) : Int)), .int (zI false)])), (v3, .inl (D.2 2, n2, .inr (.inl (wd S)))), (a, .inr (2, [.int (iI ((w : Nat) : Int)), .int (iI ((g : Nat) : Int)), .ref b])), (b, .inr (3, [.ref v, .int (iI ((un P : Nat) : Int)), .int (zI false)])), (v, .inl (D.2 2, n, .inr (.inl (wd P)))), (q_1, .inl (D.2 4, g + 2, .inr (.inr (.inr (.inr (fun j_ => some (q_1 + 1 + j_)))))))]) (q := q_1) (nR := g + 2) (mR := w + 2) (d := dpG w g P ch) C hK hP ((y + 1).toNat) ((x + 1).toNat) (by omega) dX1_depthAt_23 ?_
  subst hQ
  exact tm_iret C () trivial (tx_Psub hP [0, 3, 4, 5, 1, 2] rfl) (tx_Dsub hD [0, 3, 4, 5, 1, 2] (by decide) rfl) hS (show 0 + (1 + (g + 2)) ≤ 35 from by omega) (show 0 + ((g + 2) + (g + 2) * (w + 2)) ≤ 1190 from by omega) (by rw [dpG_at hc13_1 hv]) rfl dX1_depthAt_24
set_option maxHeartbeats 4000000 in
set_option maxRecDepth 100000 in
theorem met_X1_greatestDepth (l : Launch) (D : TG) (E : TE) (t : Nat) (a : Nat) (b : Nat) (v : Nat) (n : Nat) (w : Nat) (g : Nat) (P : Nat → Bool) (c : Nat) (v3 : Nat) (n2 : Nat) (S : Nat → Bool) (ch : Bool) (hw : 1 ≤ w ∧ w ≤ 32) (hg : 1 ≤ g ∧ g ≤ 32) (hB : BB P n) (hB2 : BB S n2) (hPz : ∀ j_, w * g ≤ j_ → P j_ = false) (hSz : ∀ j_, w * g ≤ j_ → S j_ = false) : tMet l yX1_greatestDepth cX1_greatestDepth 11 (some .int) 4 90 (35) (1190) [.ref t, .int (zI ch)] D E [(t, .inr (1, [.ref a, .ref c])), (a, .inr (2, [.int (iI ((w : Nat) : Int)), .int (iI ((g : Nat) : Int)), .ref b])), (b, .inr (3, [.ref v, .int (iI ((un P : Nat) : Int)), .int (zI false)])), (v, .inl (D.2 2, n, .inr (.inl (wd P)))), (c, .inr (3, [.ref v3, .int (iI ((un S : Nat) : Int)), .int (zI false)])), (v3, .inl (D.2 2, n2, .inr (.inl (wd S))))] tY0 (S := Unit) (fun u_ => True) (fun u_ => some (.int (iI (mxF (depF w g P ch) (w * g))))) (fun u_ => [(t, .inr (1, [.ref a, .ref c])), (a, .inr (2, [.int (iI ((w : Nat) : Int)), .int (iI ((g : Nat) : Int)), .ref b])), (b, .inr (3, [.ref v, .int (iI ((un P : Nat) : Int)), .int (zI false)])), (v, .inl (D.2 2, n, .inr (.inl (wd P)))), (c, .inr (3, [.ref v3, .int (iI ((un S : Nat) : Int)), .int (zI false)])), (v3, .inl (D.2 2, n2, .inr (.inl (wd S))))]) := by
  refine tu_met (by decide +kernel) (Nat.le_of_ble_eq_true rfl) ?_
  intro p0 e0 s0 m0 below meth c0 A ls args Q hag hQ C hK hX hY hP hD hA hAe hl
  obtain ⟨kx, kb, hml, hown, hts, -⟩ := id C
  have hS : va_S A s0.heap s0.heap [] := va_S.rf
  have hl : lv_has ls 11 [(0, .ref t), (1, .int (zI ch))] := hl
  have hwg := wg_le hw hg
  have hBn := hB.1
  have hBm := hB.2.1
  have hul := un_le hB
  have hul2 := un_le hB2
  have hg2w2 : (g + 2) * (w + 2) ≤ 34 * 34 := Nat.mul_le_mul (by omega) (by omega)
  refine lv_iconst (v := iI 0) kx kb dX1_greatestDepth_0 rfl ?_
  refine lv_istore_n (lv' := [(2, .int (iI 0)), (0, .ref t), (1, .int (zI ch))]) kx kb dX1_greatestDepth_1 rfl hl (by decide) rfl (fun ls hl => ?_)
  refine lv_aload_n kx kb dX1_greatestDepth_2 rfl (lv_at hl 1 rfl) ?_
  refine va_get (D := D.1) (ci := 1) (v := .ref a) (C := RX1) (T := TX1) (N := 2) kx kb hts in_X1 hown hK hP 0 rfl rfl 0 (by decide) (hts _ q152) (fun _ h9 => h9) rfl dX1_greatestDepth_3 ?_
  refine lv_iload_n kx kb dX1_greatestDepth_6 rfl (lv_at hl 2 rfl) ?_
  refine t_callV (wr := [(t, .inr (1, [.ref a, .ref c])), (c, .inr (3, [.ref v3, .int (iI ((un S : Nat) : Int)), .int (zI false)])), (v3, .inl (D.2 2, n2, .inr (.inl (wd S))))]) C (met_X2_depths l D E a b v n w g P ch (by first | assumption | omega) (by first | assumption | omega) (by first | assumption | omega)) (cwV 1 hts (lw_V q661 q662 q663 q60 q664) rfl rfl rfl (by decide +kernel) ⟨Nat.le_of_ble_eq_true rfl, Nat.le_of_ble_eq_true rfl⟩) (va_recv hK hP (ci := 2) (q0 := 1) rfl rfl) hK hX hP hD hS hA [1, 2, 3] [0, 4, 5] rfl rfl (by decide) (by decide) (by decide) tYb_0 (fun _ _ _ => trivial) rfl hl.1 rfl (Nat.le_of_ble_eq_true rfl) dX1_greatestDepth_7 ⟨(show 0 + (1 + (g + 2)) ≤ 35 from by omega), (show 0 + ((g + 2) + (g + 2) * (w + 2)) ≤ 1190 from by omega)⟩ (fun u_ H locs hp hP hD hS => ?_)
  obtain ⟨q_1, rfl⟩ : ∃ z, z = u_ := ⟨_, rfl⟩
  have hc7_1 : isDep w g P ch (depF w g P ch) := hp
  have hP : va_P D.1 clAll ([(t, .inr (1, [.ref a, .ref c])), (c, .inr (3, [.ref v3, .int (iI ((un S : Nat) : Int)), .int (zI false)])), (v3, .inl (D.2 2, n2, .inr (.inl (wd S)))), (a, .inr (2, [.int (iI ((w : Nat) : Int)), .int (iI ((g : Nat) : Int)), .ref b])), (b, .inr (3, [.ref v, .int (iI ((un P : Nat) : Int)), .int (zI false)])), (v, .inl (D.2 2, n, .inr (.inl (wd P)))), (q_1, .inl (D.2 4, g + 2, .inr (.inr (.inr (.inr (fun j_ => some (q_1 + 1 + j_)))))))] ++ (rwP D q_1 (g + 2) (w + 2) (dpG w g P ch))) H := hP
  have hD : va_D A ([(t, .inr (1, [.ref a, .ref c])), (c, .inr (3, [.ref v3, .int (iI ((un S : Nat) : Int)), .int (zI false)])), (v3, .inl (D.2 2, n2, .inr (.inl (wd S)))), (a, .inr (2, [.int (iI ((w : Nat) : Int)), .int (iI ((g : Nat) : Int)), .ref b])), (b, .inr (3, [.ref v, .int (iI ((un P : Nat) : Int)), .int (zI false)])), (v, .inl (D.2 2, n, .inr (.inl (wd P)))), (q_1, .inl (D.2 4, g + 2, .inr (.inr (.inr (.inr (fun j_ => some (q_1 + 1 + j_)))))))] ++ (rwP D q_1 (g + 2) (w + 2) (dpG w g P ch))) := hD
  refine W.eq (g2 := F0 m0 10 ls [.ref q_1]) rfl ?_
  refine W.widen (k := 0 + (1 + (g + 2))) (n := 0 + ((g + 2) + (g + 2) * (w + 2))) (Nat.le_refl _) (Nat.le_refl _) ?_
  refine lv_astore_n (lv' := [(3, .ref q_1), (2, .int (iI 0)), (0, .ref t), (1, .int (zI ch))]) kx kb dX1_greatestDepth_10 rfl hl (by decide) rfl (fun ls hl => ?_)
  refine lv_aload_n kx kb dX1_greatestDepth_11 rfl (lv_at hl 0 rfl) ?_
  refine va_alen (v := iI (g + 2 : Int)) kx kb hK hP 6 4 rfl rfl (tx_ofNat _) dX1_greatestDepth_12 ?_
  have hdr := dpG_rng hw hc7_1
  refine lv_istore (lv' := [(4, .int (iI (g + 2 : Int))), (3, .ref q_1), (2, .int (iI 0)), (0, .ref t), (1, .int (zI ch))]) kx kb dX1_greatestDepth_13 hl (by decide) rfl (fun ls hl => ?_)
  refine lv_iconst (v := iI 0) kx kb dX1_greatestDepth_15 rfl ?_
  refine lv_istore (lv' := [(5, .int (iI 0)), (4, .int (iI (g + 2 : Int))), (3, .ref q_1), (2, .int (iI 0)), (0, .ref t), (1, .int (zI ch))]) kx kb dX1_greatestDepth_16 hl (by decide) rfl (fun ls hl => ?_)
  have cut18 : ∀ (fuel : Nat) (i : Nat) (m9 : Int), (i ≤ g + 2) → (m9 = mx2 (dpG w g P ch) (w + 2) i) → (g + 2 - i) < fuel → ∀ (H : Heap) (locs : List Loc), va_P D.1 clAll ([(t, .inr (1, [.ref a, .ref c])), (c, .inr (3, [.ref v3, .int (iI ((un S : Nat) : Int)), .int (zI false)])), (v3, .inl (D.2 2, n2, .inr (.inl (wd S)))), (a, .inr (2, [.int (iI ((w : Nat) : Int)), .int (iI ((g : Nat) : Int)), .ref b])), (b, .inr (3, [.ref v, .int (iI ((un P : Nat) : Int)), .int (zI false)])), (v, .inl (D.2 2, n, .inr (.inl (wd P)))), (q_1, .inl (D.2 4, g + 2, .inr (.inr (.inr (.inr (fun j_ => some (q_1 + 1 + j_)))))))] ++ (rwP D q_1 (g + 2) (w + 2) (dpG w g P ch))) H → va_D A ([(t, .inr (1, [.ref a, .ref c])), (c, .inr (3, [.ref v3, .int (iI ((un S : Nat) : Int)), .int (zI false)])), (v3, .inl (D.2 2, n2, .inr (.inl (wd S)))), (a, .inr (2, [.int (iI ((w : Nat) : Int)), .int (iI ((g : Nat) : Int)), .ref b])), (b, .inr (3, [.ref v, .int (iI ((un P : Nat) : Int)), .int (zI false)])), (v, .inl (D.2 2, n, .inr (.inl (wd P)))), (q_1, .inl (D.2 4, g + 2, .inr (.inr (.inr (.inr (fun j_ => some (q_1 + 1 + j_)))))))] ++ (rwP D q_1 (g + 2) (w + 2) (dpG w g P ch))) → va_S A s0.heap H locs → ∀ ls : Array Slot, lv_has ls 11 [(5, .int (iI (i : Int))), (4, .int (iI (g + 2 : Int))), (3, .ref q_1), (2, .int (iI m9)), (0, .ref t), (1, .int (zI ch))] → W p0 l e0 ({ frames := 4, cells := 35, slots := 1190, locals := 90 } : Room) s0 m0 args below meth c0 H locs (0 + (1 + (g + 2))) (0 + ((g + 2) + (g + 2) * (w + 2))) Q (F0 m0 18 ls []) := by
    intro fuel
    induction fuel with
    | zero =>
      intro i m9 hi hm hfuel18
      exact absurd hfuel18 (Nat.not_lt_zero _)
    | succ fuel ih18 =>
      intro i m9 hi hm hfuel18 H locs hP hD hS ls hl
      have hm2 := mx2_rng (m := w + 2) hdr i
      refine lv_iload kx kb dX1_greatestDepth_18 (lv_at hl 0 rfl) ?_
      refine lv_iload kx kb dX1_greatestDepth_20 (lv_at hl 1 rfl) ?_
      refine ti_icmp_ge (tgt := 76) kx kb (by omega) dX1_greatestDepth_22 (by decide) (fun h22 => ?_) (fun h22 => ?_)
      · refine lv_iload_n kx kb dX1_greatestDepth_76 rfl (lv_at hl 3 rfl) ?_
        subst hQ
        exact tm_iret C () trivial (tx_Psub hP [0, 3, 4, 5, 1, 2] rfl) (tx_Dsub hD [0, 3, 4, 5, 1, 2] (by decide) rfl) hS (show 0 + (1 + (g + 2)) ≤ 35 from by omega) (show 0 + ((g + 2) + (g + 2) * (w + 2)) ≤ 1190 from by omega) (by rw [hm, show i = g + 2 by omega, mx2_dep hw.1 hc7_1]) rfl dX1_greatestDepth_77
      · refine lv_aload_n kx kb dX1_greatestDepth_25 rfl (lv_at hl 2 rfl) ?_
        refine lv_iload kx kb dX1_greatestDepth_26 (lv_at hl 0 rfl) ?_
        refine ta_rald C hK hP 6 rfl i (by omega) dX1_greatestDepth_28 ?_
        refine W.eq (g2 := F0 m0 29 ls [.ref (q_1 + 1 + i)]) rfl ?_
        refine lv_astore (lv' := [(6, .ref (q_1 + 1 + i)), (5, .int (iI (i : Int))), (4, .int (iI (g + 2 : Int))), (3, .ref q_1), (2, .int (iI m9)), (0, .ref t), (1, .int (zI ch))]) kx kb dX1_greatestDepth_29 hl (by decide) rfl (fun ls hl => ?_)
        refine lv_aload kx kb dX1_greatestDepth_31 (lv_at hl 0 rfl) ?_
        refine lv_astore (lv' := [(7, .ref (q_1 + 1 + i)), (6, .ref (q_1 + 1 + i)), (5, .int (iI (i : Int))), (4, .int (iI (g + 2 : Int))), (3, .ref q_1), (2, .int (iI m9)), (0, .ref t), (1, .int (zI ch))]) kx kb dX1_greatestDepth_33 hl (by decide) rfl (fun ls hl => ?_)
        refine lv_aload kx kb dX1_greatestDepth_35 (lv_at hl 0 rfl) ?_
        refine ta_ralen (fx := [(t, .inr (1, [.ref a, .ref c])), (c, .inr (3, [.ref v3, .int (iI ((un S : Nat) : Int)), .int (zI false)])), (v3, .inl (D.2 2, n2, .inr (.inl (wd S)))), (a, .inr (2, [.int (iI ((w : Nat) : Int)), .int (iI ((g : Nat) : Int)), .ref b])), (b, .inr (3, [.ref v, .int (iI ((un P : Nat) : Int)), .int (zI false)])), (v, .inl (D.2 2, n, .inr (.inl (wd P)))), (q_1, .inl (D.2 4, g + 2, .inr (.inr (.inr (.inr (fun j_ => some (q_1 + 1 + j_)))))))]) (q := q_1) (nR := g + 2) (mR := w + 2) (d := dpG w g P ch) C hK hP i (by omega) dX1_greatestDepth_37 ?_
        refine lv_istore (lv' := [(8, .int (iI ((w + 2 : Nat) : Int))), (7, .ref (q_1 + 1 + i)), (6, .ref (q_1 + 1 + i)), (5, .int (iI (i : Int))), (4, .int (iI (g + 2 : Int))), (3, .ref q_1), (2, .int (iI m9)), (0, .ref t), (1, .int (zI ch))]) kx kb dX1_greatestDepth_38 hl (by decide) rfl (fun ls hl => ?_)
        refine lv_iconst (v := iI 0) kx kb dX1_greatestDepth_40 rfl ?_
        refine lv_istore (lv' := [(9, .int (iI 0)), (8, .int (iI ((w + 2 : Nat) : Int))), (7, .ref (q_1 + 1 + i)), (6, .ref (q_1 + 1 + i)), (5, .int (iI (i : Int))), (4, .int (iI (g + 2 : Int))), (3, .ref q_1), (2, .int (iI m9)), (0, .ref t), (1, .int (zI ch))]) kx kb dX1_greatestDepth_41 hl (by decide) rfl (fun ls hl => ?_)
        have cut43 : ∀ (fuel : Nat) (j : Nat) (m8 : Int), (j ≤ w + 2) → (m8 = max (mx2 (dpG w g P ch) (w + 2) i) (mxF (dpG w g P ch i) j)) → (w + 2 - j) < fuel → ∀ (H : Heap) (locs : List Loc), va_P D.1 clAll ([(t, .inr (1, [.ref a, .ref c])), (c, .inr (3, [.ref v3, .int (iI ((un S : Nat) : Int)), .int (zI false)])), (v3, .inl (D.2 2, n2, .inr (.inl (wd S)))), (a, .inr (2, [.int (iI ((w : Nat) : Int)), .int (iI ((g : Nat) : Int)), .ref b])), (b, .inr (3, [.ref v, .int (iI ((un P : Nat) : Int)), .int (zI false)])), (v, .inl (D.2 2, n, .inr (.inl (wd P)))), (q_1, .inl (D.2 4, g + 2, .inr (.inr (.inr (.inr (fun j_ => some (q_1 + 1 + j_)))))))] ++ (rwP D q_1 (g + 2) (w + 2) (dpG w g P ch))) H → va_D A ([(t, .inr (1, [.ref a, .ref c])), (c, .inr (3, [.ref v3, .int (iI ((un S : Nat) : Int)), .int (zI false)])), (v3, .inl (D.2 2, n2, .inr (.inl (wd S)))), (a, .inr (2, [.int (iI ((w : Nat) : Int)), .int (iI ((g : Nat) : Int)), .ref b])), (b, .inr (3, [.ref v, .int (iI ((un P : Nat) : Int)), .int (zI false)])), (v, .inl (D.2 2, n, .inr (.inl (wd P)))), (q_1, .inl (D.2 4, g + 2, .inr (.inr (.inr (.inr (fun j_ => some (q_1 + 1 + j_)))))))] ++ (rwP D q_1 (g + 2) (w + 2) (dpG w g P ch))) → va_S A s0.heap H locs → ∀ ls : Array Slot, lv_has ls 11 [(9, .int (iI (j : Int))), (8, .int (iI ((w + 2 : Nat) : Int))), (7, .ref (q_1 + 1 + i)), (6, .ref (q_1 + 1 + i)), (5, .int (iI (i : Int))), (4, .int (iI (g + 2 : Int))), (3, .ref q_1), (2, .int (iI m8)), (0, .ref t), (1, .int (zI ch))] → W p0 l e0 ({ frames := 4, cells := 35, slots := 1190, locals := 90 } : Room) s0 m0 args below meth c0 H locs (0 + (1 + (g + 2))) (0 + ((g + 2) + (g + 2) * (w + 2))) Q (F0 m0 43 ls []) := by
          intro fuel
          induction fuel with
          | zero =>
            intro j m8 hj hm8 hfuel43
            exact absurd hfuel43 (Nat.not_lt_zero _)
          | succ fuel ih43 =>
            intro j m8 hj hm8 hfuel43 H locs hP hD hS ls hl
            have hm3 := mxF_rng (f := dpG w g P ch i) (n := j) (fun c_ _ => hdr i c_)
            have hdj := hdr i j
            refine lv_iload kx kb dX1_greatestDepth_43 (lv_at hl 0 rfl) ?_
            refine lv_iload kx kb dX1_greatestDepth_45 (lv_at hl 1 rfl) ?_
            refine ti_icmp_ge (tgt := 70) kx kb (by omega) dX1_greatestDepth_47 (by decide) (fun h47 => ?_) (fun h47 => ?_)
            · refine ti_iinc (a := (i : Int)) (lv' := [(5, .int (iI ((i : Int) + 1))), (9, .int (iI (j : Int))), (8, .int (iI ((w + 2 : Nat) : Int))), (7, .ref (q_1 + 1 + i)), (6, .ref (q_1 + 1 + i)), (4, .int (iI (g + 2 : Int))), (3, .ref q_1), (2, .int (iI m8)), (0, .ref t), (1, .int (zI ch))]) kx kb dX1_greatestDepth_70 hl (k := 4) rfl (by decide) rfl (fun ls hl => ?_)
              refine lv_goto (tgt := 18) kx kb dX1_greatestDepth_73 (by decide) ?_
              exact ih18 (i + 1) m8 (by omega) (by rw [hm8, mx2, show j = w + 2 by omega]) (by omega) H locs hP hD hS ls (lv_sub hl [0, 5, 6, 7, 8, 9] rfl)
            · refine lv_aload kx kb dX1_greatestDepth_50 (lv_at hl 2 rfl) ?_
              refine lv_iload kx kb dX1_greatestDepth_52 (lv_at hl 0 rfl) ?_
              refine ta_rsald (fx := [(t, .inr (1, [.ref a, .ref c])), (c, .inr (3, [.ref v3, .int (iI ((un S : Nat) : Int)), .int (zI false)])), (v3, .inl (D.2 2, n2, .inr (.inl (wd S)))), (a, .inr (2, [.int (iI ((w : Nat) : Int)), .int (iI ((g : Nat) : Int)), .ref b])), (b, .inr (3, [.ref v, .int (iI ((un P : Nat) : Int)), .int (zI false)])), (v, .inl (D.2 2, n, .inr (.inl (wd P)))), (q_1, .inl (D.2 4, g + 2, .inr (.inr (.inr (.inr (fun j_ => some (q_1 + 1 + j_)))))))]) (q := q_1) (nR := g + 2) (mR := w + 2) (d := dpG w g P ch) C hK hP i j (by omega) dX1_greatestDepth_54 ?_
              refine lv_istore (lv' := [(10, .int (iI ((dpG w g P ch) i j))), (9, .int (iI (j : Int))), (8, .int (iI ((w + 2 : Nat) : Int))), (7, .ref (q_1 + 1 + i)), (6, .ref (q_1 + 1 + i)), (5, .int (iI (i : Int))), (4, .int (iI (g + 2 : Int))), (3, .ref q_1), (2, .int (iI m8)), (0, .ref t), (1, .int (zI ch))]) kx kb dX1_greatestDepth_55 hl (by decide) rfl (fun ls hl => ?_)
              refine lv_iload_n kx kb dX1_greatestDepth_57 rfl (lv_at hl 8 rfl) ?_
              refine lv_iload kx kb dX1_greatestDepth_58 (lv_at hl 0 rfl) ?_
              refine ti_mmax kx kb (hml.trans hl.1.symm) hown (hts _ q671) (hts _ q272) (hts _ q74) (hts _ q273) (Nat.le_of_ble_eq_true rfl) (Nat.le_of_ble_eq_true rfl) (show 0 + (1 + (g + 2)) ≤ 35 from by omega) (show 0 + ((g + 2) + (g + 2) * (w + 2)) ≤ 1190 from by omega) (by omega) dX1_greatestDepth_60 ?_
              refine lv_istore_n (lv' := [(2, .int (iI (max m8 ((dpG w g P ch) i j)))), (10, .int (iI ((dpG w g P ch) i j))), (9, .int (iI (j : Int))), (8, .int (iI ((w + 2 : Nat) : Int))), (7, .ref (q_1 + 1 + i)), (6, .ref (q_1 + 1 + i)), (5, .int (iI (i : Int))), (4, .int (iI (g + 2 : Int))), (3, .ref q_1), (0, .ref t), (1, .int (zI ch))]) kx kb dX1_greatestDepth_63 rfl hl (by decide) rfl (fun ls hl => ?_)
              refine ti_iinc (a := (j : Int)) (lv' := [(9, .int (iI ((j : Int) + 1))), (2, .int (iI (max m8 ((dpG w g P ch) i j)))), (10, .int (iI ((dpG w g P ch) i j))), (8, .int (iI ((w + 2 : Nat) : Int))), (7, .ref (q_1 + 1 + i)), (6, .ref (q_1 + 1 + i)), (5, .int (iI (i : Int))), (4, .int (iI (g + 2 : Int))), (3, .ref q_1), (0, .ref t), (1, .int (zI ch))]) kx kb dX1_greatestDepth_64 hl (k := 2) rfl (by decide) rfl (fun ls hl => ?_)
              refine lv_goto (tgt := 43) kx kb dX1_greatestDepth_67 (by decide) ?_
              exact ih43 (j + 1) (max m8 ((dpG w g P ch) i j)) (by omega) (by rw [mxF, hm8]; omega) (by omega) H locs hP hD hS ls (lv_sub hl [0, 3, 4, 5, 6, 7, 8, 1, 9, 10] rfl)
        exact cut43 ((w + 2 - 0) + 1) 0 m9 (by omega) (by rw [mxF, hm]; omega) (Nat.lt_succ_self _) H locs hP hD hS ls hl
  exact cut18 ((g + 2 - 0) + 1) 0 0 (by omega) (by rfl) (Nat.lt_succ_self _) H locs hP hD hS ls hl
set_option maxHeartbeats 4000000 in
set_option maxRecDepth 100000 in
theorem met_X1_depthSum (l : Launch) (D : TG) (E : TE) (t : Nat) (a : Nat) (b : Nat) (v : Nat) (n : Nat) (w : Nat) (g : Nat) (P : Nat → Bool) (c : Nat) (v3 : Nat) (n2 : Nat) (S : Nat → Bool) (ch : Bool) (hw : 1 ≤ w ∧ w ≤ 32) (hg : 1 ≤ g ∧ g ≤ 32) (hB : BB P n) (hB2 : BB S n2) (hPz : ∀ j_, w * g ≤ j_ → P j_ = false) (hSz : ∀ j_, w * g ≤ j_ → S j_ = false) : tMet l yX1_depthSum cX1_depthSum 11 (some .int) 4 90 (35) (1190) [.ref t, .int (zI ch)] D E [(t, .inr (1, [.ref a, .ref c])), (a, .inr (2, [.int (iI ((w : Nat) : Int)), .int (iI ((g : Nat) : Int)), .ref b])), (b, .inr (3, [.ref v, .int (iI ((un P : Nat) : Int)), .int (zI false)])), (v, .inl (D.2 2, n, .inr (.inl (wd P)))), (c, .inr (3, [.ref v3, .int (iI ((un S : Nat) : Int)), .int (zI false)])), (v3, .inl (D.2 2, n2, .inr (.inl (wd S))))] tY0 (S := Unit) (fun u_ => True) (fun u_ => some (.int (iI (fb_si (depF w g P ch) (w * g))))) (fun u_ => [(t, .inr (1, [.ref a, .ref c])), (a, .inr (2, [.int (iI ((w : Nat) : Int)), .int (iI ((g : Nat) : Int)), .ref b])), (b, .inr (3, [.ref v, .int (iI ((un P : Nat) : Int)), .int (zI false)])), (v, .inl (D.2 2, n, .inr (.inl (wd P)))), (c, .inr (3, [.ref v3, .int (iI ((un S : Nat) : Int)), .int (zI false)])), (v3, .inl (D.2 2, n2, .inr (.inl (wd S))))]) := by
  refine tu_met (by decide +kernel) (Nat.le_of_ble_eq_true rfl) ?_
  intro p0 e0 s0 m0 below meth c0 A ls args Q hag hQ C hK hX hY hP hD hA hAe hl
  obtain ⟨kx, kb, hml, hown, hts, -⟩ := id C
  have hS : va_S A s0.heap s0.heap [] := va_S.rf
  have hl : lv_has ls 11 [(0, .ref t), (1, .int (zI ch))] := hl
  have hwg := wg_le hw hg
  have hBn := hB.1
  have hBm := hB.2.1
  have hul := un_le hB
  have hul2 := un_le hB2
  have hg2w2 : (g + 2) * (w + 2) ≤ 34 * 34 := Nat.mul_le_mul (by omega) (by omega)
  refine lv_iconst (v := iI 0) kx kb dX1_depthSum_0 rfl ?_
  refine lv_istore_n (lv' := [(2, .int (iI 0)), (0, .ref t), (1, .int (zI ch))]) kx kb dX1_depthSum_1 rfl hl (by decide) rfl (fun ls hl => ?_)
  refine lv_aload_n kx kb dX1_depthSum_2 rfl (lv_at hl 1 rfl) ?_
  refine va_get (D := D.1) (ci := 1) (v := .ref a) (C := RX1) (T := TX1) (N := 2) kx kb hts in_X1 hown hK hP 0 rfl rfl 0 (by decide) (hts _ q152) (fun _ h9 => h9) rfl dX1_depthSum_3 ?_
  refine lv_iload_n kx kb dX1_depthSum_6 rfl (lv_at hl 2 rfl) ?_
  refine t_callV (wr := [(t, .inr (1, [.ref a, .ref c])), (c, .inr (3, [.ref v3, .int (iI ((un S : Nat) : Int)), .int (zI false)])), (v3, .inl (D.2 2, n2, .inr (.inl (wd S))))]) C (met_X2_depths l D E a b v n w g P ch (by first | assumption | omega) (by first | assumption | omega) (by first | assumption | omega)) (cwV 1 hts (lw_V q661 q662 q663 q60 q664) rfl rfl rfl (by decide +kernel) ⟨Nat.le_of_ble_eq_true rfl, Nat.le_of_ble_eq_true rfl⟩) (va_recv hK hP (ci := 2) (q0 := 1) rfl rfl) hK hX hP hD hS hA [1, 2, 3] [0, 4, 5] rfl rfl (by decide) (by decide) (by decide) tYb_0 (fun _ _ _ => trivial) rfl hl.1 rfl (Nat.le_of_ble_eq_true rfl) dX1_depthSum_7 ⟨(show 0 + (1 + (g + 2)) ≤ 35 from by omega), (show 0 + ((g + 2) + (g + 2) * (w + 2)) ≤ 1190 from by omega)⟩ (fun u_ H locs hp hP hD hS => ?_)
  obtain ⟨q_1, rfl⟩ : ∃ z, z = u_ := ⟨_, rfl⟩
  have hc7_1 : isDep w g P ch (depF w g P ch) := hp
  have hP : va_P D.1 clAll ([(t, .inr (1, [.ref a, .ref c])), (c, .inr (3, [.ref v3, .int (iI ((un S : Nat) : Int)), .int (zI false)])), (v3, .inl (D.2 2, n2, .inr (.inl (wd S)))), (a, .inr (2, [.int (iI ((w : Nat) : Int)), .int (iI ((g : Nat) : Int)), .ref b])), (b, .inr (3, [.ref v, .int (iI ((un P : Nat) : Int)), .int (zI false)])), (v, .inl (D.2 2, n, .inr (.inl (wd P)))), (q_1, .inl (D.2 4, g + 2, .inr (.inr (.inr (.inr (fun j_ => some (q_1 + 1 + j_)))))))] ++ (rwP D q_1 (g + 2) (w + 2) (dpG w g P ch))) H := hP
  have hD : va_D A ([(t, .inr (1, [.ref a, .ref c])), (c, .inr (3, [.ref v3, .int (iI ((un S : Nat) : Int)), .int (zI false)])), (v3, .inl (D.2 2, n2, .inr (.inl (wd S)))), (a, .inr (2, [.int (iI ((w : Nat) : Int)), .int (iI ((g : Nat) : Int)), .ref b])), (b, .inr (3, [.ref v, .int (iI ((un P : Nat) : Int)), .int (zI false)])), (v, .inl (D.2 2, n, .inr (.inl (wd P)))), (q_1, .inl (D.2 4, g + 2, .inr (.inr (.inr (.inr (fun j_ => some (q_1 + 1 + j_)))))))] ++ (rwP D q_1 (g + 2) (w + 2) (dpG w g P ch))) := hD
  refine W.eq (g2 := F0 m0 10 ls [.ref q_1]) rfl ?_
  refine W.widen (k := 0 + (1 + (g + 2))) (n := 0 + ((g + 2) + (g + 2) * (w + 2))) (Nat.le_refl _) (Nat.le_refl _) ?_
  refine lv_astore_n (lv' := [(3, .ref q_1), (2, .int (iI 0)), (0, .ref t), (1, .int (zI ch))]) kx kb dX1_depthSum_10 rfl hl (by decide) rfl (fun ls hl => ?_)
  refine lv_aload_n kx kb dX1_depthSum_11 rfl (lv_at hl 0 rfl) ?_
  refine va_alen (v := iI (g + 2 : Int)) kx kb hK hP 6 4 rfl rfl (tx_ofNat _) dX1_depthSum_12 ?_
  have hdr := dpG_rng hw hc7_1
  refine lv_istore (lv' := [(4, .int (iI (g + 2 : Int))), (3, .ref q_1), (2, .int (iI 0)), (0, .ref t), (1, .int (zI ch))]) kx kb dX1_depthSum_13 hl (by decide) rfl (fun ls hl => ?_)
  refine lv_iconst (v := iI 0) kx kb dX1_depthSum_15 rfl ?_
  refine lv_istore (lv' := [(5, .int (iI 0)), (4, .int (iI (g + 2 : Int))), (3, .ref q_1), (2, .int (iI 0)), (0, .ref t), (1, .int (zI ch))]) kx kb dX1_depthSum_16 hl (by decide) rfl (fun ls hl => ?_)
  have cut18 : ∀ (fuel : Nat) (i : Nat) (m9 : Int), (i ≤ g + 2) → (m9 = fb_si (fun y_ => fb_si (dpG w g P ch y_) (w + 2)) i) → (g + 2 - i) < fuel → ∀ (H : Heap) (locs : List Loc), va_P D.1 clAll ([(t, .inr (1, [.ref a, .ref c])), (c, .inr (3, [.ref v3, .int (iI ((un S : Nat) : Int)), .int (zI false)])), (v3, .inl (D.2 2, n2, .inr (.inl (wd S)))), (a, .inr (2, [.int (iI ((w : Nat) : Int)), .int (iI ((g : Nat) : Int)), .ref b])), (b, .inr (3, [.ref v, .int (iI ((un P : Nat) : Int)), .int (zI false)])), (v, .inl (D.2 2, n, .inr (.inl (wd P)))), (q_1, .inl (D.2 4, g + 2, .inr (.inr (.inr (.inr (fun j_ => some (q_1 + 1 + j_)))))))] ++ (rwP D q_1 (g + 2) (w + 2) (dpG w g P ch))) H → va_D A ([(t, .inr (1, [.ref a, .ref c])), (c, .inr (3, [.ref v3, .int (iI ((un S : Nat) : Int)), .int (zI false)])), (v3, .inl (D.2 2, n2, .inr (.inl (wd S)))), (a, .inr (2, [.int (iI ((w : Nat) : Int)), .int (iI ((g : Nat) : Int)), .ref b])), (b, .inr (3, [.ref v, .int (iI ((un P : Nat) : Int)), .int (zI false)])), (v, .inl (D.2 2, n, .inr (.inl (wd P)))), (q_1, .inl (D.2 4, g + 2, .inr (.inr (.inr (.inr (fun j_ => some (q_1 + 1 + j_)))))))] ++ (rwP D q_1 (g + 2) (w + 2) (dpG w g P ch))) → va_S A s0.heap H locs → ∀ ls : Array Slot, lv_has ls 11 [(5, .int (iI (i : Int))), (4, .int (iI (g + 2 : Int))), (3, .ref q_1), (2, .int (iI m9)), (0, .ref t), (1, .int (zI ch))] → W p0 l e0 ({ frames := 4, cells := 35, slots := 1190, locals := 90 } : Room) s0 m0 args below meth c0 H locs (0 + (1 + (g + 2))) (0 + ((g + 2) + (g + 2) * (w + 2))) Q (F0 m0 18 ls []) := by
    intro fuel
    induction fuel with
    | zero =>
      intro i m9 hi hm hfuel18
      exact absurd hfuel18 (Nat.not_lt_zero _)
    | succ fuel ih18 =>
      intro i m9 hi hm hfuel18 H locs hP hD hS ls hl
      refine lv_iload kx kb dX1_depthSum_18 (lv_at hl 0 rfl) ?_
      refine lv_iload kx kb dX1_depthSum_20 (lv_at hl 1 rfl) ?_
      refine ti_icmp_ge (tgt := 74) kx kb (by omega) dX1_depthSum_22 (by decide) (fun h22 => ?_) (fun h22 => ?_)
      · refine lv_iload_n kx kb dX1_depthSum_74 rfl (lv_at hl 3 rfl) ?_
        subst hQ
        exact tm_iret C () trivial (tx_Psub hP [0, 3, 4, 5, 1, 2] rfl) (tx_Dsub hD [0, 3, 4, 5, 1, 2] (by decide) rfl) hS (show 0 + (1 + (g + 2)) ≤ 35 from by omega) (show 0 + ((g + 2) + (g + 2) * (w + 2)) ≤ 1190 from by omega) (by rw [hm, show i = g + 2 by omega, si_dep hc7_1]) rfl dX1_depthSum_75
      · refine lv_aload_n kx kb dX1_depthSum_25 rfl (lv_at hl 2 rfl) ?_
        refine lv_iload kx kb dX1_depthSum_26 (lv_at hl 0 rfl) ?_
        refine ta_rald C hK hP 6 rfl i (by omega) dX1_depthSum_28 ?_
        refine W.eq (g2 := F0 m0 29 ls [.ref (q_1 + 1 + i)]) rfl ?_
        refine lv_astore (lv' := [(6, .ref (q_1 + 1 + i)), (5, .int (iI (i : Int))), (4, .int (iI (g + 2 : Int))), (3, .ref q_1), (2, .int (iI m9)), (0, .ref t), (1, .int (zI ch))]) kx kb dX1_depthSum_29 hl (by decide) rfl (fun ls hl => ?_)
        refine lv_aload kx kb dX1_depthSum_31 (lv_at hl 0 rfl) ?_
        refine lv_astore (lv' := [(7, .ref (q_1 + 1 + i)), (6, .ref (q_1 + 1 + i)), (5, .int (iI (i : Int))), (4, .int (iI (g + 2 : Int))), (3, .ref q_1), (2, .int (iI m9)), (0, .ref t), (1, .int (zI ch))]) kx kb dX1_depthSum_33 hl (by decide) rfl (fun ls hl => ?_)
        refine lv_aload kx kb dX1_depthSum_35 (lv_at hl 0 rfl) ?_
        refine ta_ralen (fx := [(t, .inr (1, [.ref a, .ref c])), (c, .inr (3, [.ref v3, .int (iI ((un S : Nat) : Int)), .int (zI false)])), (v3, .inl (D.2 2, n2, .inr (.inl (wd S)))), (a, .inr (2, [.int (iI ((w : Nat) : Int)), .int (iI ((g : Nat) : Int)), .ref b])), (b, .inr (3, [.ref v, .int (iI ((un P : Nat) : Int)), .int (zI false)])), (v, .inl (D.2 2, n, .inr (.inl (wd P)))), (q_1, .inl (D.2 4, g + 2, .inr (.inr (.inr (.inr (fun j_ => some (q_1 + 1 + j_)))))))]) (q := q_1) (nR := g + 2) (mR := w + 2) (d := dpG w g P ch) C hK hP i (by omega) dX1_depthSum_37 ?_
        refine lv_istore (lv' := [(8, .int (iI ((w + 2 : Nat) : Int))), (7, .ref (q_1 + 1 + i)), (6, .ref (q_1 + 1 + i)), (5, .int (iI (i : Int))), (4, .int (iI (g + 2 : Int))), (3, .ref q_1), (2, .int (iI m9)), (0, .ref t), (1, .int (zI ch))]) kx kb dX1_depthSum_38 hl (by decide) rfl (fun ls hl => ?_)
        refine lv_iconst (v := iI 0) kx kb dX1_depthSum_40 rfl ?_
        refine lv_istore (lv' := [(9, .int (iI 0)), (8, .int (iI ((w + 2 : Nat) : Int))), (7, .ref (q_1 + 1 + i)), (6, .ref (q_1 + 1 + i)), (5, .int (iI (i : Int))), (4, .int (iI (g + 2 : Int))), (3, .ref q_1), (2, .int (iI m9)), (0, .ref t), (1, .int (zI ch))]) kx kb dX1_depthSum_41 hl (by decide) rfl (fun ls hl => ?_)
        have cut43 : ∀ (fuel : Nat) (j : Nat) (m8 : Int), (j ≤ w + 2) → (m8 = m9 + fb_si (dpG w g P ch i) j) → (w + 2 - j) < fuel → ∀ (H : Heap) (locs : List Loc), va_P D.1 clAll ([(t, .inr (1, [.ref a, .ref c])), (c, .inr (3, [.ref v3, .int (iI ((un S : Nat) : Int)), .int (zI false)])), (v3, .inl (D.2 2, n2, .inr (.inl (wd S)))), (a, .inr (2, [.int (iI ((w : Nat) : Int)), .int (iI ((g : Nat) : Int)), .ref b])), (b, .inr (3, [.ref v, .int (iI ((un P : Nat) : Int)), .int (zI false)])), (v, .inl (D.2 2, n, .inr (.inl (wd P)))), (q_1, .inl (D.2 4, g + 2, .inr (.inr (.inr (.inr (fun j_ => some (q_1 + 1 + j_)))))))] ++ (rwP D q_1 (g + 2) (w + 2) (dpG w g P ch))) H → va_D A ([(t, .inr (1, [.ref a, .ref c])), (c, .inr (3, [.ref v3, .int (iI ((un S : Nat) : Int)), .int (zI false)])), (v3, .inl (D.2 2, n2, .inr (.inl (wd S)))), (a, .inr (2, [.int (iI ((w : Nat) : Int)), .int (iI ((g : Nat) : Int)), .ref b])), (b, .inr (3, [.ref v, .int (iI ((un P : Nat) : Int)), .int (zI false)])), (v, .inl (D.2 2, n, .inr (.inl (wd P)))), (q_1, .inl (D.2 4, g + 2, .inr (.inr (.inr (.inr (fun j_ => some (q_1 + 1 + j_)))))))] ++ (rwP D q_1 (g + 2) (w + 2) (dpG w g P ch))) → va_S A s0.heap H locs → ∀ ls : Array Slot, lv_has ls 11 [(9, .int (iI (j : Int))), (8, .int (iI ((w + 2 : Nat) : Int))), (7, .ref (q_1 + 1 + i)), (6, .ref (q_1 + 1 + i)), (5, .int (iI (i : Int))), (4, .int (iI (g + 2 : Int))), (3, .ref q_1), (2, .int (iI m8)), (0, .ref t), (1, .int (zI ch))] → W p0 l e0 ({ frames := 4, cells := 35, slots := 1190, locals := 90 } : Room) s0 m0 args below meth c0 H locs (0 + (1 + (g + 2))) (0 + ((g + 2) + (g + 2) * (w + 2))) Q (F0 m0 43 ls []) := by
          intro fuel
          induction fuel with
          | zero =>
            intro j m8 hj hm8 hfuel43
            exact absurd hfuel43 (Nat.not_lt_zero _)
          | succ fuel ih43 =>
            intro j m8 hj hm8 hfuel43 H locs hP hD hS ls hl
            refine lv_iload kx kb dX1_depthSum_43 (lv_at hl 0 rfl) ?_
            refine lv_iload kx kb dX1_depthSum_45 (lv_at hl 1 rfl) ?_
            refine ti_icmp_ge (tgt := 68) kx kb (by omega) dX1_depthSum_47 (by decide) (fun h47 => ?_) (fun h47 => ?_)
            · refine ti_iinc (a := (i : Int)) (lv' := [(5, .int (iI ((i : Int) + 1))), (9, .int (iI (j : Int))), (8, .int (iI ((w + 2 : Nat) : Int))), (7, .ref (q_1 + 1 + i)), (6, .ref (q_1 + 1 + i)), (4, .int (iI (g + 2 : Int))), (3, .ref q_1), (2, .int (iI m8)), (0, .ref t), (1, .int (zI ch))]) kx kb dX1_depthSum_68 hl (k := 4) rfl (by decide) rfl (fun ls hl => ?_)
              refine lv_goto (tgt := 18) kx kb dX1_depthSum_71 (by decide) ?_
              exact ih18 (i + 1) m8 (by omega) (by rw [fb_si_succ, hm8, hm, show j = w + 2 by omega]) (by omega) H locs hP hD hS ls (lv_sub hl [0, 5, 6, 7, 8, 9] rfl)
            · refine lv_aload kx kb dX1_depthSum_50 (lv_at hl 2 rfl) ?_
              refine lv_iload kx kb dX1_depthSum_52 (lv_at hl 0 rfl) ?_
              refine ta_rsald (fx := [(t, .inr (1, [.ref a, .ref c])), (c, .inr (3, [.ref v3, .int (iI ((un S : Nat) : Int)), .int (zI false)])), (v3, .inl (D.2 2, n2, .inr (.inl (wd S)))), (a, .inr (2, [.int (iI ((w : Nat) : Int)), .int (iI ((g : Nat) : Int)), .ref b])), (b, .inr (3, [.ref v, .int (iI ((un P : Nat) : Int)), .int (zI false)])), (v, .inl (D.2 2, n, .inr (.inl (wd P)))), (q_1, .inl (D.2 4, g + 2, .inr (.inr (.inr (.inr (fun j_ => some (q_1 + 1 + j_)))))))]) (q := q_1) (nR := g + 2) (mR := w + 2) (d := dpG w g P ch) C hK hP i j (by omega) dX1_depthSum_54 ?_
              refine lv_istore (lv' := [(10, .int (iI ((dpG w g P ch) i j))), (9, .int (iI (j : Int))), (8, .int (iI ((w + 2 : Nat) : Int))), (7, .ref (q_1 + 1 + i)), (6, .ref (q_1 + 1 + i)), (5, .int (iI (i : Int))), (4, .int (iI (g + 2 : Int))), (3, .ref q_1), (2, .int (iI m8)), (0, .ref t), (1, .int (zI ch))]) kx kb dX1_depthSum_55 hl (by decide) rfl (fun ls hl => ?_)
              refine lv_iload_n kx kb dX1_depthSum_57 rfl (lv_at hl 8 rfl) ?_
              refine lv_iload kx kb dX1_depthSum_58 (lv_at hl 0 rfl) ?_
              refine ti_iadd kx kb dX1_depthSum_60 ?_
              refine lv_istore_n (lv' := [(2, .int (iI (m8 + ((dpG w g P ch) i j)))), (10, .int (iI ((dpG w g P ch) i j))), (9, .int (iI (j : Int))), (8, .int (iI ((w + 2 : Nat) : Int))), (7, .ref (q_1 + 1 + i)), (6, .ref (q_1 + 1 + i)), (5, .int (iI (i : Int))), (4, .int (iI (g + 2 : Int))), (3, .ref q_1), (0, .ref t), (1, .int (zI ch))]) kx kb dX1_depthSum_61 rfl hl (by decide) rfl (fun ls hl => ?_)
              refine ti_iinc (a := (j : Int)) (lv' := [(9, .int (iI ((j : Int) + 1))), (2, .int (iI (m8 + ((dpG w g P ch) i j)))), (10, .int (iI ((dpG w g P ch) i j))), (8, .int (iI ((w + 2 : Nat) : Int))), (7, .ref (q_1 + 1 + i)), (6, .ref (q_1 + 1 + i)), (5, .int (iI (i : Int))), (4, .int (iI (g + 2 : Int))), (3, .ref q_1), (0, .ref t), (1, .int (zI ch))]) kx kb dX1_depthSum_62 hl (k := 2) rfl (by decide) rfl (fun ls hl => ?_)
              refine lv_goto (tgt := 43) kx kb dX1_depthSum_65 (by decide) ?_
              exact ih43 (j + 1) (m8 + ((dpG w g P ch) i j)) (by omega) (by rw [fb_si_succ, hm8]; omega) (by omega) H locs hP hD hS ls (lv_sub hl [0, 3, 4, 5, 6, 7, 8, 1, 9, 10] rfl)
        exact cut43 ((w + 2 - 0) + 1) 0 m9 (by omega) (by rw [fb_si]; omega) (Nat.lt_succ_self _) H locs hP hD hS ls hl
  exact cut18 ((g + 2 - 0) + 1) 0 0 (by omega) (by rfl) (Nat.lt_succ_self _) H locs hP hD hS ls hl
