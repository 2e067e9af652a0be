set_option maxRecDepth 100000
set_option maxHeartbeats 4000000 in
set_option maxRecDepth 100000 in
theorem met_X2_parts (l : Launch) (D : TG) (E : TE) (a : Nat) (b : Nat) (v : Nat) (n : Nat) (w : Nat) (g : Nat) (P : Nat → Bool) (hw : 1 ≤ w ∧ w ≤ 32) (hg : 1 ≤ g ∧ g ≤ 32) (hB : BB P n) (hPz : ∀ j_, w * g ≤ j_ → P j_ = false) : tMet l yX2_parts cX2_parts 4 (some .int) 7 182 (31 + 7 * fb_ct (fun j_ => P j_ == true) (w * g)) (62 + 64 * fb_ct (fun j_ => P j_ == true) (w * g)) [.ref a] D E [(a, .inr (2, [.int (iI ((w : Nat) : Int)), .int (iI ((g : Nat) : Int)), .ref b])), (b, .inr (3, [.ref v, .int (iI ((un P : Nat) : Int)), .int (zI false)])), (v, .inl (D.2 2, n, .inr (.inl (wd P))))] tY0 (S := Unit) (fun u_ => True) (fun u_ => some (.int (iI ((prtN w g P : Nat) : Int)))) (fun u_ => [(a, .inr (2, [.int (iI ((w : Nat) : Int)), .int (iI ((g : Nat) : Int)), .ref b])), (b, .inr (3, [.ref v, .int (iI ((un P : Nat) : Int)), .int (zI false)])), (v, .inl (D.2 2, n, .inr (.inl (wd P))))]) := by
  refine tu_met (by decide +kernel) (Nat.le_of_ble_eq_true rfl) ?_
  intro p0 e0 s0 m0 below meth c0 A ls args Q hag hQ C hK hX hY hP hD hA hAe hl
  obtain ⟨kx, kb, hml, hown, hts, -⟩ := id C
  have hS : va_S A s0.heap s0.heap [] := va_S.rf
  have hl : lv_has ls 4 [(0, .ref a)] := hl
  have hwg := wg_le hw hg
  have hBn := hB.1
  have hBm := hB.2.1
  have hul := un_le hB
  have hsB0 : BB (snI w g P true 0) 1 := by rw [snI_0]; exact BB_none (by omega)
  refine va_new (D := D.1) (ci := 3) (fs := [.null, .int (iI 0), .int (zI false)]) (C := RJ0) (T := TJ0) (N := 3) kx kb hts in_J0 tyJ0 tyJ0_ok hown (hts _ q109) (hts _ q110) (hts _ q61) hK hP hD hS hA rfl (fun j hj => by rcases (show j = 0 ∨ j = 1 ∨ j = 2 by omega) with rfl | rfl | rfl <;> rfl) (show 1 ≤ 31 + 7 * fb_ct (fun j_ => P j_ == true) (w * g) from by omega) (show 3 ≤ 62 + 64 * fb_ct (fun j_ => P j_ == true) (w * g) from by omega) dX2_parts_0 (fun q_1 H hP hD hS => ?_)
  have hP : va_P D.1 clAll [(a, .inr (2, [.int (iI ((w : Nat) : Int)), .int (iI ((g : Nat) : Int)), .ref b])), (b, .inr (3, [.ref v, .int (iI ((un P : Nat) : Int)), .int (zI false)])), (v, .inl (D.2 2, n, .inr (.inl (wd P)))), (q_1, .inr (3, [.null, .int (iI 0), .int (zI false)]))] H := hP
  have hD : va_D A [(a, .inr (2, [.int (iI ((w : Nat) : Int)), .int (iI ((g : Nat) : Int)), .ref b])), (b, .inr (3, [.ref v, .int (iI ((un P : Nat) : Int)), .int (zI false)])), (v, .inl (D.2 2, n, .inr (.inl (wd P)))), (q_1, .inr (3, [.null, .int (iI 0), .int (zI false)]))] := hD
  refine lv_dup kx kb dX2_parts_3 rfl ?_
  refine t_callI (wr := [(a, .inr (2, [.int (iI ((w : Nat) : Int)), .int (iI ((g : Nat) : Int)), .ref b])), (b, .inr (3, [.ref v, .int (iI ((un P : Nat) : Int)), .int (zI false)])), (v, .inl (D.2 2, n, .inr (.inl (wd P))))]) C (met_J0_init l D E q_1) (cwI 0 hts (lw_meth q113) rfl rfl rfl (hts _ q61) (hts _ q111) (hts _ q112) rfl (by decide +kernel) ⟨Nat.le_of_ble_eq_true rfl, Nat.le_of_ble_eq_true rfl⟩) hK hX hP hD hS hA [3] [0, 1, 2] rfl rfl (by decide) (by decide) (by decide) tYb_0 (fun _ _ _ => trivial) rfl hl.1 rfl (Nat.le_of_ble_eq_true rfl) dX2_parts_4 ⟨(show 2 ≤ 31 + 7 * fb_ct (fun j_ => P j_ == true) (w * g) from by omega), (show 4 ≤ 62 + 64 * fb_ct (fun j_ => P j_ == true) (w * g) from by omega)⟩ (fun u_ H locs hp hP hD hS => ?_)
  obtain ⟨w_2, rfl⟩ : ∃ z, z = u_ := ⟨_, rfl⟩
  have hP : va_P D.1 clAll [(a, .inr (2, [.int (iI ((w : Nat) : Int)), .int (iI ((g : Nat) : Int)), .ref b])), (b, .inr (3, [.ref v, .int (iI ((un P : Nat) : Int)), .int (zI false)])), (v, .inl (D.2 2, n, .inr (.inl (wd P)))), (q_1, .inr (3, [.ref w_2, .int (iI ((un (fun _ => false) : Nat) : Int)), .int (zI false)])), (w_2, .inl (D.2 2, 1, .inr (.inl (wd (fun _ => false)))))] H := hP
  have hD : va_D A [(a, .inr (2, [.int (iI ((w : Nat) : Int)), .int (iI ((g : Nat) : Int)), .ref b])), (b, .inr (3, [.ref v, .int (iI ((un P : Nat) : Int)), .int (zI false)])), (v, .inl (D.2 2, n, .inr (.inl (wd P)))), (q_1, .inr (3, [.ref w_2, .int (iI ((un (fun _ => false) : Nat) : Int)), .int (zI false)])), (w_2, .inl (D.2 2, 1, .inr (.inl (wd (fun _ => false)))))] := hD
  refine W.eq (g2 := F0 m0 7 ls [.ref q_1]) rfl ?_
  refine W.widen (k := 2) (n := 4) (Nat.le_refl _) (Nat.le_refl _) ?_
  refine lv_astore_n (lv' := [(1, .ref q_1), (0, .ref a)]) kx kb dX2_parts_7 rfl hl (by decide) rfl (fun ls hl => ?_)
  refine lv_iconst (v := iI 0) kx kb dX2_parts_8 rfl ?_
  refine lv_istore_n (lv' := [(2, .int (iI 0)), (1, .ref q_1), (0, .ref a)]) kx kb dX2_parts_9 rfl hl (by decide) rfl (fun ls hl => ?_)
  refine lv_aload_n kx kb dX2_parts_10 rfl (lv_at hl 2 rfl) ?_
  refine va_get (D := D.1) (ci := 2) (v := .ref b) (C := RX2) (T := TX2) (N := 3) kx kb hts in_X2 hown hK hP 0 rfl rfl 2 (by decide) (hts _ q141) (fun _ h9 => h9) rfl dX2_parts_11 ?_
  refine lv_iconst (v := iI 0) kx kb dX2_parts_14 rfl ?_
  refine t_callRV C (met_J0_nextSetBit l D E b v n P 0 (by first | assumption | omega) (by first | assumption | omega)) (cwV 1 hts (lw_V q582 q583 q584 q61 q585) rfl rfl rfl (by decide +kernel) ⟨Nat.le_of_ble_eq_true rfl, Nat.le_of_ble_eq_true rfl⟩) (va_recv hK hP (ci := 3) (q0 := 1) rfl rfl) hK hX hP hD hS hA [1, 2] rfl (by decide) tYb_0 (fun _ _ _ => trivial) rfl hl.1 rfl (Nat.le_of_ble_eq_true rfl) dX2_parts_15 ⟨(show 2 ≤ 31 + 7 * fb_ct (fun j_ => P j_ == true) (w * g) from by omega), (show 4 ≤ 62 + 64 * fb_ct (fun j_ => P j_ == true) (w * g) from by omega)⟩ ?_
  refine W.eq (g2 := F0 m0 18 ls [.int (iI (nxt P 0))]) rfl ?_
  refine lv_istore_n (lv' := [(3, .int (iI (nxt P 0))), (2, .int (iI 0)), (1, .ref q_1), (0, .ref a)]) kx kb dX2_parts_18 rfl hl (by decide) rfl (fun ls hl => ?_)
  have cut19 : ∀ (fuel : Nat) (z : Int) (ne : Int) (sv : Nat) (nd : Nat) (i : Nat), (z = nxt P i ∧ i ≤ 1024) → (ne = ((fb_ct (pkI w g P) i : Nat) : Int)) → (BB (snI w g P true i) nd) → (i ≤ w * g) → (1024 - i) < fuel → ∀ (H : Heap) (locs : List Loc), va_P D.1 clAll [(a, .inr (2, [.int (iI ((w : Nat) : Int)), .int (iI ((g : Nat) : Int)), .ref b])), (b, .inr (3, [.ref v, .int (iI ((un P : Nat) : Int)), .int (zI false)])), (v, .inl (D.2 2, n, .inr (.inl (wd P)))), (q_1, .inr (3, [.ref sv, .int (iI ((un (snI w g P true i) : Nat) : Int)), .int (zI false)])), (sv, .inl (D.2 2, nd, .inr (.inl (wd (snI w g P true i)))))] H → va_D A [(a, .inr (2, [.int (iI ((w : Nat) : Int)), .int (iI ((g : Nat) : Int)), .ref b])), (b, .inr (3, [.ref v, .int (iI ((un P : Nat) : Int)), .int (zI false)])), (v, .inl (D.2 2, n, .inr (.inl (wd P)))), (q_1, .inr (3, [.ref sv, .int (iI ((un (snI w g P true i) : Nat) : Int)), .int (zI false)])), (sv, .inl (D.2 2, nd, .inr (.inl (wd (snI w g P true i)))))] → va_S A s0.heap H locs → ∀ ls : Array Slot, lv_has ls 4 [(3, .int (iI z)), (2, .int (iI ne)), (1, .ref q_1), (0, .ref a)] → W p0 l e0 ({ frames := 7, cells := 31 + 7 * fb_ct (fun j_ => P j_ == true) (w * g), slots := 62 + 64 * fb_ct (fun j_ => P j_ == true) (w * g), locals := 182 } : Room) s0 m0 args below meth c0 H locs (2 + 7 * fb_ct (snI w g P true i) (w * g) + (nd - 1)) (4 + 64 * fb_ct (snI w g P true i) (w * g) + 2 * (nd - 1)) Q (F0 m0 19 ls []) := by
    intro fuel
    induction fuel with
    | zero =>
      intro z ne sv nd i hz hn hsB hiw hfuel19
      exact absurd hfuel19 (Nat.not_lt_zero _)
    | succ fuel ih19 =>
      intro z ne sv nd i hz hn hsB hiw hfuel19 H locs hP hD hS ls hl
      have hnx := nxt_rng P hz.2
      rw [← hz.1] at hnx
      have hsl := snI_le (w := w) (g := g) (P := P) (b := true) (i := i)
      have hnd := hsB.1
      have hnd2 := hsB.2.1
      have hnl := fb_ct_le (pkI w g P) i
      refine lv_iload_n kx kb dX2_parts_19 rfl (lv_at hl 0 rfl) ?_
      refine ti_if_lt (tgt := 61) kx kb (by omega) dX2_parts_20 (by decide) (fun h20 => ?_) (fun h20 => ?_)
      · have hte : fb_ct (pkI w g P) (w * g) = fb_ct (pkI w g P) i := pk_run hiw (fun q_ h1_ h2_ => nxt_neg hz.1 hz.2 h20 q_ h1_ (by omega))
        refine lv_iload_n kx kb dX2_parts_61 rfl (lv_at hl 1 rfl) ?_
        subst hQ
        exact tm_iret C () trivial (hP.sub [0, 1, 2] rfl) (hD.sub [0, 1, 2] (by decide) rfl) hS (show 2 + 7 * fb_ct (snI w g P true i) (w * g) + (nd - 1) ≤ 31 + 7 * fb_ct (fun j_ => P j_ == true) (w * g) from by omega) (show 4 + 64 * fb_ct (snI w g P true i) (w * g) + 2 * (nd - 1) ≤ 62 + 64 * fb_ct (fun j_ => P j_ == true) (w * g) from by omega) (by rw [hn, ← hte, prt_eq]) rfl dX2_parts_62
      · obtain ⟨j, hj1, hj2, hj3, hj4, hj5⟩ := nxt_pos hz.1 hz.2 h20
        clear hz
        subst hj1
        have hjw : j < w * g := Nat.lt_of_not_le (fun q_ => by rw [hPz j q_] at hj2; cases hj2)
        have hsr := snI_run (w := w) (g := g) (P := P) (b := true) hj3 (fun q_ h1_ h2_ => by rw [hj5 q_ h1_ h2_]; decide)
        rw [← hsr] at hsB
        have hP : va_P D.1 clAll [(a, .inr (2, [.int (iI ((w : Nat) : Int)), .int (iI ((g : Nat) : Int)), .ref b])), (b, .inr (3, [.ref v, .int (iI ((un P : Nat) : Int)), .int (zI false)])), (v, .inl (D.2 2, n, .inr (.inl (wd P)))), (q_1, .inr (3, [.ref sv, .int (iI ((un (snI w g P true j) : Nat) : Int)), .int (zI false)])), (sv, .inl (D.2 2, nd, .inr (.inl (wd (snI w g P true j)))))] H := by rw [hsr]; exact hP
        have hD : va_D A [(a, .inr (2, [.int (iI ((w : Nat) : Int)), .int (iI ((g : Nat) : Int)), .ref b])), (b, .inr (3, [.ref v, .int (iI ((un P : Nat) : Int)), .int (zI false)])), (v, .inl (D.2 2, n, .inr (.inl (wd P)))), (q_1, .inr (3, [.ref sv, .int (iI ((un (snI w g P true j) : Nat) : Int)), .int (zI false)])), (sv, .inl (D.2 2, nd, .inr (.inl (wd (snI w g P true j)))))] := by rw [hsr]; exact hD
        have hsa := snI_at (b := true) hjw hj2
        refine lv_aload_n kx kb dX2_parts_23 rfl (lv_at hl 2 rfl) ?_
        refine lv_iload_n kx kb dX2_parts_24 rfl (lv_at hl 0 rfl) ?_
        refine t_callRV C (met_J0_get l D E q_1 sv nd (snI w g P true j) j (hsB) (by omega)) (cwV 1 hts (lw_V q619 q620 q621 q61 q622) rfl rfl rfl (by decide +kernel) ⟨Nat.le_of_ble_eq_true rfl, Nat.le_of_ble_eq_true rfl⟩) (va_recv hK hP (ci := 3) (q0 := 3) rfl rfl) hK hX hP hD hS hA [3, 4] rfl (by decide) tYb_0 (fun _ _ _ => trivial) rfl hl.1 rfl (Nat.le_of_ble_eq_true rfl) dX2_parts_25 ⟨(show 2 + 7 * fb_ct (snI w g P true i) (w * g) + (nd - 1) ≤ 31 + 7 * fb_ct (fun j_ => P j_ == true) (w * g) from by omega), (show 4 + 64 * fb_ct (snI w g P true i) (w * g) + 2 * (nd - 1) ≤ 62 + 64 * fb_ct (fun j_ => P j_ == true) (w * g) from by omega)⟩ ?_
        refine W.eq (g2 := F0 m0 28 ls [.int (zI ((snI w g P true j) j))]) rfl ?_
        refine tz_if_eq (tgt := 34) kx kb dX2_parts_28 (by decide) (fun h28 => ?_) (fun h28 => ?_)
        · have hlb : lbI w g P true j = (j : Int) := by rw [h28] at hsa; exact of_decide_eq_true (by cases hd_ : decide (lbI w g P true j = (j : Int)); (rw [hd_] at hsa; cases hsa); rfl)
          have hpk : pkI w g P j = true := decide_eq_true hlb
          have hsc := snI_ct hlb
          have hr1 := rcS_ct (P := P) (b := true) hjw
          have hsl2 := snI_le (w := w) (g := g) (P := P) (b := true) (i := j + 1)
          have hgc := gN_cost (un (rcS w g P true j)) hnd
          rw [hsr] at hsc
          refine lv_aload_n kx kb dX2_parts_34 rfl (lv_at hl 2 rfl) ?_
          refine lv_aload_n kx kb dX2_parts_35 rfl (lv_at hl 3 rfl) ?_
          refine lv_iload_n kx kb dX2_parts_36 rfl (lv_at hl 0 rfl) ?_
          refine lv_iconst (v := iI 1) kx kb dX2_parts_37 rfl ?_
          refine t_callV (wr := [(q_1, .inr (3, [.ref sv, .int (iI ((un (snI w g P true j) : Nat) : Int)), .int (zI false)])), (sv, .inl (D.2 2, nd, .inr (.inl (wd (snI w g P true j)))))]) C (met_X2_reached l D E a b v n w g P j 1 true (by first | assumption | omega) (by first | assumption | omega) (by first | assumption | omega) (hjw) (hj2) (rfl)) (cwV 2 hts (lw_V q818 q819 q820 q60 q821) rfl rfl rfl (by decide +kernel) ⟨Nat.le_of_ble_eq_true rfl, Nat.le_of_ble_eq_true rfl⟩) (va_recv hK hP (ci := 2) (q0 := 0) rfl rfl) hK hX hP hD hS hA [0, 1, 2] [3, 4] rfl rfl (by decide) (by decide) (by decide) tYb_0 (fun _ _ _ => trivial) rfl hl.1 rfl (Nat.le_of_ble_eq_true rfl) dX2_parts_38 ⟨(show 2 + 7 * fb_ct (snI w g P true i) (w * g) + (nd - 1) + (4 + 3 * fb_ct (rcS w g P true j) (w * g)) ≤ 31 + 7 * fb_ct (fun j_ => P j_ == true) (w * g) from by omega), (show 4 + 64 * fb_ct (snI w g P true i) (w * g) + 2 * (nd - 1) + (24 + 40 * fb_ct (rcS w g P true j) (w * g)) ≤ 62 + 64 * fb_ct (fun j_ => P j_ == true) (w * g) from by omega)⟩ (fun u_ H locs hp hP hD hS => ?_)
          obtain ⟨q_3, v2_4, n2_5⟩ := u_
          have hc38_1 : BB (rcS w g P true j) n2_5 := hp
          have hP : va_P D.1 clAll [(q_1, .inr (3, [.ref sv, .int (iI ((un (snI w g P true j) : Nat) : Int)), .int (zI false)])), (sv, .inl (D.2 2, nd, .inr (.inl (wd (snI w g P true j))))), (a, .inr (2, [.int (iI ((w : Nat) : Int)), .int (iI ((g : Nat) : Int)), .ref b])), (b, .inr (3, [.ref v, .int (iI ((un P : Nat) : Int)), .int (zI false)])), (v, .inl (D.2 2, n, .inr (.inl (wd P)))), (q_3, .inr (3, [.ref v2_4, .int (iI ((un (rcS w g P true j) : Nat) : Int)), .int (zI false)])), (v2_4, .inl (D.2 2, n2_5, .inr (.inl (wd (rcS w g P true j)))))] H := hP
          have hD : va_D A [(q_1, .inr (3, [.ref sv, .int (iI ((un (snI w g P true j) : Nat) : Int)), .int (zI false)])), (sv, .inl (D.2 2, nd, .inr (.inl (wd (snI w g P true j))))), (a, .inr (2, [.int (iI ((w : Nat) : Int)), .int (iI ((g : Nat) : Int)), .ref b])), (b, .inr (3, [.ref v, .int (iI ((un P : Nat) : Int)), .int (zI false)])), (v, .inl (D.2 2, n, .inr (.inl (wd P)))), (q_3, .inr (3, [.ref v2_4, .int (iI ((un (rcS w g P true j) : Nat) : Int)), .int (zI false)])), (v2_4, .inl (D.2 2, n2_5, .inr (.inl (wd (rcS w g P true j)))))] := hD
          refine W.eq (g2 := F0 m0 41 ls [.ref q_3, .ref q_1]) rfl ?_
          refine W.widen (k := 2 + 7 * fb_ct (snI w g P true i) (w * g) + (nd - 1) + (4 + 3 * fb_ct (rcS w g P true j) (w * g))) (n := 4 + 64 * fb_ct (snI w g P true i) (w * g) + 2 * (nd - 1) + (24 + 40 * fb_ct (rcS w g P true j) (w * g))) (Nat.le_refl _) (Nat.le_refl _) ?_
          have hgl := gN_le ⟨hnd, hnd2⟩ (un_le hc38_1).2
          refine t_callV (wr := [(a, .inr (2, [.int (iI ((w : Nat) : Int)), .int (iI ((g : Nat) : Int)), .ref b])), (b, .inr (3, [.ref v, .int (iI ((un P : Nat) : Int)), .int (zI false)])), (v, .inl (D.2 2, n, .inr (.inl (wd P))))]) C (met_J0_or l D E q_1 sv nd (snI w g P true j) q_3 v2_4 n2_5 (rcS w g P true j) (hsB) (hc38_1)) (cwV 1 hts (lw_V q557 q558 q559 q61 q560) rfl rfl rfl (by decide +kernel) ⟨Nat.le_of_ble_eq_true rfl, Nat.le_of_ble_eq_true rfl⟩) (va_recv hK hP (ci := 3) (q0 := 0) rfl rfl) hK hX hP hD hS hA [0, 1, 5, 6] [2, 3, 4] rfl rfl (by decide) (by decide) (by decide) tYb_0 (fun _ _ _ => trivial) rfl hl.1 rfl (Nat.le_of_ble_eq_true rfl) dX2_parts_41 ⟨(show 2 + 7 * fb_ct (snI w g P true i) (w * g) + (nd - 1) + (4 + 3 * fb_ct (rcS w g P true j) (w * g)) + (gC nd (un (rcS w g P true j))) ≤ 31 + 7 * fb_ct (fun j_ => P j_ == true) (w * g) from by omega), (show 4 + 64 * fb_ct (snI w g P true i) (w * g) + 2 * (nd - 1) + (24 + 40 * fb_ct (rcS w g P true j) (w * g)) + (gS nd (un (rcS w g P true j))) ≤ 62 + 64 * fb_ct (fun j_ => P j_ == true) (w * g) from by omega)⟩ (fun u_ H locs hp hP hD hS => ?_)
          obtain ⟨w2_6, rfl⟩ : ∃ z, z = u_ := ⟨_, rfl⟩
          have hP : va_P D.1 clAll [(a, .inr (2, [.int (iI ((w : Nat) : Int)), .int (iI ((g : Nat) : Int)), .ref b])), (b, .inr (3, [.ref v, .int (iI ((un P : Nat) : Int)), .int (zI false)])), (v, .inl (D.2 2, n, .inr (.inl (wd P)))), (q_1, .inr (3, [.ref w2_6, .int (iI ((un (orB (snI w g P true j) (rcS w g P true j)) : Nat) : Int)), .int (zI false)])), (w2_6, .inl (D.2 2, gN nd (un (rcS w g P true j)), .inr (.inl (wd (orB (snI w g P true j) (rcS w g P true j)))))), (q_3, .inr (3, [.ref v2_4, .int (iI ((un (rcS w g P true j) : Nat) : Int)), .int (zI false)])), (v2_4, .inl (D.2 2, n2_5, .inr (.inl (wd (rcS w g P true j)))))] H := hP
          have hD : va_D A [(a, .inr (2, [.int (iI ((w : Nat) : Int)), .int (iI ((g : Nat) : Int)), .ref b])), (b, .inr (3, [.ref v, .int (iI ((un P : Nat) : Int)), .int (zI false)])), (v, .inl (D.2 2, n, .inr (.inl (wd P)))), (q_1, .inr (3, [.ref w2_6, .int (iI ((un (orB (snI w g P true j) (rcS w g P true j)) : Nat) : Int)), .int (zI false)])), (w2_6, .inl (D.2 2, gN nd (un (rcS w g P true j)), .inr (.inl (wd (orB (snI w g P true j) (rcS w g P true j)))))), (q_3, .inr (3, [.ref v2_4, .int (iI ((un (rcS w g P true j) : Nat) : Int)), .int (zI false)])), (v2_4, .inl (D.2 2, n2_5, .inr (.inl (wd (rcS w g P true j)))))] := hD
          refine W.eq (g2 := F0 m0 44 ls []) rfl ?_
          refine W.widen (k := 2 + 7 * fb_ct (snI w g P true i) (w * g) + (nd - 1) + (4 + 3 * fb_ct (rcS w g P true j) (w * g)) + (gC nd (un (rcS w g P true j)))) (n := 4 + 64 * fb_ct (snI w g P true i) (w * g) + 2 * (nd - 1) + (24 + 40 * fb_ct (rcS w g P true j) (w * g)) + (gS nd (un (rcS w g P true j)))) (Nat.le_refl _) (Nat.le_refl _) ?_
          have hor := snI_new hlb
          have hP : va_P D.1 clAll [(a, .inr (2, [.int (iI ((w : Nat) : Int)), .int (iI ((g : Nat) : Int)), .ref b])), (b, .inr (3, [.ref v, .int (iI ((un P : Nat) : Int)), .int (zI false)])), (v, .inl (D.2 2, n, .inr (.inl (wd P)))), (q_1, .inr (3, [.ref w2_6, .int (iI ((un (snI w g P true (j + 1)) : Nat) : Int)), .int (zI false)])), (w2_6, .inl (D.2 2, gN nd (un (rcS w g P true j)), .inr (.inl (wd (snI w g P true (j + 1)))))), (q_3, .inr (3, [.ref v2_4, .int (iI ((un (rcS w g P true j) : Nat) : Int)), .int (zI false)])), (v2_4, .inl (D.2 2, n2_5, .inr (.inl (wd (rcS w g P true j)))))] H := by rw [← hor]; exact hP
          have hD : va_D A [(a, .inr (2, [.int (iI ((w : Nat) : Int)), .int (iI ((g : Nat) : Int)), .ref b])), (b, .inr (3, [.ref v, .int (iI ((un P : Nat) : Int)), .int (zI false)])), (v, .inl (D.2 2, n, .inr (.inl (wd P)))), (q_1, .inr (3, [.ref w2_6, .int (iI ((un (snI w g P true (j + 1)) : Nat) : Int)), .int (zI false)])), (w2_6, .inl (D.2 2, gN nd (un (rcS w g P true j)), .inr (.inl (wd (snI w g P true (j + 1)))))), (q_3, .inr (3, [.ref v2_4, .int (iI ((un (rcS w g P true j) : Nat) : Int)), .int (zI false)])), (v2_4, .inl (D.2 2, n2_5, .inr (.inl (wd (rcS w g P true j)))))] := by rw [← hor]; exact hD
          have hsB3 := BB_or hsB hc38_1
          rw [hor] at hsB3
          have hsB4 := hsB3.2.1
          refine ti_iinc (a := ne) (lv' := [(2, .int (iI (ne + 1))), (3, .int (iI ((j : Nat) : Int))), (1, .ref q_1), (0, .ref a)]) kx kb dX2_parts_44 hl (k := 1) rfl (by decide) rfl (fun ls hl => ?_)
          refine lv_aload_n kx kb dX2_parts_47 rfl (lv_at hl 3 rfl) ?_
          refine va_get (D := D.1) (ci := 2) (v := .ref b) (C := RX2) (T := TX2) (N := 3) kx kb hts in_X2 hown hK hP 0 rfl rfl 2 (by decide) (hts _ q141) (fun _ h9 => h9) rfl dX2_parts_48 ?_
          refine lv_iload_n kx kb dX2_parts_51 rfl (lv_at hl 1 rfl) ?_
          refine lv_iconst (v := iI 1) kx kb dX2_parts_52 rfl ?_
          refine ti_iadd kx kb dX2_parts_53 ?_
          refine t_callRV C (met_J0_nextSetBit l D E b v n P (j + 1) (by first | assumption | omega) (by first | assumption | omega)) (cwV 1 hts (lw_V q582 q583 q584 q61 q585) rfl rfl rfl (by decide +kernel) ⟨Nat.le_of_ble_eq_true rfl, Nat.le_of_ble_eq_true rfl⟩) (va_recv hK hP (ci := 3) (q0 := 1) rfl rfl) hK hX hP hD hS hA [1, 2] rfl (by decide) tYb_0 (fun _ _ _ => trivial) rfl hl.1 rfl (Nat.le_of_ble_eq_true rfl) dX2_parts_54 ⟨(show 2 + 7 * fb_ct (snI w g P true i) (w * g) + (nd - 1) + (4 + 3 * fb_ct (rcS w g P true j) (w * g)) + (gC nd (un (rcS w g P true j))) ≤ 31 + 7 * fb_ct (fun j_ => P j_ == true) (w * g) from by omega), (show 4 + 64 * fb_ct (snI w g P true i) (w * g) + 2 * (nd - 1) + (24 + 40 * fb_ct (rcS w g P true j) (w * g)) + (gS nd (un (rcS w g P true j))) ≤ 62 + 64 * fb_ct (fun j_ => P j_ == true) (w * g) from by omega)⟩ ?_
          refine W.eq (g2 := F0 m0 57 ls [.int (iI (nxt P (j + 1)))]) rfl ?_
          refine lv_istore_n (lv' := [(3, .int (iI (nxt P (j + 1)))), (2, .int (iI (ne + 1))), (1, .ref q_1), (0, .ref a)]) kx kb dX2_parts_57 rfl hl (by decide) rfl (fun ls hl => ?_)
          refine lv_goto (tgt := 19) kx kb dX2_parts_58 (by decide) ?_
          refine W.widen (k := 2 + 7 * fb_ct (snI w g P true (j + 1)) (w * g) + ((gN nd (un (rcS w g P true j))) - 1)) (n := 4 + 64 * fb_ct (snI w g P true (j + 1)) (w * g) + 2 * ((gN nd (un (rcS w g P true j))) - 1)) (by omega) (by omega) ?_
          exact ih19 (nxt P (j + 1)) (ne + 1) w2_6 (gN nd (un (rcS w g P true j))) (j + 1) (⟨rfl, by omega⟩) (by rw [fb_ct_succ, pk_run hj3 hj5, hpk]; simp only [if_true, Bool.false_eq_true, if_false]; omega) (hsB3) (by omega) (by omega) H locs (hP.sub [0, 1, 2, 3, 4] rfl) (hD.sub [0, 1, 2, 3, 4] (by decide) rfl) hS ls hl
        · have hlb : lbI w g P true j ≠ (j : Int) := by intro q_; rw [decide_eq_true q_, h28] at hsa; cases hsa
          have hpk : pkI w g P j = false := decide_eq_false hlb
          have hold := snI_old hjw hlb
          have hsc : fb_ct (snI w g P true (j + 1)) (w * g) = fb_ct (snI w g P true i) (w * g) := by rw [hold, hsr]
          have hP : va_P D.1 clAll [(a, .inr (2, [.int (iI ((w : Nat) : Int)), .int (iI ((g : Nat) : Int)), .ref b])), (b, .inr (3, [.ref v, .int (iI ((un P : Nat) : Int)), .int (zI false)])), (v, .inl (D.2 2, n, .inr (.inl (wd P)))), (q_1, .inr (3, [.ref sv, .int (iI ((un (snI w g P true (j + 1)) : Nat) : Int)), .int (zI false)])), (sv, .inl (D.2 2, nd, .inr (.inl (wd (snI w g P true (j + 1))))))] H := by rw [hold]; exact hP
          have hD : va_D A [(a, .inr (2, [.int (iI ((w : Nat) : Int)), .int (iI ((g : Nat) : Int)), .ref b])), (b, .inr (3, [.ref v, .int (iI ((un P : Nat) : Int)), .int (zI false)])), (v, .inl (D.2 2, n, .inr (.inl (wd P)))), (q_1, .inr (3, [.ref sv, .int (iI ((un (snI w g P true (j + 1)) : Nat) : Int)), .int (zI false)])), (sv, .inl (D.2 2, nd, .inr (.inl (wd (snI w g P true (j + 1))))))] := by rw [hold]; exact hD
          have hsB3 := hsB
          rw [← hold] at hsB3
          refine lv_goto (tgt := 47) kx kb dX2_parts_31 (by decide) ?_
          refine lv_aload_n kx kb dX2_parts_47 rfl (lv_at hl 3 rfl) ?_
          refine va_get (D := D.1) (ci := 2) (v := .ref b) (C := RX2) (T := TX2) (N := 3) kx kb hts in_X2 hown hK hP 0 rfl rfl 2 (by decide) (hts _ q141) (fun _ h9 => h9) rfl dX2_parts_48 ?_
          refine lv_iload_n kx kb dX2_parts_51 rfl (lv_at hl 0 rfl) ?_
          refine lv_iconst (v := iI 1) kx kb dX2_parts_52 rfl ?_
          refine ti_iadd kx kb dX2_parts_53 ?_
          refine t_callRV C (met_J0_nextSetBit l D E b v n P (j + 1) (by first | assumption | omega) (by first | assumption | omega)) (cwV 1 hts (lw_V q582 q583 q584 q61 q585) rfl rfl rfl (by decide +kernel) ⟨Nat.le_of_ble_eq_true rfl, Nat.le_of_ble_eq_true rfl⟩) (va_recv hK hP (ci := 3) (q0 := 1) rfl rfl) hK hX hP hD hS hA [1, 2] rfl (by decide) tYb_0 (fun _ _ _ => trivial) rfl hl.1 rfl (Nat.le_of_ble_eq_true rfl) dX2_parts_54 ⟨(show 2 + 7 * fb_ct (snI w g P true i) (w * g) + (nd - 1) ≤ 31 + 7 * fb_ct (fun j_ => P j_ == true) (w * g) from by omega), (show 4 + 64 * fb_ct (snI w g P true i) (w * g) + 2 * (nd - 1) ≤ 62 + 64 * fb_ct (fun j_ => P j_ == true) (w * g) from by omega)⟩ ?_
          refine W.eq (g2 := F0 m0 57 ls [.int (iI (nxt P (j + 1)))]) rfl ?_
          refine lv_istore_n (lv' := [(3, .int (iI (nxt P (j + 1)))), (2, .int (iI ne)), (1, .ref q_1), (0, .ref a)]) kx kb dX2_parts_57 rfl hl (by decide) rfl (fun ls hl => ?_)
          refine lv_goto (tgt := 19) kx kb dX2_parts_58 (by decide) ?_
          refine W.widen (k := 2 + 7 * fb_ct (snI w g P true (j + 1)) (w * g) + (nd - 1)) (n := 4 + 64 * fb_ct (snI w g P true (j + 1)) (w * g) + 2 * (nd - 1)) (by omega) (by omega) ?_
          exact ih19 (nxt P (j + 1)) ne sv nd (j + 1) (⟨rfl, by omega⟩) (by rw [fb_ct_succ, pk_run hj3 hj5, hpk]; simp only [if_true, Bool.false_eq_true, if_false]; omega) (hsB3) (by omega) (by omega) H locs hP hD hS ls hl
  have hP : va_P D.1 clAll [(a, .inr (2, [.int (iI ((w : Nat) : Int)), .int (iI ((g : Nat) : Int)), .ref b])), (b, .inr (3, [.ref v, .int (iI ((un P : Nat) : Int)), .int (zI false)])), (v, .inl (D.2 2, n, .inr (.inl (wd P)))), (q_1, .inr (3, [.ref w_2, .int (iI ((un (snI w g P true 0) : Nat) : Int)), .int (zI false)])), (w_2, .inl (D.2 2, 1, .inr (.inl (wd (snI w g P true 0)))))] H := by rw [snI_0]; exact hP
  have hD : va_D A [(a, .inr (2, [.int (iI ((w : Nat) : Int)), .int (iI ((g : Nat) : Int)), .ref b])), (b, .inr (3, [.ref v, .int (iI ((un P : Nat) : Int)), .int (zI false)])), (v, .inl (D.2 2, n, .inr (.inl (wd P)))), (q_1, .inr (3, [.ref w_2, .int (iI ((un (snI w g P true 0) : Nat) : Int)), .int (zI false)])), (w_2, .inl (D.2 2, 1, .inr (.inl (wd (snI w g P true 0)))))] := by rw [snI_0]; exact hD
  have hsc0 : fb_ct (snI w g P true 0) (w * g) = 0 := by rw [snI_0]; exact fb_ct_zero.mpr (fun _ _ => rfl)
  refine W.widen (k := 2 + 7 * fb_ct (snI w g P true 0) (w * g) + (1 - 1)) (n := 4 + 64 * fb_ct (snI w g P true 0) (w * g) + 2 * (1 - 1)) (by omega) (by omega) ?_
  exact cut19 ((1024 - 0) + 1) (nxt P 0) 0 w_2 1 0 (⟨rfl, by omega⟩) (by rfl) (hsB0) (by omega) (Nat.lt_succ_self _) H locs hP hD hS ls hl
set_option maxHeartbeats 4000000 in
set_option maxRecDepth 100000 in
theorem met_X2_holes (l : Launch) (D : TG) (E : TE) (a : Nat) (b : Nat) (v : Nat) (n : Nat) (w : Nat) (g : Nat) (P : Nat → Bool) (hw : 1 ≤ w ∧ w ≤ 32) (hg : 1 ≤ g ∧ g ≤ 32) (hB : BB P n) : tMet l yX2_holes cX2_holes 5 (some .int) 7 182 (31 + 7 * fb_ct (fun j_ => P j_ == false) (w * g)) (62 + 64 * fb_ct (fun j_ => P j_ == false) (w * g)) [.ref a] D E [(a, .inr (2, [.int (iI ((w : Nat) : Int)), .int (iI ((g : Nat) : Int)), .ref b])), (b, .inr (3, [.ref v, .int (iI ((un P : Nat) : Int)), .int (zI false)])), (v, .inl (D.2 2, n, .inr (.inl (wd P))))] tY0 (S := Unit) (fun u_ => True) (fun u_ => some (.int (iI ((holN w g P : Nat) : Int)))) (fun u_ => [(a, .inr (2, [.int (iI ((w : Nat) : Int)), .int (iI ((g : Nat) : Int)), .ref b])), (b, .inr (3, [.ref v, .int (iI ((un P : Nat) : Int)), .int (zI false)])), (v, .inl (D.2 2, n, .inr (.inl (wd P))))]) := by
  refine tu_met (by decide +kernel) (Nat.le_of_ble_eq_true rfl) ?_
  intro p0 e0 s0 m0 below meth c0 A ls args Q hag hQ C hK hX hY hP hD hA hAe hl
  obtain ⟨kx, kb, hml, hown, hts, -⟩ := id C
  have hS : va_S A s0.heap s0.heap [] := va_S.rf
  have hl : lv_has ls 5 [(0, .ref a)] := hl
  have hwg := wg_le hw hg
  have hBn := hB.1
  have hBm := hB.2.1
  have hul := un_le hB
  have hsB0 : BB (snI w g P false 0) 1 := by rw [snI_0]; exact BB_none (by omega)
  refine va_new (D := D.1) (ci := 3) (fs := [.null, .int (iI 0), .int (zI false)]) (C := RJ0) (T := TJ0) (N := 3) kx kb hts in_J0 tyJ0 tyJ0_ok hown (hts _ q109) (hts _ q110) (hts _ q61) hK hP hD hS hA rfl (fun j hj => by rcases (show j = 0 ∨ j = 1 ∨ j = 2 by omega) with rfl | rfl | rfl <;> rfl) (show 1 ≤ 31 + 7 * fb_ct (fun j_ => P j_ == false) (w * g) from by omega) (show 3 ≤ 62 + 64 * fb_ct (fun j_ => P j_ == false) (w * g) from by omega) dX2_holes_0 (fun q_1 H hP hD hS => ?_)
  have hP : va_P D.1 clAll [(a, .inr (2, [.int (iI ((w : Nat) : Int)), .int (iI ((g : Nat) : Int)), .ref b])), (b, .inr (3, [.ref v, .int (iI ((un P : Nat) : Int)), .int (zI false)])), (v, .inl (D.2 2, n, .inr (.inl (wd P)))), (q_1, .inr (3, [.null, .int (iI 0), .int (zI false)]))] H := hP
  have hD : va_D A [(a, .inr (2, [.int (iI ((w : Nat) : Int)), .int (iI ((g : Nat) : Int)), .ref b])), (b, .inr (3, [.ref v, .int (iI ((un P : Nat) : Int)), .int (zI false)])), (v, .inl (D.2 2, n, .inr (.inl (wd P)))), (q_1, .inr (3, [.null, .int (iI 0), .int (zI false)]))] := hD
  refine lv_dup kx kb dX2_holes_3 rfl ?_
  refine t_callI (wr := [(a, .inr (2, [.int (iI ((w : Nat) : Int)), .int (iI ((g : Nat) : Int)), .ref b])), (b, .inr (3, [.ref v, .int (iI ((un P : Nat) : Int)), .int (zI false)])), (v, .inl (D.2 2, n, .inr (.inl (wd P))))]) C (met_J0_init l D E q_1) (cwI 0 hts (lw_meth q113) rfl rfl rfl (hts _ q61) (hts _ q111) (hts _ q112) rfl (by decide +kernel) ⟨Nat.le_of_ble_eq_true rfl, Nat.le_of_ble_eq_true rfl⟩) hK hX hP hD hS hA [3] [0, 1, 2] rfl rfl (by decide) (by decide) (by decide) tYb_0 (fun _ _ _ => trivial) rfl hl.1 rfl (Nat.le_of_ble_eq_true rfl) dX2_holes_4 ⟨(show 2 ≤ 31 + 7 * fb_ct (fun j_ => P j_ == false) (w * g) from by omega), (show 4 ≤ 62 + 64 * fb_ct (fun j_ => P j_ == false) (w * g) from by omega)⟩ (fun u_ H locs hp hP hD hS => ?_)
  obtain ⟨w_2, rfl⟩ : ∃ z, z = u_ := ⟨_, rfl⟩
  have hP : va_P D.1 clAll [(a, .inr (2, [.int (iI ((w : Nat) : Int)), .int (iI ((g : Nat) : Int)), .ref b])), (b, .inr (3, [.ref v, .int (iI ((un P : Nat) : Int)), .int (zI false)])), (v, .inl (D.2 2, n, .inr (.inl (wd P)))), (q_1, .inr (3, [.ref w_2, .int (iI ((un (fun _ => false) : Nat) : Int)), .int (zI false)])), (w_2, .inl (D.2 2, 1, .inr (.inl (wd (fun _ => false)))))] H := hP
  have hD : va_D A [(a, .inr (2, [.int (iI ((w : Nat) : Int)), .int (iI ((g : Nat) : Int)), .ref b])), (b, .inr (3, [.ref v, .int (iI ((un P : Nat) : Int)), .int (zI false)])), (v, .inl (D.2 2, n, .inr (.inl (wd P)))), (q_1, .inr (3, [.ref w_2, .int (iI ((un (fun _ => false) : Nat) : Int)), .int (zI false)])), (w_2, .inl (D.2 2, 1, .inr (.inl (wd (fun _ => false)))))] := hD
  refine W.eq (g2 := F0 m0 7 ls [.ref q_1]) rfl ?_
  refine W.widen (k := 2) (n := 4) (Nat.le_refl _) (Nat.le_refl _) ?_
  refine lv_astore_n (lv' := [(1, .ref q_1), (0, .ref a)]) kx kb dX2_holes_7 rfl hl (by decide) rfl (fun ls hl => ?_)
  refine lv_iconst (v := iI 0) kx kb dX2_holes_8 rfl ?_
  refine lv_istore_n (lv' := [(2, .int (iI 0)), (1, .ref q_1), (0, .ref a)]) kx kb dX2_holes_9 rfl hl (by decide) rfl (fun ls hl => ?_)
  refine lv_iconst (v := iI 0) kx kb dX2_holes_10 rfl ?_
  refine lv_istore_n (lv' := [(3, .int (iI 0)), (2, .int (iI 0)), (1, .ref q_1), (0, .ref a)]) kx kb dX2_holes_11 rfl hl (by decide) rfl (fun ls hl => ?_)
  have cut12 : ∀ (fuel : Nat) (i : Nat) (ne : Int) (sv : Nat) (nd : Nat), (i ≤ w * g) → (ne = ((fb_ct (hkI w g P) i : Nat) : Int)) → (BB (snI w g P false i) nd) → (w * g - i) < fuel → ∀ (H : Heap) (locs : List Loc), va_P D.1 clAll [(a, .inr (2, [.int (iI ((w : Nat) : Int)), .int (iI ((g : Nat) : Int)), .ref b])), (b, .inr (3, [.ref v, .int (iI ((un P : Nat) : Int)), .int (zI false)])), (v, .inl (D.2 2, n, .inr (.inl (wd P)))), (q_1, .inr (3, [.ref sv, .int (iI ((un (snI w g P false i) : Nat) : Int)), .int (zI false)])), (sv, .inl (D.2 2, nd, .inr (.inl (wd (snI w g P false i)))))] H → va_D A [(a, .inr (2, [.int (iI ((w : Nat) : Int)), .int (iI ((g : Nat) : Int)), .ref b])), (b, .inr (3, [.ref v, .int (iI ((un P : Nat) : Int)), .int (zI false)])), (v, .inl (D.2 2, n, .inr (.inl (wd P)))), (q_1, .inr (3, [.ref sv, .int (iI ((un (snI w g P false i) : Nat) : Int)), .int (zI false)])), (sv, .inl (D.2 2, nd, .inr (.inl (wd (snI w g P false i)))))] → va_S A s0.heap H locs → ∀ ls : Array Slot, lv_has ls 5 [(3, .int (iI (i : Int))), (2, .int (iI ne)), (1, .ref q_1), (0, .ref a)] → W p0 l e0 ({ frames := 7, cells := 31 + 7 * fb_ct (fun j_ => P j_ == false) (w * g), slots := 62 + 64 * fb_ct (fun j_ => P j_ == false) (w * g), locals := 182 } : Room) s0 m0 args below meth c0 H locs (2 + 7 * fb_ct (snI w g P false i) (w * g) + (nd - 1)) (4 + 64 * fb_ct (snI w g P false i) (w * g) + 2 * (nd - 1)) Q (F0 m0 12 ls []) := by
    intro fuel
    induction fuel with
    | zero =>
      intro i ne sv nd hi hn hsB hfuel12
      exact absurd hfuel12 (Nat.not_lt_zero _)
    | succ fuel ih12 =>
      intro i ne sv nd hi hn hsB hfuel12 H locs hP hD hS ls hl
      have hsl := snI_le (w := w) (g := g) (P := P) (b := false) (i := i)
      have hnd := hsB.1
      have hnd2 := hsB.2.1
      have hnl := fb_ct_le (hkI w g P) i
      refine lv_iload_n kx kb dX2_holes_12 rfl (lv_at hl 0 rfl) ?_
      refine lv_aload_n kx kb dX2_holes_13 rfl (lv_at hl 3 rfl) ?_
      refine t_callRV C (met_X2_cells l D E a b w g (by first | assumption | omega) (by first | assumption | omega)) (cwV 0 hts (lw_V q955 q164 q165 q60 q166) rfl rfl rfl (by decide +kernel) ⟨Nat.le_of_ble_eq_true rfl, Nat.le_of_ble_eq_true rfl⟩) (va_recv hK hP (ci := 2) (q0 := 0) rfl rfl) hK hX hP hD hS hA [0] rfl (by decide) tYb_0 (fun _ _ _ => trivial) rfl hl.1 rfl (Nat.le_of_ble_eq_true rfl) dX2_holes_14 ⟨(show 2 + 7 * fb_ct (snI w g P false i) (w * g) + (nd - 1) ≤ 31 + 7 * fb_ct (fun j_ => P j_ == false) (w * g) from by omega), (show 4 + 64 * fb_ct (snI w g P false i) (w * g) + 2 * (nd - 1) ≤ 62 + 64 * fb_ct (fun j_ => P j_ == false) (w * g) from by omega)⟩ ?_
      refine W.eq (g2 := F0 m0 17 ls [.int (iI ((w * g : Nat) : Int)), .int (iI (i : Int))]) rfl ?_
      refine ti_icmp_ge (tgt := 79) kx kb (by omega) dX2_holes_17 (by decide) (fun h17 => ?_) (fun h17 => ?_)
      · refine lv_iload_n kx kb dX2_holes_79 rfl (lv_at hl 1 rfl) ?_
        subst hQ
        exact tm_iret C () trivial (hP.sub [0, 1, 2] rfl) (hD.sub [0, 1, 2] (by decide) rfl) hS (show 2 + 7 * fb_ct (snI w g P false i) (w * g) + (nd - 1) ≤ 31 + 7 * fb_ct (fun j_ => P j_ == false) (w * g) from by omega) (show 4 + 64 * fb_ct (snI w g P false i) (w * g) + 2 * (nd - 1) ≤ 62 + 64 * fb_ct (fun j_ => P j_ == false) (w * g) from by omega) (by rw [hn, show i = w * g from by omega, hol_eq]) rfl dX2_holes_80
      · refine lv_aload_n kx kb dX2_holes_20 rfl (lv_at hl 3 rfl) ?_
        refine va_get (D := D.1) (ci := 2) (v := .ref b) (C := RX2) (T := TX2) (N := 3) kx kb hts in_X2 hown hK hP 0 rfl rfl 2 (by decide) (hts _ q141) (fun _ h9 => h9) rfl dX2_holes_21 ?_
        refine lv_iload_n kx kb dX2_holes_24 rfl (lv_at hl 0 rfl) ?_
        refine t_callRV C (met_J0_get l D E b v n P i (by first | assumption | omega) (by omega)) (cwV 1 hts (lw_V q619 q620 q621 q61 q622) rfl rfl rfl (by decide +kernel) ⟨Nat.le_of_ble_eq_true rfl, Nat.le_of_ble_eq_true rfl⟩) (va_recv hK hP (ci := 3) (q0 := 1) rfl rfl) hK hX hP hD hS hA [1, 2] rfl (by decide) tYb_0 (fun _ _ _ => trivial) rfl hl.1 rfl (Nat.le_of_ble_eq_true rfl) dX2_holes_25 ⟨(show 2 + 7 * fb_ct (snI w g P false i) (w * g) + (nd - 1) ≤ 31 + 7 * fb_ct (fun j_ => P j_ == false) (w * g) from by omega), (show 4 + 64 * fb_ct (snI w g P false i) (w * g) + 2 * (nd - 1) ≤ 62 + 64 * fb_ct (fun j_ => P j_ == false) (w * g) from by omega)⟩ ?_
        refine W.eq (g2 := F0 m0 28 ls [.int (zI (P i))]) rfl ?_
        refine tz_if_ne (tgt := 73) kx kb dX2_holes_28 (by decide) (fun h28 => ?_) (fun h28 => ?_)
        · have hhk : hkI w g P i = false := hk_kd h28
          have hold := snI_kd (w := w) (g := g) (b := false) (show P i ≠ false by rw [h28]; decide)
          have hsc : fb_ct (snI w g P false (i + 1)) (w * g) = fb_ct (snI w g P false i) (w * g) := by rw [hold]
          have hP : va_P D.1 clAll [(a, .inr (2, [.int (iI ((w : Nat) : Int)), .int (iI ((g : Nat) : Int)), .ref b])), (b, .inr (3, [.ref v, .int (iI ((un P : Nat) : Int)), .int (zI false)])), (v, .inl (D.2 2, n, .inr (.inl (wd P)))), (q_1, .inr (3, [.ref sv, .int (iI ((un (snI w g P false (i + 1)) : Nat) : Int)), .int (zI false)])), (sv, .inl (D.2 2, nd, .inr (.inl (wd (snI w g P false (i + 1))))))] H := by rw [hold]; exact hP
          have hD : va_D A [(a, .inr (2, [.int (iI ((w : Nat) : Int)), .int (iI ((g : Nat) : Int)), .ref b])), (b, .inr (3, [.ref v, .int (iI ((un P : Nat) : Int)), .int (zI false)])), (v, .inl (D.2 2, n, .inr (.inl (wd P)))), (q_1, .inr (3, [.ref sv, .int (iI ((un (snI w g P false (i + 1)) : Nat) : Int)), .int (zI false)])), (sv, .inl (D.2 2, nd, .inr (.inl (wd (snI w g P false (i + 1))))))] := by rw [hold]; exact hD
          have hsB3 := hsB
          rw [← hold] at hsB3
          refine ti_iinc (a := (i : Int)) (lv' := [(3, .int (iI ((i : Int) + 1))), (2, .int (iI ne)), (1, .ref q_1), (0, .ref a)]) kx kb dX2_holes_73 hl (k := 0) rfl (by decide) rfl (fun ls hl => ?_)
          refine lv_goto (tgt := 12) kx kb dX2_holes_76 (by decide) ?_
          refine W.widen (k := 2 + 7 * fb_ct (snI w g P false (i + 1)) (w * g) + (nd - 1)) (n := 4 + 64 * fb_ct (snI w g P false (i + 1)) (w * g) + 2 * (nd - 1)) (by omega) (by omega) ?_
          exact ih12 (i + 1) ne sv nd (by omega) (by rw [fb_ct_succ, hhk]; simp only [if_true, Bool.false_eq_true, if_false]; omega) (hsB3) (by omega) H locs hP hD hS ls hl
        · have hsa := snI_at (b := false) (show i < w * g by omega) h28
          refine lv_aload_n kx kb dX2_holes_31 rfl (lv_at hl 2 rfl) ?_
          refine lv_iload_n kx kb dX2_holes_32 rfl (lv_at hl 0 rfl) ?_
          refine t_callRV C (met_J0_get l D E q_1 sv nd (snI w g P false i) i (hsB) (by omega)) (cwV 1 hts (lw_V q619 q620 q621 q61 q622) rfl rfl rfl (by decide +kernel) ⟨Nat.le_of_ble_eq_true rfl, Nat.le_of_ble_eq_true rfl⟩) (va_recv hK hP (ci := 3) (q0 := 3) rfl rfl) hK hX hP hD hS hA [3, 4] rfl (by decide) tYb_0 (fun _ _ _ => trivial) rfl hl.1 rfl (Nat.le_of_ble_eq_true rfl) dX2_holes_33 ⟨(show 2 + 7 * fb_ct (snI w g P false i) (w * g) + (nd - 1) ≤ 31 + 7 * fb_ct (fun j_ => P j_ == false) (w * g) from by omega), (show 4 + 64 * fb_ct (snI w g P false i) (w * g) + 2 * (nd - 1) ≤ 62 + 64 * fb_ct (fun j_ => P j_ == false) (w * g) from by omega)⟩ ?_
          refine W.eq (g2 := F0 m0 36 ls [.int (zI ((snI w g P false i) i))]) rfl ?_
          refine tz_if_eq (tgt := 42) kx kb dX2_holes_36 (by decide) (fun h36 => ?_) (fun h36 => ?_)
          · have hlb : lbI w g P false i = (i : Int) := by rw [h36] at hsa; exact of_decide_eq_true (by cases hd_ : decide (lbI w g P false i = (i : Int)); (rw [hd_] at hsa; cases hsa); rfl)
            have hsc := snI_ct hlb
            have hr1 := rcS_ct (P := P) (b := false) (show i < w * g by omega)
            have hsl2 := snI_le (w := w) (g := g) (P := P) (b := false) (i := i + 1)
            have hgc := gN_cost (un (rcS w g P false i)) hnd
            refine lv_aload_n kx kb dX2_holes_42 rfl (lv_at hl 3 rfl) ?_
            refine lv_iload_n kx kb dX2_holes_43 rfl (lv_at hl 0 rfl) ?_
            refine lv_iconst (v := iI 2) kx kb dX2_holes_44 rfl ?_
            refine t_callV (wr := [(q_1, .inr (3, [.ref sv, .int (iI ((un (snI w g P false i) : Nat) : Int)), .int (zI false)])), (sv, .inl (D.2 2, nd, .inr (.inl (wd (snI w g P false i)))))]) C (met_X2_reached l D E a b v n w g P i 2 false (by first | assumption | omega) (by first | assumption | omega) (by first | assumption | omega) (by omega) (h28) (rfl)) (cwV 2 hts (lw_V q818 q819 q820 q60 q821) rfl rfl rfl (by decide +kernel) ⟨Nat.le_of_ble_eq_true rfl, Nat.le_of_ble_eq_true rfl⟩) (va_recv hK hP (ci := 2) (q0 := 0) rfl rfl) hK hX hP hD hS hA [0, 1, 2] [3, 4] rfl rfl (by decide) (by decide) (by decide) tYb_0 (fun _ _ _ => trivial) rfl hl.1 rfl (Nat.le_of_ble_eq_true rfl) dX2_holes_45 ⟨(show 2 + 7 * fb_ct (snI w g P false i) (w * g) + (nd - 1) + (4 + 3 * fb_ct (rcS w g P false i) (w * g)) ≤ 31 + 7 * fb_ct (fun j_ => P j_ == false) (w * g) from by omega), (show 4 + 64 * fb_ct (snI w g P false i) (w * g) + 2 * (nd - 1) + (24 + 40 * fb_ct (rcS w g P false i) (w * g)) ≤ 62 + 64 * fb_ct (fun j_ => P j_ == false) (w * g) from by omega)⟩ (fun u_ H locs hp hP hD hS => ?_)
            obtain ⟨q_3, v2_4, n2_5⟩ := u_
            have hc45_1 : BB (rcS w g P false i) n2_5 := hp
            have hP : va_P D.1 clAll [(q_1, .inr (3, [.ref sv, .int (iI ((un (snI w g P false i) : Nat) : Int)), .int (zI false)])), (sv, .inl (D.2 2, nd, .inr (.inl (wd (snI w g P false i))))), (a, .inr (2, [.int (iI ((w : Nat) : Int)), .int (iI ((g : Nat) : Int)), .ref b])), (b, .inr (3, [.ref v, .int (iI ((un P : Nat) : Int)), .int (zI false)])), (v, .inl (D.2 2, n, .inr (.inl (wd P)))), (q_3, .inr (3, [.ref v2_4, .int (iI ((un (rcS w g P false i) : Nat) : Int)), .int (zI false)])), (v2_4, .inl (D.2 2, n2_5, .inr (.inl (wd (rcS w g P false i)))))] H := hP
            have hD : va_D A [(q_1, .inr (3, [.ref sv, .int (iI ((un (snI w g P false i) : Nat) : Int)), .int (zI false)])), (sv, .inl (D.2 2, nd, .inr (.inl (wd (snI w g P false i))))), (a, .inr (2, [.int (iI ((w : Nat) : Int)), .int (iI ((g : Nat) : Int)), .ref b])), (b, .inr (3, [.ref v, .int (iI ((un P : Nat) : Int)), .int (zI false)])), (v, .inl (D.2 2, n, .inr (.inl (wd P)))), (q_3, .inr (3, [.ref v2_4, .int (iI ((un (rcS w g P false i) : Nat) : Int)), .int (zI false)])), (v2_4, .inl (D.2 2, n2_5, .inr (.inl (wd (rcS w g P false i)))))] := hD
            refine W.eq (g2 := F0 m0 48 ls [.ref q_3]) rfl ?_
            refine W.widen (k := 2 + 7 * fb_ct (snI w g P false i) (w * g) + (nd - 1) + (4 + 3 * fb_ct (rcS w g P false i) (w * g))) (n := 4 + 64 * fb_ct (snI w g P false i) (w * g) + 2 * (nd - 1) + (24 + 40 * fb_ct (rcS w g P false i) (w * g))) (Nat.le_refl _) (Nat.le_refl _) ?_
            refine lv_astore (lv' := [(4, .ref q_3), (3, .int (iI (i : Int))), (2, .int (iI ne)), (1, .ref q_1), (0, .ref a)]) kx kb dX2_holes_48 hl (by decide) rfl (fun ls hl => ?_)
            refine lv_aload_n kx kb dX2_holes_50 rfl (lv_at hl 3 rfl) ?_
            refine lv_aload kx kb dX2_holes_51 (lv_at hl 0 rfl) ?_
            have hgl := gN_le ⟨hnd, hnd2⟩ (un_le hc45_1).2
            refine t_callV (wr := [(a, .inr (2, [.int (iI ((w : Nat) : Int)), .int (iI ((g : Nat) : Int)), .ref b])), (b, .inr (3, [.ref v, .int (iI ((un P : Nat) : Int)), .int (zI false)])), (v, .inl (D.2 2, n, .inr (.inl (wd P))))]) C (met_J0_or l D E q_1 sv nd (snI w g P false i) q_3 v2_4 n2_5 (rcS w g P false i) (hsB) (hc45_1)) (cwV 1 hts (lw_V q557 q558 q559 q61 q560) rfl rfl rfl (by decide +kernel) ⟨Nat.le_of_ble_eq_true rfl, Nat.le_of_ble_eq_true rfl⟩) (va_recv hK hP (ci := 3) (q0 := 0) rfl rfl) hK hX hP hD hS hA [0, 1, 5, 6] [2, 3, 4] rfl rfl (by decide) (by decide) (by decide) tYb_0 (fun _ _ _ => trivial) rfl hl.1 rfl (Nat.le_of_ble_eq_true rfl) dX2_holes_53 ⟨(show 2 + 7 * fb_ct (snI w g P false i) (w * g) + (nd - 1) + (4 + 3 * fb_ct (rcS w g P false i) (w * g)) + (gC nd (un (rcS w g P false i))) ≤ 31 + 7 * fb_ct (fun j_ => P j_ == false) (w * g) from by omega), (show 4 + 64 * fb_ct (snI w g P false i) (w * g) + 2 * (nd - 1) + (24 + 40 * fb_ct (rcS w g P false i) (w * g)) + (gS nd (un (rcS w g P false i))) ≤ 62 + 64 * fb_ct (fun j_ => P j_ == false) (w * g) from by omega)⟩ (fun u_ H locs hp hP hD hS => ?_)
            obtain ⟨w2_6, rfl⟩ : ∃ z, z = u_ := ⟨_, rfl⟩
            have hP : va_P D.1 clAll [(a, .inr (2, [.int (iI ((w : Nat) : Int)), .int (iI ((g : Nat) : Int)), .ref b])), (b, .inr (3, [.ref v, .int (iI ((un P : Nat) : Int)), .int (zI false)])), (v, .inl (D.2 2, n, .inr (.inl (wd P)))), (q_1, .inr (3, [.ref w2_6, .int (iI ((un (orB (snI w g P false i) (rcS w g P false i)) : Nat) : Int)), .int (zI false)])), (w2_6, .inl (D.2 2, gN nd (un (rcS w g P false i)), .inr (.inl (wd (orB (snI w g P false i) (rcS w g P false i)))))), (q_3, .inr (3, [.ref v2_4, .int (iI ((un (rcS w g P false i) : Nat) : Int)), .int (zI false)])), (v2_4, .inl (D.2 2, n2_5, .inr (.inl (wd (rcS w g P false i)))))] H := hP
            have hD : va_D A [(a, .inr (2, [.int (iI ((w : Nat) : Int)), .int (iI ((g : Nat) : Int)), .ref b])), (b, .inr (3, [.ref v, .int (iI ((un P : Nat) : Int)), .int (zI false)])), (v, .inl (D.2 2, n, .inr (.inl (wd P)))), (q_1, .inr (3, [.ref w2_6, .int (iI ((un (orB (snI w g P false i) (rcS w g P false i)) : Nat) : Int)), .int (zI false)])), (w2_6, .inl (D.2 2, gN nd (un (rcS w g P false i)), .inr (.inl (wd (orB (snI w g P false i) (rcS w g P false i)))))), (q_3, .inr (3, [.ref v2_4, .int (iI ((un (rcS w g P false i) : Nat) : Int)), .int (zI false)])), (v2_4, .inl (D.2 2, n2_5, .inr (.inl (wd (rcS w g P false i)))))] := hD
            refine W.eq (g2 := F0 m0 56 ls []) rfl ?_
            refine W.widen (k := 2 + 7 * fb_ct (snI w g P false i) (w * g) + (nd - 1) + (4 + 3 * fb_ct (rcS w g P false i) (w * g)) + (gC nd (un (rcS w g P false i)))) (n := 4 + 64 * fb_ct (snI w g P false i) (w * g) + 2 * (nd - 1) + (24 + 40 * fb_ct (rcS w g P false i) (w * g)) + (gS nd (un (rcS w g P false i)))) (Nat.le_refl _) (Nat.le_refl _) ?_
            have hor := snI_new hlb
            have hP : va_P D.1 clAll [(a, .inr (2, [.int (iI ((w : Nat) : Int)), .int (iI ((g : Nat) : Int)), .ref b])), (b, .inr (3, [.ref v, .int (iI ((un P : Nat) : Int)), .int (zI false)])), (v, .inl (D.2 2, n, .inr (.inl (wd P)))), (q_1, .inr (3, [.ref w2_6, .int (iI ((un (snI w g P false (i + 1)) : Nat) : Int)), .int (zI false)])), (w2_6, .inl (D.2 2, gN nd (un (rcS w g P false i)), .inr (.inl (wd (snI w g P false (i + 1)))))), (q_3, .inr (3, [.ref v2_4, .int (iI ((un (rcS w g P false i) : Nat) : Int)), .int (zI false)])), (v2_4, .inl (D.2 2, n2_5, .inr (.inl (wd (rcS w g P false i)))))] H := by rw [← hor]; exact hP
            have hD : va_D A [(a, .inr (2, [.int (iI ((w : Nat) : Int)), .int (iI ((g : Nat) : Int)), .ref b])), (b, .inr (3, [.ref v, .int (iI ((un P : Nat) : Int)), .int (zI false)])), (v, .inl (D.2 2, n, .inr (.inl (wd P)))), (q_1, .inr (3, [.ref w2_6, .int (iI ((un (snI w g P false (i + 1)) : Nat) : Int)), .int (zI false)])), (w2_6, .inl (D.2 2, gN nd (un (rcS w g P false i)), .inr (.inl (wd (snI w g P false (i + 1)))))), (q_3, .inr (3, [.ref v2_4, .int (iI ((un (rcS w g P false i) : Nat) : Int)), .int (zI false)])), (v2_4, .inl (D.2 2, n2_5, .inr (.inl (wd (rcS w g P false i)))))] := by rw [← hor]; exact hD
            have hsB3 := BB_or hsB hc45_1
            rw [hor] at hsB3
            have hsB4 := hsB3.2.1
            have hto := tch_opn hwg hlb
            refine lv_iload_n kx kb dX2_holes_56 rfl (lv_at hl 2 rfl) ?_
            refine lv_aload_n kx kb dX2_holes_57 rfl (lv_at hl 4 rfl) ?_
            refine lv_aload kx kb dX2_holes_58 (lv_at hl 0 rfl) ?_
            refine t_callRV C (met_X2_touches l D E a b w g q_3 v2_4 n2_5 (rcS w g P false i) (by first | assumption | omega) (by first | assumption | omega) (hc45_1) (fun j_ h_ => rcS_z h_)) (cwV 1 hts (lw_V q956 q958 qs12 q60 q959) rfl rfl rfl (by decide +kernel) ⟨Nat.le_of_ble_eq_true rfl, Nat.le_of_ble_eq_true rfl⟩) (va_recv hK hP (ci := 2) (q0 := 0) rfl rfl) hK hX hP hD hS hA [0, 5, 6] rfl (by decide) tYb_0 (fun _ _ _ => trivial) rfl hl.1 rfl (Nat.le_of_ble_eq_true rfl) dX2_holes_60 ⟨(show 2 + 7 * fb_ct (snI w g P false i) (w * g) + (nd - 1) + (4 + 3 * fb_ct (rcS w g P false i) (w * g)) + (gC nd (un (rcS w g P false i))) ≤ 31 + 7 * fb_ct (fun j_ => P j_ == false) (w * g) from by omega), (show 4 + 64 * fb_ct (snI w g P false i) (w * g) + 2 * (nd - 1) + (24 + 40 * fb_ct (rcS w g P false i) (w * g)) + (gS nd (un (rcS w g P false i))) ≤ 62 + 64 * fb_ct (fun j_ => P j_ == false) (w * g) from by omega)⟩ ?_
            refine W.eq (g2 := F0 m0 63 ls [.int (zI (tchI w g (rcS w g P false i) 1024)), .int (iI ne)]) rfl ?_
            refine tz_if_eq (tgt := 70) kx kb dX2_holes_63 (by decide) (fun h63 => ?_) (fun h63 => ?_)
            · have hhk : hkI w g P i = true := by unfold hkI; rw [← hto, h63, decide_eq_true hlb]; rfl
              refine lv_iconst (v := iI 1) kx kb dX2_holes_70 rfl ?_
              refine ti_iadd kx kb dX2_holes_71 ?_
              refine lv_istore_n (lv' := [(2, .int (iI (ne + 1))), (4, .ref q_3), (3, .int (iI (i : Int))), (1, .ref q_1), (0, .ref a)]) kx kb dX2_holes_72 rfl hl (by decide) rfl (fun ls hl => ?_)
              refine ti_iinc (a := (i : Int)) (lv' := [(3, .int (iI ((i : Int) + 1))), (2, .int (iI (ne + 1))), (4, .ref q_3), (1, .ref q_1), (0, .ref a)]) kx kb dX2_holes_73 hl (k := 2) rfl (by decide) rfl (fun ls hl => ?_)
              refine lv_goto (tgt := 12) kx kb dX2_holes_76 (by decide) ?_
              refine W.widen (k := 2 + 7 * fb_ct (snI w g P false (i + 1)) (w * g) + ((gN nd (un (rcS w g P false i))) - 1)) (n := 4 + 64 * fb_ct (snI w g P false (i + 1)) (w * g) + 2 * ((gN nd (un (rcS w g P false i))) - 1)) (by omega) (by omega) ?_
              exact ih12 (i + 1) (ne + 1) w2_6 (gN nd (un (rcS w g P false i))) (by omega) (by rw [fb_ct_succ, hhk]; simp only [if_true, Bool.false_eq_true, if_false]; omega) (hsB3) (by omega) H locs (hP.sub [0, 1, 2, 3, 4] rfl) (hD.sub [0, 1, 2, 3, 4] (by decide) rfl) hS ls (lv_sub hl [0, 1, 3, 4] rfl)
            · have hhk : hkI w g P i = false := by unfold hkI; rw [← hto, h63, Bool.not_true, Bool.and_false]
              refine lv_iconst (v := iI 0) kx kb dX2_holes_66 rfl ?_
              refine lv_goto (tgt := 71) kx kb dX2_holes_67 (by decide) ?_
              refine ti_iadd kx kb dX2_holes_71 ?_
              refine lv_istore_n (lv' := [(2, .int (iI (ne + 0))), (4, .ref q_3), (3, .int (iI (i : Int))), (1, .ref q_1), (0, .ref a)]) kx kb dX2_holes_72 rfl hl (by decide) rfl (fun ls hl => ?_)
              refine ti_iinc (a := (i : Int)) (lv' := [(3, .int (iI ((i : Int) + 1))), (2, .int (iI (ne + 0))), (4, .ref q_3), (1, .ref q_1), (0, .ref a)]) kx kb dX2_holes_73 hl (k := 2) rfl (by decide) rfl (fun ls hl => ?_)
              refine lv_goto (tgt := 12) kx kb dX2_holes_76 (by decide) ?_
              refine W.widen (k := 2 + 7 * fb_ct (snI w g P false (i + 1)) (w * g) + ((gN nd (un (rcS w g P false i))) - 1)) (n := 4 + 64 * fb_ct (snI w g P false (i + 1)) (w * g) + 2 * ((gN nd (un (rcS w g P false i))) - 1)) (by omega) (by omega) ?_
              exact ih12 (i + 1) (ne + 0) w2_6 (gN nd (un (rcS w g P false i))) (by omega) (by rw [fb_ct_succ, hhk]; simp only [if_true, Bool.false_eq_true, if_false]; omega) (hsB3) (by omega) H locs (hP.sub [0, 1, 2, 3, 4] rfl) (hD.sub [0, 1, 2, 3, 4] (by decide) rfl) hS ls (lv_sub hl [0, 1, 3, 4] rfl)
          · have hlb : lbI w g P false i ≠ (i : Int) := by intro q_; rw [decide_eq_true q_, h36] at hsa; cases hsa
            have hhk : hkI w g P i = false := by unfold hkI; rw [decide_eq_false hlb]; rfl
            have hold := snI_old (show i < w * g by omega) hlb
            have hsc : fb_ct (snI w g P false (i + 1)) (w * g) = fb_ct (snI w g P false i) (w * g) := by rw [hold]
            have hP : va_P D.1 clAll [(a, .inr (2, [.int (iI ((w : Nat) : Int)), .int (iI ((g : Nat) : Int)), .ref b])), (b, .inr (3, [.ref v, .int (iI ((un P : Nat) : Int)), .int (zI false)])), (v, .inl (D.2 2, n, .inr (.inl (wd P)))), (q_1, .inr (3, [.ref sv, .int (iI ((un (snI w g P false (i + 1)) : Nat) : Int)), .int (zI false)])), (sv, .inl (D.2 2, nd, .inr (.inl (wd (snI w g P false (i + 1))))))] H := by rw [hold]; exact hP
            have hD : va_D A [(a, .inr (2, [.int (iI ((w : Nat) : Int)), .int (iI ((g : Nat) : Int)), .ref b])), (b, .inr (3, [.ref v, .int (iI ((un P : Nat) : Int)), .int (zI false)])), (v, .inl (D.2 2, n, .inr (.inl (wd P)))), (q_1, .inr (3, [.ref sv, .int (iI ((un (snI w g P false (i + 1)) : Nat) : Int)), .int (zI false)])), (sv, .inl (D.2 2, nd, .inr (.inl (wd (snI w g P false (i + 1))))))] := by rw [hold]; exact hD
            have hsB3 := hsB
            rw [← hold] at hsB3
            refine lv_goto (tgt := 73) kx kb dX2_holes_39 (by decide) ?_
            refine ti_iinc (a := (i : Int)) (lv' := [(3, .int (iI ((i : Int) + 1))), (2, .int (iI ne)), (1, .ref q_1), (0, .ref a)]) kx kb dX2_holes_73 hl (k := 0) rfl (by decide) rfl (fun ls hl => ?_)
            refine lv_goto (tgt := 12) kx kb dX2_holes_76 (by decide) ?_
            refine W.widen (k := 2 + 7 * fb_ct (snI w g P false (i + 1)) (w * g) + (nd - 1)) (n := 4 + 64 * fb_ct (snI w g P false (i + 1)) (w * g) + 2 * (nd - 1)) (by omega) (by omega) ?_
            exact ih12 (i + 1) ne sv nd (by omega) (by rw [fb_ct_succ, hhk]; simp only [if_true, Bool.false_eq_true, if_false]; omega) (hsB3) (by omega) H locs hP hD hS ls hl
  have hP : va_P D.1 clAll [(a, .inr (2, [.int (iI ((w : Nat) : Int)), .int (iI ((g : Nat) : Int)), .ref b])), (b, .inr (3, [.ref v, .int (iI ((un P : Nat) : Int)), .int (zI false)])), (v, .inl (D.2 2, n, .inr (.inl (wd P)))), (q_1, .inr (3, [.ref w_2, .int (iI ((un (snI w g P false 0) : Nat) : Int)), .int (zI false)])), (w_2, .inl (D.2 2, 1, .inr (.inl (wd (snI w g P false 0)))))] H := by rw [snI_0]; exact hP
  have hD : va_D A [(a, .inr (2, [.int (iI ((w : Nat) : Int)), .int (iI ((g : Nat) : Int)), .ref b])), (b, .inr (3, [.ref v, .int (iI ((un P : Nat) : Int)), .int (zI false)])), (v, .inl (D.2 2, n, .inr (.inl (wd P)))), (q_1, .inr (3, [.ref w_2, .int (iI ((un (snI w g P false 0) : Nat) : Int)), .int (zI false)])), (w_2, .inl (D.2 2, 1, .inr (.inl (wd (snI w g P false 0)))))] := by rw [snI_0]; exact hD
  have hsc0 : fb_ct (snI w g P false 0) (w * g) = 0 := by rw [snI_0]; exact fb_ct_zero.mpr (fun _ _ => rfl)
  refine W.widen (k := 2 + 7 * fb_ct (snI w g P false 0) (w * g) + (1 - 1)) (n := 4 + 64 * fb_ct (snI w g P false 0) (w * g) + 2 * (1 - 1)) (by omega) (by omega) ?_
  exact cut12 ((w * g - 0) + 1) 0 0 w_2 1 (by omega) (by rfl) (hsB0) (Nat.lt_succ_self _) H locs hP hD hS ls hl
