set_option maxRecDepth 100000
set_option maxHeartbeats 4000000 in
set_option maxRecDepth 100000 in
theorem met_X3_isOpen (l : Launch) (D : TG) (E : TE) (o : Nat) (b1 : Nat) (b2 : Nat) (b3 : Nat) (b4 : Nat) (b5 : Nat) (b6 : Nat) (thr : Int) (w : Nat) (g : Nat) (ik : Nat → Bool) (st : Nat → Bool) (kp : Nat → Bool) (go : Nat → Bool) (dp : Nat → Int) (pt : Nat → Int) (v : Int) (hw : 1 ≤ w ∧ w ≤ 32) (hg : 1 ≤ g ∧ g ≤ 32) (rv : -2147483648 ≤ v ∧ v < 2147483648) (hpt : ∀ j, j < w * g → -2 < pt j ∧ pt j < 2000) : tRd l yX3_isOpen cX3_isOpen 3 (some .boolean) 1 20 [.ref o, .int (iI v)] D E [(o, .inr (0, [.int (iI thr), .ref b1, .ref b2, .ref b3, .ref b4, .ref b5, .ref b6, .int (iI (w : Int)), .int (iI (g : Int))])), (b1, .inl (D.2 0, 1024, .inl (fun x_ => zI (ik x_)))), (b2, .inl (D.2 0, 1024, .inl (fun x_ => zI (st x_)))), (b3, .inl (D.2 0, 1024, .inl (fun x_ => zI (kp x_)))), (b4, .inl (D.2 0, 1024, .inl (fun x_ => zI (go x_)))), (b5, .inl (D.2 1, 1024, .inl (fun x_ => iI (dp x_)))), (b6, .inl (D.2 1, 1024, .inl (fun x_ => iI (pt x_))))] tY0 (some (.int (zI (opn w g pt v)))) := by
  refine tu_rd (by decide +kernel) (Nat.le_of_ble_eq_true rfl) ?_
  intro p0 e0 s0 m0 below meth c0 A ls args Q hag hQ C hK hX hY hP hD hA hAe hl
  obtain ⟨kx, kb, hml, hown, hts, -⟩ := id C
  have hS : va_S A s0.heap s0.heap [] := va_S.rf
  have hl : lv_has ls 3 [(0, .ref o), (1, .int (iI v))] := hl
  have hwg := wg_le hw hg
  refine lv_iconst (v := iI 0) kx kb dX3_isOpen_0 rfl ?_
  refine lv_istore_n (lv' := [(2, .int (iI 0)), (0, .ref o), (1, .int (iI v))]) kx kb dX3_isOpen_1 rfl hl (by decide) rfl (fun ls hl => ?_)
  have cut2 : ∀ (fuel : Nat) (i : Nat), (i ≤ w * g) → (fb_ct (fun c => decide (pt c = v) && brd w g c) i = 0) → (w * g - i) < fuel → ∀ ls : Array Slot, lv_has ls 3 [(2, .int (iI (i : Int))), (0, .ref o), (1, .int (iI v))] → W p0 l e0 ({ frames := 1, cells := 0, slots := 0, locals := 20 } : Room) s0 m0 args below meth c0 s0.heap [] (0) (0) Q (F0 m0 2 ls []) := by
    intro fuel
    induction fuel with
    | zero =>
      intro i hi hn hfuel2
      exact absurd hfuel2 (Nat.not_lt_zero _)
    | succ fuel ih2 =>
      intro i hi hn hfuel2  ls hl
      have hm := md_rng i w hw.1
      refine lv_iload_n kx kb dX3_isOpen_2 rfl (lv_at hl 0 rfl) ?_
      refine lv_aload_n kx kb dX3_isOpen_3 rfl (lv_at hl 1 rfl) ?_
      refine t_callRV C (met_X3_cells l D E o b1 b2 b3 b4 b5 b6 thr w g ik st kp go dp pt (by first | assumption | omega) (by first | assumption | omega)) (cwV 0 hts (lw_V q1467 q1469 qs33 q62 q1470) rfl rfl rfl (by decide +kernel) ⟨Nat.le_of_ble_eq_true rfl, Nat.le_of_ble_eq_true rfl⟩) (va_recv hK hP (ci := 0) (q0 := 0) rfl rfl) hK hX hP hD hS hA [0, 1, 2, 3, 4, 5, 6] rfl (by decide) tYb_0 (fun _ _ _ => trivial) rfl hl.1 rfl (Nat.le_of_ble_eq_true rfl) dX3_isOpen_4 ⟨(show 0 ≤ 0 from by omega), (show 0 ≤ 0 from by omega)⟩ ?_
      refine W.eq (g2 := F0 m0 7 ls [.int (iI ((w * g : Nat) : Int)), .int (iI (i : Int))]) rfl ?_
      refine ti_icmp_ge (tgt := 76) kx kb (by omega) dX3_isOpen_7 (by decide) (fun h7 => ?_) (fun h7 => ?_)
      · refine lv_iconst (v := iI 0) kx kb dX3_isOpen_76 rfl ?_
        refine W.eq (g2 := F0 m0 77 ls [.int (zI false)]) rfl ?_
        subst hQ
        exact tr_zret C rfl (by rw [show opn w g pt v = false from by unfold opn; rw [show w * g = i from by omega, hn]; rfl]) dX3_isOpen_77
      · refine lv_aload_n kx kb dX3_isOpen_10 rfl (lv_at hl 1 rfl) ?_
        refine va_get (D := D.1) (ci := 0) (v := .ref b6) (C := RX3) (T := TX3) (N := 9) kx kb hts in_X3 hown hK hP 0 rfl rfl 6 (by decide) (hts _ q1376) (fun _ h9 => h9) rfl dX3_isOpen_11 ?_
        refine lv_iload_n kx kb dX3_isOpen_14 rfl (lv_at hl 0 rfl) ?_
        refine ta_iald C hK hP 6 rfl i (by omega) dX3_isOpen_15 ?_
        have hpi := hpt i (by omega)
        refine lv_iload_n kx kb dX3_isOpen_16 rfl (lv_at hl 2 rfl) ?_
        refine ti_icmp_ne (tgt := 70) kx kb (by omega) dX3_isOpen_17 (by decide) (fun h17 => ?_) (fun h17 => ?_)
        · refine ti_iinc (a := (i : Int)) (lv' := [(2, .int (iI ((i : Int) + 1))), (0, .ref o), (1, .int (iI v))]) kx kb dX3_isOpen_70 hl (k := 0) rfl (by decide) rfl (fun ls hl => ?_)
          refine lv_goto (tgt := 2) kx kb dX3_isOpen_73 (by decide) ?_
          exact ih2 (i + 1) (by omega) (by rw [fb_ct_succ, hn]; first | (simp [brd, h7, h17]; done) | (simp [h7] at h17; done) | (simp [h17] at h7; done)) (by omega) ls hl
        · refine lv_iload_n kx kb dX3_isOpen_20 rfl (lv_at hl 0 rfl) ?_
          refine lv_aload_n kx kb dX3_isOpen_21 rfl (lv_at hl 1 rfl) ?_
          refine va_get (D := D.1) (ci := 0) (v := .int (iI (w : Int))) (C := RX3) (T := TX3) (N := 9) kx kb hts in_X3 hown hK hP 0 rfl rfl 7 (by decide) (hts _ q1377) (fun _ h9 => h9) rfl dX3_isOpen_22 ?_
          refine ti_irem kx kb (by omega) dX3_isOpen_25 ?_
          refine ti_if_eq (tgt := 68) kx kb (by omega) dX3_isOpen_26 (by decide) (fun h26 => ?_) (fun h26 => ?_)
          · refine lv_iconst (v := iI 1) kx kb dX3_isOpen_68 rfl ?_
            refine W.eq (g2 := F0 m0 69 ls [.int (zI true)]) rfl ?_
            subst hQ
            exact tr_zret C rfl (by rw [show opn w g pt v = true from by unfold opn; exact bne_iff_ne.mpr (Nat.pos_iff_ne_zero.mp (fb_ct_pos.mpr ⟨i, by omega, by first | (simp [brd, h7, h17, h26]; done) | (simp [h7, h17] at h26; done) | (simp [h7, h26] at h17; done) | (simp [h17, h26] at h7; done)⟩))]) dX3_isOpen_69
          · refine lv_iload_n kx kb dX3_isOpen_29 rfl (lv_at hl 0 rfl) ?_
            refine lv_aload_n kx kb dX3_isOpen_30 rfl (lv_at hl 1 rfl) ?_
            refine va_get (D := D.1) (ci := 0) (v := .int (iI (w : Int))) (C := RX3) (T := TX3) (N := 9) kx kb hts in_X3 hown hK hP 0 rfl rfl 7 (by decide) (hts _ q1377) (fun _ h9 => h9) rfl dX3_isOpen_31 ?_
            refine ti_irem kx kb (by omega) dX3_isOpen_34 ?_
            refine lv_aload_n kx kb dX3_isOpen_35 rfl (lv_at hl 1 rfl) ?_
            refine va_get (D := D.1) (ci := 0) (v := .int (iI (w : Int))) (C := RX3) (T := TX3) (N := 9) kx kb hts in_X3 hown hK hP 0 rfl rfl 7 (by decide) (hts _ q1377) (fun _ h9 => h9) rfl dX3_isOpen_36 ?_
            refine lv_iconst (v := iI 1) kx kb dX3_isOpen_39 rfl ?_
            refine ti_isub kx kb dX3_isOpen_40 ?_
            refine ti_icmp_eq (tgt := 68) kx kb (by omega) dX3_isOpen_41 (by decide) (fun h41 => ?_) (fun h41 => ?_)
            · refine lv_iconst (v := iI 1) kx kb dX3_isOpen_68 rfl ?_
              refine W.eq (g2 := F0 m0 69 ls [.int (zI true)]) rfl ?_
              subst hQ
              exact tr_zret C rfl (by rw [show opn w g pt v = true from by unfold opn; exact bne_iff_ne.mpr (Nat.pos_iff_ne_zero.mp (fb_ct_pos.mpr ⟨i, by omega, by first | (simp [brd, h7, h17, h26, h41]; done) | (simp [h7, h17, h26] at h41; done) | (simp [h7, h17, h41] at h26; done) | (simp [h7, h26, h41] at h17; done) | (simp [h17, h26, h41] at h7; done)⟩))]) dX3_isOpen_69
            · refine lv_iload_n kx kb dX3_isOpen_44 rfl (lv_at hl 0 rfl) ?_
              refine lv_aload_n kx kb dX3_isOpen_45 rfl (lv_at hl 1 rfl) ?_
              refine va_get (D := D.1) (ci := 0) (v := .int (iI (w : Int))) (C := RX3) (T := TX3) (N := 9) kx kb hts in_X3 hown hK hP 0 rfl rfl 7 (by decide) (hts _ q1377) (fun _ h9 => h9) rfl dX3_isOpen_46 ?_
              refine ti_idiv kx kb (by omega) dX3_isOpen_49 ?_
              refine ti_if_eq (tgt := 68) kx kb (by omega) dX3_isOpen_50 (by decide) (fun h50 => ?_) (fun h50 => ?_)
              · refine lv_iconst (v := iI 1) kx kb dX3_isOpen_68 rfl ?_
                refine W.eq (g2 := F0 m0 69 ls [.int (zI true)]) rfl ?_
                subst hQ
                exact tr_zret C rfl (by rw [show opn w g pt v = true from by unfold opn; exact bne_iff_ne.mpr (Nat.pos_iff_ne_zero.mp (fb_ct_pos.mpr ⟨i, by omega, by first | (simp [brd, h7, h17, h26, h41, h50]; done) | (simp [h7, h17, h26, h41] at h50; done) | (simp [h7, h17, h26, h50] at h41; done) | (simp [h7, h17, h41, h50] at h26; done) | (simp [h7, h26, h41, h50] at h17; done) | (simp [h17, h26, h41, h50] at h7; done)⟩))]) dX3_isOpen_69
              · refine lv_iload_n kx kb dX3_isOpen_53 rfl (lv_at hl 0 rfl) ?_
                refine lv_aload_n kx kb dX3_isOpen_54 rfl (lv_at hl 1 rfl) ?_
                refine va_get (D := D.1) (ci := 0) (v := .int (iI (w : Int))) (C := RX3) (T := TX3) (N := 9) kx kb hts in_X3 hown hK hP 0 rfl rfl 7 (by decide) (hts _ q1377) (fun _ h9 => h9) rfl dX3_isOpen_55 ?_
                refine ti_idiv kx kb (by omega) dX3_isOpen_58 ?_
                refine lv_aload_n kx kb dX3_isOpen_59 rfl (lv_at hl 1 rfl) ?_
                refine va_get (D := D.1) (ci := 0) (v := .int (iI (g : Int))) (C := RX3) (T := TX3) (N := 9) kx kb hts in_X3 hown hK hP 0 rfl rfl 8 (by decide) (hts _ q1378) (fun _ h9 => h9) rfl dX3_isOpen_60 ?_
                refine lv_iconst (v := iI 1) kx kb dX3_isOpen_63 rfl ?_
                refine ti_isub kx kb dX3_isOpen_64 ?_
                refine ti_icmp_ne (tgt := 70) kx kb (by omega) dX3_isOpen_65 (by decide) (fun h65 => ?_) (fun h65 => ?_)
                · refine ti_iinc (a := (i : Int)) (lv' := [(2, .int (iI ((i : Int) + 1))), (0, .ref o), (1, .int (iI v))]) kx kb dX3_isOpen_70 hl (k := 0) rfl (by decide) rfl (fun ls hl => ?_)
                  refine lv_goto (tgt := 2) kx kb dX3_isOpen_73 (by decide) ?_
                  exact ih2 (i + 1) (by omega) (by rw [fb_ct_succ, hn]; first | (simp [brd, h7, h17, h26, h41, h50, h65]; done) | (simp [h7, h17, h26, h41, h50] at h65; done) | (simp [h7, h17, h26, h41, h65] at h50; done) | (simp [h7, h17, h26, h50, h65] at h41; done) | (simp [h7, h17, h41, h50, h65] at h26; done) | (simp [h7, h26, h41, h50, h65] at h17; done) | (simp [h17, h26, h41, h50, h65] at h7; done)) (by omega) ls hl
                · refine lv_iconst (v := iI 1) kx kb dX3_isOpen_68 rfl ?_
                  refine W.eq (g2 := F0 m0 69 ls [.int (zI true)]) rfl ?_
                  subst hQ
                  exact tr_zret C rfl (by rw [show opn w g pt v = true from by unfold opn; exact bne_iff_ne.mpr (Nat.pos_iff_ne_zero.mp (fb_ct_pos.mpr ⟨i, by omega, by first | (simp [brd, h7, h17, h26, h41, h50, h65]; done) | (simp [h7, h17, h26, h41, h50] at h65; done) | (simp [h7, h17, h26, h41, h65] at h50; done) | (simp [h7, h17, h26, h50, h65] at h41; done) | (simp [h7, h17, h41, h50, h65] at h26; done) | (simp [h7, h26, h41, h50, h65] at h17; done) | (simp [h17, h26, h41, h50, h65] at h7; done)⟩))]) dX3_isOpen_69
  exact cut2 ((w * g - 0) + 1) 0 (by omega) (by rfl) (Nat.lt_succ_self _) ls hl
set_option maxHeartbeats 4000000 in
set_option maxRecDepth 100000 in
theorem met_X3_allParts (l : Launch) (D : TG) (E : TE) (o : Nat) (b1 : Nat) (b2 : Nat) (b3 : Nat) (b4 : Nat) (b5 : Nat) (b6 : Nat) (thr : Int) (w : Nat) (g : Nat) (ik : Nat → Bool) (st : Nat → Bool) (kp : Nat → Bool) (go : Nat → Bool) (dp : Nat → Int) (pt : Nat → Int) (hw : 1 ≤ w ∧ w ≤ 32) (hg : 1 ≤ g ∧ g ≤ 32) : tMet l yX3_allParts cX3_allParts 3 (some .int) 3 71 (0) (0) [.ref o] D E [(o, .inr (0, [.int (iI thr), .ref b1, .ref b2, .ref b3, .ref b4, .ref b5, .ref b6, .int (iI (w : Int)), .int (iI (g : Int))])), (b1, .inl (D.2 0, 1024, .inl (fun x_ => zI (ik x_)))), (b2, .inl (D.2 0, 1024, .inl (fun x_ => zI (st x_)))), (b3, .inl (D.2 0, 1024, .inl (fun x_ => zI (kp x_)))), (b4, .inl (D.2 0, 1024, .inl (fun x_ => zI (go x_)))), (b5, .inl (D.2 1, 1024, .inl (fun x_ => iI (dp x_)))), (b6, .inl (D.2 1, 1024, .inl (fun x_ => iI (pt x_))))] tY0 (S := (Nat → Int)) (fun u_ => ∀ j_, j_ < w * g → u_ j_ = lbI w g ik true j_) (fun u_ => some (.int (iI ((prtN w g ik : Nat) : Int)))) (fun u_ => [(o, .inr (0, [.int (iI thr), .ref b1, .ref b2, .ref b3, .ref b4, .ref b5, .ref b6, .int (iI (w : Int)), .int (iI (g : Int))])), (b1, .inl (D.2 0, 1024, .inl (fun x_ => zI (ik x_)))), (b2, .inl (D.2 0, 1024, .inl (fun x_ => zI (st x_)))), (b3, .inl (D.2 0, 1024, .inl (fun x_ => zI (kp x_)))), (b4, .inl (D.2 0, 1024, .inl (fun x_ => zI (go x_)))), (b5, .inl (D.2 1, 1024, .inl (fun x_ => iI (dp x_)))), (b6, .inl (D.2 1, 1024, .inl (fun x_ => iI (u_ x_))))]) := by
  refine tu_met (by decide +kernel) (Nat.le_of_ble_eq_true rfl) ?_
  intro p0 e0 s0 m0 below meth c0 A ls args Q hag hQ C hK hX hY hP hD hA hAe hl
  obtain ⟨kx, kb, hml, hown, hts, -⟩ := id C
  have hS : va_S A s0.heap s0.heap [] := va_S.rf
  have hl : lv_has ls 3 [(0, .ref o)] := hl
  have hwg := wg_le hw hg
  refine lv_aload_n kx kb dX3_allParts_0 rfl (lv_at hl 0 rfl) ?_
  refine lv_iconst (v := iI 1) kx kb dX3_allParts_1 rfl ?_
  refine t_callV (wr := []) C (met_X3_spreads l D E o b1 b2 b3 b4 b5 b6 thr w g ik st kp go dp pt true (by first | assumption | omega) (by first | assumption | omega)) (cwV 1 hts (lw_V q1463 q1465 qs32 q62 q1466) rfl rfl rfl (by decide +kernel) ⟨Nat.le_of_ble_eq_true rfl, Nat.le_of_ble_eq_true rfl⟩) (va_recv hK hP (ci := 0) (q0 := 0) rfl rfl) hK hX hP hD hS hA [0, 1, 2, 3, 4, 5, 6] [] rfl rfl (by decide) (by decide) (by decide) tYb_0 (fun _ _ _ => trivial) rfl hl.1 rfl (Nat.le_of_ble_eq_true rfl) dX3_allParts_2 ⟨(show 0 ≤ 0 from by omega), (show 0 ≤ 0 from by omega)⟩ (fun u_ H locs hp hP hD hS => ?_)
  obtain ⟨pt2_1, rfl⟩ : ∃ z, z = u_ := ⟨_, rfl⟩
  have hc2_1 : ∀ j_, j_ < w * g → pt2_1 j_ = lbI w g ik true j_ := hp
  have hP : va_P D.1 clAll [(o, .inr (0, [.int (iI thr), .ref b1, .ref b2, .ref b3, .ref b4, .ref b5, .ref b6, .int (iI (w : Int)), .int (iI (g : Int))])), (b1, .inl (D.2 0, 1024, .inl (fun x_ => zI (ik x_)))), (b2, .inl (D.2 0, 1024, .inl (fun x_ => zI (st x_)))), (b3, .inl (D.2 0, 1024, .inl (fun x_ => zI (kp x_)))), (b4, .inl (D.2 0, 1024, .inl (fun x_ => zI (go x_)))), (b5, .inl (D.2 1, 1024, .inl (fun x_ => iI (dp x_)))), (b6, .inl (D.2 1, 1024, .inl (fun x_ => iI (pt2_1 x_))))] H := hP
  have hD : va_D A [(o, .inr (0, [.int (iI thr), .ref b1, .ref b2, .ref b3, .ref b4, .ref b5, .ref b6, .int (iI (w : Int)), .int (iI (g : Int))])), (b1, .inl (D.2 0, 1024, .inl (fun x_ => zI (ik x_)))), (b2, .inl (D.2 0, 1024, .inl (fun x_ => zI (st x_)))), (b3, .inl (D.2 0, 1024, .inl (fun x_ => zI (kp x_)))), (b4, .inl (D.2 0, 1024, .inl (fun x_ => zI (go x_)))), (b5, .inl (D.2 1, 1024, .inl (fun x_ => iI (dp x_)))), (b6, .inl (D.2 1, 1024, .inl (fun x_ => iI (pt2_1 x_))))] := hD
  refine W.eq (g2 := F0 m0 5 ls []) rfl ?_
  refine lv_iconst (v := iI 0) kx kb dX3_allParts_5 rfl ?_
  refine lv_istore_n (lv' := [(1, .int (iI 0)), (0, .ref o)]) kx kb dX3_allParts_6 rfl hl (by decide) rfl (fun ls hl => ?_)
  refine lv_iconst (v := iI 0) kx kb dX3_allParts_7 rfl ?_
  refine lv_istore_n (lv' := [(2, .int (iI 0)), (1, .int (iI 0)), (0, .ref o)]) kx kb dX3_allParts_8 rfl hl (by decide) rfl (fun ls hl => ?_)
  have cut9 : ∀ (fuel : Nat) (i : Nat) (n : Int), (i ≤ w * g) → (n = ((fb_ct (fun c => decide (lbI w g ik true c = (c : Int))) i : Nat) : Int)) → (w * g - i) < fuel → ∀ ls : Array Slot, lv_has ls 3 [(2, .int (iI (i : Int))), (1, .int (iI n)), (0, .ref o)] → W p0 l e0 ({ frames := 3, cells := 0, slots := 0, locals := 71 } : Room) s0 m0 args below meth c0 H locs (0) (0) Q (F0 m0 9 ls []) := by
    intro fuel
    induction fuel with
    | zero =>
      intro i n hi hn hfuel9
      exact absurd hfuel9 (Nat.not_lt_zero _)
    | succ fuel ih9 =>
      intro i n hi hn hfuel9  ls hl
      refine lv_iload_n kx kb dX3_allParts_9 rfl (lv_at hl 0 rfl) ?_
      refine lv_aload_n kx kb dX3_allParts_10 rfl (lv_at hl 2 rfl) ?_
      refine t_callRV C (met_X3_cells l D E o b1 b2 b3 b4 b5 b6 thr w g ik st kp go dp pt2_1 (by first | assumption | omega) (by first | assumption | omega)) (cwV 0 hts (lw_V q1467 q1469 qs33 q62 q1470) rfl rfl rfl (by decide +kernel) ⟨Nat.le_of_ble_eq_true rfl, Nat.le_of_ble_eq_true rfl⟩) (va_recv hK hP (ci := 0) (q0 := 0) rfl rfl) hK hX hP hD hS hA [0, 1, 2, 3, 4, 5, 6] rfl (by decide) tYb_0 (fun _ _ _ => trivial) rfl hl.1 rfl (Nat.le_of_ble_eq_true rfl) dX3_allParts_11 ⟨(show 0 ≤ 0 from by omega), (show 0 ≤ 0 from by omega)⟩ ?_
      refine W.eq (g2 := F0 m0 14 ls [.int (iI ((w * g : Nat) : Int)), .int (iI (i : Int))]) rfl ?_
      refine ti_icmp_ge (tgt := 41) kx kb (by omega) dX3_allParts_14 (by decide) (fun h14 => ?_) (fun h14 => ?_)
      · refine lv_iload_n kx kb dX3_allParts_41 rfl (lv_at hl 1 rfl) ?_
        subst hQ
        exact tm_iret C pt2_1 (by first | rfl | assumption) hP hD hS (show 0 ≤ 0 from by omega) (show 0 ≤ 0 from by omega) (by rw [hn, show i = w * g from by omega]; rfl) rfl dX3_allParts_42
      · refine lv_iload_n kx kb dX3_allParts_17 rfl (lv_at hl 1 rfl) ?_
        refine lv_aload_n kx kb dX3_allParts_18 rfl (lv_at hl 2 rfl) ?_
        refine va_get (D := D.1) (ci := 0) (v := .ref b6) (C := RX3) (T := TX3) (N := 9) kx kb hts in_X3 hown hK hP 0 rfl rfl 6 (by decide) (hts _ q1376) (fun _ h9 => h9) rfl dX3_allParts_19 ?_
        refine lv_iload_n kx kb dX3_allParts_22 rfl (lv_at hl 0 rfl) ?_
        refine ta_iald C hK hP 6 rfl i (by omega) dX3_allParts_23 ?_
        have hpi := hc2_1 i (by omega)
        have hrl := lbI_rng (ik := ik) (b := true) (show i < w * g by omega)
        rw [← hpi] at hrl
        refine lv_iload_n kx kb dX3_allParts_24 rfl (lv_at hl 0 rfl) ?_
        refine ti_icmp_ne (tgt := 32) kx kb (by omega) dX3_allParts_25 (by decide) (fun h25 => ?_) (fun h25 => ?_)
        · refine lv_iconst (v := iI 0) kx kb dX3_allParts_32 rfl ?_
          refine ti_iadd kx kb dX3_allParts_33 ?_
          refine lv_istore_n (lv' := [(1, .int (iI (n + 0))), (2, .int (iI (i : Int))), (0, .ref o)]) kx kb dX3_allParts_34 rfl hl (by decide) rfl (fun ls hl => ?_)
          refine ti_iinc (a := (i : Int)) (lv' := [(2, .int (iI ((i : Int) + 1))), (1, .int (iI (n + 0))), (0, .ref o)]) kx kb dX3_allParts_35 hl (k := 1) rfl (by decide) rfl (fun ls hl => ?_)
          refine lv_goto (tgt := 9) kx kb dX3_allParts_38 (by decide) ?_
          exact ih9 (i + 1) (n + 0) (by omega) (by simp [fb_ct_succ, ← hpi, h25, hn]) (by omega) ls hl
        · refine lv_iconst (v := iI 1) kx kb dX3_allParts_28 rfl ?_
          refine lv_goto (tgt := 33) kx kb dX3_allParts_29 (by decide) ?_
          refine ti_iadd kx kb dX3_allParts_33 ?_
          refine lv_istore_n (lv' := [(1, .int (iI (n + 1))), (2, .int (iI (i : Int))), (0, .ref o)]) kx kb dX3_allParts_34 rfl hl (by decide) rfl (fun ls hl => ?_)
          refine ti_iinc (a := (i : Int)) (lv' := [(2, .int (iI ((i : Int) + 1))), (1, .int (iI (n + 1))), (0, .ref o)]) kx kb dX3_allParts_35 hl (k := 1) rfl (by decide) rfl (fun ls hl => ?_)
          refine lv_goto (tgt := 9) kx kb dX3_allParts_38 (by decide) ?_
          exact ih9 (i + 1) (n + 1) (by omega) (by simp [fb_ct_succ, ← hpi, h25, hn]) (by omega) ls hl
  exact cut9 ((w * g - 0) + 1) 0 0 (by omega) (by rfl) (Nat.lt_succ_self _) ls hl
set_option maxHeartbeats 4000000 in
set_option maxRecDepth 100000 in
theorem met_X3_allHoles (l : Launch) (D : TG) (E : TE) (o : Nat) (b1 : Nat) (b2 : Nat) (b3 : Nat) (b4 : Nat) (b5 : Nat) (b6 : Nat) (thr : Int) (w : Nat) (g : Nat) (ik : Nat → Bool) (st : Nat → Bool) (kp : Nat → Bool) (go : Nat → Bool) (dp : Nat → Int) (pt : Nat → Int) (hw : 1 ≤ w ∧ w ≤ 32) (hg : 1 ≤ g ∧ g ≤ 32) : tMet l yX3_allHoles cX3_allHoles 3 (some .int) 3 71 (0) (0) [.ref o] D E [(o, .inr (0, [.int (iI thr), .ref b1, .ref b2, .ref b3, .ref b4, .ref b5, .ref b6, .int (iI (w : Int)), .int (iI (g : Int))])), (b1, .inl (D.2 0, 1024, .inl (fun x_ => zI (ik x_)))), (b2, .inl (D.2 0, 1024, .inl (fun x_ => zI (st x_)))), (b3, .inl (D.2 0, 1024, .inl (fun x_ => zI (kp x_)))), (b4, .inl (D.2 0, 1024, .inl (fun x_ => zI (go x_)))), (b5, .inl (D.2 1, 1024, .inl (fun x_ => iI (dp x_)))), (b6, .inl (D.2 1, 1024, .inl (fun x_ => iI (pt x_))))] tY0 (S := (Nat → Int)) (fun u_ => True) (fun u_ => some (.int (iI ((holN w g ik : Nat) : Int)))) (fun u_ => [(o, .inr (0, [.int (iI thr), .ref b1, .ref b2, .ref b3, .ref b4, .ref b5, .ref b6, .int (iI (w : Int)), .int (iI (g : Int))])), (b1, .inl (D.2 0, 1024, .inl (fun x_ => zI (ik x_)))), (b2, .inl (D.2 0, 1024, .inl (fun x_ => zI (st x_)))), (b3, .inl (D.2 0, 1024, .inl (fun x_ => zI (kp x_)))), (b4, .inl (D.2 0, 1024, .inl (fun x_ => zI (go x_)))), (b5, .inl (D.2 1, 1024, .inl (fun x_ => iI (dp x_)))), (b6, .inl (D.2 1, 1024, .inl (fun x_ => iI (u_ x_))))]) := by
  refine tu_met (by decide +kernel) (Nat.le_of_ble_eq_true rfl) ?_
  intro p0 e0 s0 m0 below meth c0 A ls args Q hag hQ C hK hX hY hP hD hA hAe hl
  obtain ⟨kx, kb, hml, hown, hts, -⟩ := id C
  have hS : va_S A s0.heap s0.heap [] := va_S.rf
  have hl : lv_has ls 3 [(0, .ref o)] := hl
  have hwg := wg_le hw hg
  refine lv_aload_n kx kb dX3_allHoles_0 rfl (lv_at hl 0 rfl) ?_
  refine lv_iconst (v := iI 0) kx kb dX3_allHoles_1 rfl ?_
  refine t_callV (wr := []) C (met_X3_spreads l D E o b1 b2 b3 b4 b5 b6 thr w g ik st kp go dp pt false (by first | assumption | omega) (by first | assumption | omega)) (cwV 1 hts (lw_V q1463 q1465 qs32 q62 q1466) rfl rfl rfl (by decide +kernel) ⟨Nat.le_of_ble_eq_true rfl, Nat.le_of_ble_eq_true rfl⟩) (va_recv hK hP (ci := 0) (q0 := 0) rfl rfl) hK hX hP hD hS hA [0, 1, 2, 3, 4, 5, 6] [] rfl rfl (by decide) (by decide) (by decide) tYb_0 (fun _ _ _ => trivial) rfl hl.1 rfl (Nat.le_of_ble_eq_true rfl) dX3_allHoles_2 ⟨(show 0 ≤ 0 from by omega), (show 0 ≤ 0 from by omega)⟩ (fun u_ H locs hp hP hD hS => ?_)
  obtain ⟨pt2_1, rfl⟩ : ∃ z, z = u_ := ⟨_, rfl⟩
  have hc2_1 : ∀ j_, j_ < w * g → pt2_1 j_ = lbI w g ik false j_ := hp
  have hP : va_P D.1 clAll [(o, .inr (0, [.int (iI thr), .ref b1, .ref b2, .ref b3, .ref b4, .ref b5, .ref b6, .int (iI (w : Int)), .int (iI (g : Int))])), (b1, .inl (D.2 0, 1024, .inl (fun x_ => zI (ik x_)))), (b2, .inl (D.2 0, 1024, .inl (fun x_ => zI (st x_)))), (b3, .inl (D.2 0, 1024, .inl (fun x_ => zI (kp x_)))), (b4, .inl (D.2 0, 1024, .inl (fun x_ => zI (go x_)))), (b5, .inl (D.2 1, 1024, .inl (fun x_ => iI (dp x_)))), (b6, .inl (D.2 1, 1024, .inl (fun x_ => iI (pt2_1 x_))))] H := hP
  have hD : va_D A [(o, .inr (0, [.int (iI thr), .ref b1, .ref b2, .ref b3, .ref b4, .ref b5, .ref b6, .int (iI (w : Int)), .int (iI (g : Int))])), (b1, .inl (D.2 0, 1024, .inl (fun x_ => zI (ik x_)))), (b2, .inl (D.2 0, 1024, .inl (fun x_ => zI (st x_)))), (b3, .inl (D.2 0, 1024, .inl (fun x_ => zI (kp x_)))), (b4, .inl (D.2 0, 1024, .inl (fun x_ => zI (go x_)))), (b5, .inl (D.2 1, 1024, .inl (fun x_ => iI (dp x_)))), (b6, .inl (D.2 1, 1024, .inl (fun x_ => iI (pt2_1 x_))))] := hD
  refine W.eq (g2 := F0 m0 5 ls []) rfl ?_
  refine lv_iconst (v := iI 0) kx kb dX3_allHoles_5 rfl ?_
  refine lv_istore_n (lv' := [(1, .int (iI 0)), (0, .ref o)]) kx kb dX3_allHoles_6 rfl hl (by decide) rfl (fun ls hl => ?_)
  refine lv_iconst (v := iI 0) kx kb dX3_allHoles_7 rfl ?_
  refine lv_istore_n (lv' := [(2, .int (iI 0)), (1, .int (iI 0)), (0, .ref o)]) kx kb dX3_allHoles_8 rfl hl (by decide) rfl (fun ls hl => ?_)
  have cut9 : ∀ (fuel : Nat) (i : Nat) (n : Int), (i ≤ w * g) → (n = ((fb_ct (fun c => decide (lbI w g ik false c = (c : Int)) && !opn w g (lbI w g ik false) (c : Int)) i : Nat) : Int)) → (w * g - i) < fuel → ∀ ls : Array Slot, lv_has ls 3 [(2, .int (iI (i : Int))), (1, .int (iI n)), (0, .ref o)] → W p0 l e0 ({ frames := 3, cells := 0, slots := 0, locals := 71 } : Room) s0 m0 args below meth c0 H locs (0) (0) Q (F0 m0 9 ls []) := by
    intro fuel
    induction fuel with
    | zero =>
      intro i n hi hn hfuel9
      exact absurd hfuel9 (Nat.not_lt_zero _)
    | succ fuel ih9 =>
      intro i n hi hn hfuel9  ls hl
      refine lv_iload_n kx kb dX3_allHoles_9 rfl (lv_at hl 0 rfl) ?_
      refine lv_aload_n kx kb dX3_allHoles_10 rfl (lv_at hl 2 rfl) ?_
      refine t_callRV C (met_X3_cells l D E o b1 b2 b3 b4 b5 b6 thr w g ik st kp go dp pt2_1 (by first | assumption | omega) (by first | assumption | omega)) (cwV 0 hts (lw_V q1467 q1469 qs33 q62 q1470) rfl rfl rfl (by decide +kernel) ⟨Nat.le_of_ble_eq_true rfl, Nat.le_of_ble_eq_true rfl⟩) (va_recv hK hP (ci := 0) (q0 := 0) rfl rfl) hK hX hP hD hS hA [0, 1, 2, 3, 4, 5, 6] rfl (by decide) tYb_0 (fun _ _ _ => trivial) rfl hl.1 rfl (Nat.le_of_ble_eq_true rfl) dX3_allHoles_11 ⟨(show 0 ≤ 0 from by omega), (show 0 ≤ 0 from by omega)⟩ ?_
      refine W.eq (g2 := F0 m0 14 ls [.int (iI ((w * g : Nat) : Int)), .int (iI (i : Int))]) rfl ?_
      refine ti_icmp_ge (tgt := 49) kx kb (by omega) dX3_allHoles_14 (by decide) (fun h14 => ?_) (fun h14 => ?_)
      · refine lv_iload_n kx kb dX3_allHoles_49 rfl (lv_at hl 1 rfl) ?_
        subst hQ
        exact tm_iret C pt2_1 trivial hP hD hS (show 0 ≤ 0 from by omega) (show 0 ≤ 0 from by omega) (by rw [hn, show i = w * g from by omega]; rfl) rfl dX3_allHoles_50
      · refine lv_iload_n kx kb dX3_allHoles_17 rfl (lv_at hl 1 rfl) ?_
        refine lv_aload_n kx kb dX3_allHoles_18 rfl (lv_at hl 2 rfl) ?_
        refine va_get (D := D.1) (ci := 0) (v := .ref b6) (C := RX3) (T := TX3) (N := 9) kx kb hts in_X3 hown hK hP 0 rfl rfl 6 (by decide) (hts _ q1376) (fun _ h9 => h9) rfl dX3_allHoles_19 ?_
        refine lv_iload_n kx kb dX3_allHoles_22 rfl (lv_at hl 0 rfl) ?_
        refine ta_iald C hK hP 6 rfl i (by omega) dX3_allHoles_23 ?_
        have hpi := hc2_1 i (by omega)
        have hrl := lbI_rng (ik := ik) (b := false) (show i < w * g by omega)
        rw [← hpi] at hrl
        refine lv_iload_n kx kb dX3_allHoles_24 rfl (lv_at hl 0 rfl) ?_
        refine ti_icmp_ne (tgt := 40) kx kb (by omega) dX3_allHoles_25 (by decide) (fun h25 => ?_) (fun h25 => ?_)
        · refine lv_iconst (v := iI 0) kx kb dX3_allHoles_40 rfl ?_
          refine ti_iadd kx kb dX3_allHoles_41 ?_
          refine lv_istore_n (lv' := [(1, .int (iI (n + 0))), (2, .int (iI (i : Int))), (0, .ref o)]) kx kb dX3_allHoles_42 rfl hl (by decide) rfl (fun ls hl => ?_)
          refine ti_iinc (a := (i : Int)) (lv' := [(2, .int (iI ((i : Int) + 1))), (1, .int (iI (n + 0))), (0, .ref o)]) kx kb dX3_allHoles_43 hl (k := 1) rfl (by decide) rfl (fun ls hl => ?_)
          refine lv_goto (tgt := 9) kx kb dX3_allHoles_46 (by decide) ?_
          exact ih9 (i + 1) (n + 0) (by omega) (by simp [fb_ct_succ, ← hpi, h25, hn]) (by omega) ls hl
        · refine lv_aload_n kx kb dX3_allHoles_28 rfl (lv_at hl 2 rfl) ?_
          refine lv_iload_n kx kb dX3_allHoles_29 rfl (lv_at hl 0 rfl) ?_
          have hop := opn_cong (v := (i : Int)) hc2_1
          refine t_callRV C (met_X3_isOpen l D E o b1 b2 b3 b4 b5 b6 thr w g ik st kp go dp pt2_1 (i : Int) (by first | assumption | omega) (by first | assumption | omega) (by first | assumption | omega) (fun j hj => by have := hc2_1 j hj; have := lbI_rng (ik := ik) (b := false) hj; omega)) (cwV 1 hts (lw_V q1630 q1632 qs54 q62 q1633) rfl rfl rfl (by decide +kernel) ⟨Nat.le_of_ble_eq_true rfl, Nat.le_of_ble_eq_true rfl⟩) (va_recv hK hP (ci := 0) (q0 := 0) rfl rfl) hK hX hP hD hS hA [0, 1, 2, 3, 4, 5, 6] rfl (by decide) tYb_0 (fun _ _ _ => trivial) rfl hl.1 rfl (Nat.le_of_ble_eq_true rfl) dX3_allHoles_30 ⟨(show 0 ≤ 0 from by omega), (show 0 ≤ 0 from by omega)⟩ ?_
          refine W.eq (g2 := F0 m0 33 ls [.int (zI (opn w g pt2_1 (i : Int))), .int (iI n)]) rfl ?_
          refine tz_if_ne (tgt := 40) kx kb dX3_allHoles_33 (by decide) (fun h33 => ?_) (fun h33 => ?_)
          · refine lv_iconst (v := iI 0) kx kb dX3_allHoles_40 rfl ?_
            refine ti_iadd kx kb dX3_allHoles_41 ?_
            refine lv_istore_n (lv' := [(1, .int (iI (n + 0))), (2, .int (iI (i : Int))), (0, .ref o)]) kx kb dX3_allHoles_42 rfl hl (by decide) rfl (fun ls hl => ?_)
            refine ti_iinc (a := (i : Int)) (lv' := [(2, .int (iI ((i : Int) + 1))), (1, .int (iI (n + 0))), (0, .ref o)]) kx kb dX3_allHoles_43 hl (k := 1) rfl (by decide) rfl (fun ls hl => ?_)
            refine lv_goto (tgt := 9) kx kb dX3_allHoles_46 (by decide) ?_
            exact ih9 (i + 1) (n + 0) (by omega) (by simp [fb_ct_succ, ← hpi, h25, hn, ← hop, h33]) (by omega) ls hl
          · refine lv_iconst (v := iI 1) kx kb dX3_allHoles_36 rfl ?_
            refine lv_goto (tgt := 41) kx kb dX3_allHoles_37 (by decide) ?_
            refine ti_iadd kx kb dX3_allHoles_41 ?_
            refine lv_istore_n (lv' := [(1, .int (iI (n + 1))), (2, .int (iI (i : Int))), (0, .ref o)]) kx kb dX3_allHoles_42 rfl hl (by decide) rfl (fun ls hl => ?_)
            refine ti_iinc (a := (i : Int)) (lv' := [(2, .int (iI ((i : Int) + 1))), (1, .int (iI (n + 1))), (0, .ref o)]) kx kb dX3_allHoles_43 hl (k := 1) rfl (by decide) rfl (fun ls hl => ?_)
            refine lv_goto (tgt := 9) kx kb dX3_allHoles_46 (by decide) ?_
            exact ih9 (i + 1) (n + 1) (by omega) (by simp [fb_ct_succ, ← hpi, h25, hn, ← hop, h33]) (by omega) ls hl
  exact cut9 ((w * g - 0) + 1) 0 0 (by omega) (by rfl) (Nat.lt_succ_self _) ls hl
set_option maxHeartbeats 4000000 in
set_option maxRecDepth 100000 in
theorem met_X3_parts (l : Launch) (D : TG) (E : TE) (o : Nat) (b1 : Nat) (b2 : Nat) (b3 : Nat) (b4 : Nat) (b5 : Nat) (b6 : Nat) (thr : Int) (w : Nat) (g : Nat) (ik : Nat → Bool) (st : Nat → Bool) (kp : Nat → Bool) (go : Nat → Bool) (dp : Nat → Int) (pt : Nat → Int) (hw : 1 ≤ w ∧ w ≤ 32) (hg : 1 ≤ g ∧ g ≤ 32) : tMet l yX3_parts cX3_parts 1 (some .int) 4 93 (0) (0) [.ref o] D E [(o, .inr (0, [.int (iI thr), .ref b1, .ref b2, .ref b3, .ref b4, .ref b5, .ref b6, .int (iI (w : Int)), .int (iI (g : Int))])), (b1, .inl (D.2 0, 1024, .inl (fun x_ => zI (ik x_)))), (b2, .inl (D.2 0, 1024, .inl (fun x_ => zI (st x_)))), (b3, .inl (D.2 0, 1024, .inl (fun x_ => zI (kp x_)))), (b4, .inl (D.2 0, 1024, .inl (fun x_ => zI (go x_)))), (b5, .inl (D.2 1, 1024, .inl (fun x_ => iI (dp x_)))), (b6, .inl (D.2 1, 1024, .inl (fun x_ => iI (pt x_))))] tY0 (S := (Nat → Int)) (fun u_ => True) (fun u_ => some (.int (iI ((prtN w g ik : Nat) : Int)))) (fun u_ => [(o, .inr (0, [.int (iI 0), .ref b1, .ref b2, .ref b3, .ref b4, .ref b5, .ref b6, .int (iI (w : Int)), .int (iI (g : Int))])), (b1, .inl (D.2 0, 1024, .inl (fun x_ => zI (ik x_)))), (b2, .inl (D.2 0, 1024, .inl (fun x_ => zI (st x_)))), (b3, .inl (D.2 0, 1024, .inl (fun x_ => zI (kp x_)))), (b4, .inl (D.2 0, 1024, .inl (fun x_ => zI (go x_)))), (b5, .inl (D.2 1, 1024, .inl (fun x_ => iI (dp x_)))), (b6, .inl (D.2 1, 1024, .inl (fun x_ => iI (u_ x_))))]) := by
  refine tu_met (by decide +kernel) (Nat.le_of_ble_eq_true rfl) ?_
  intro p0 e0 s0 m0 below meth c0 A ls args Q hag hQ C hK hX hY hP hD hA hAe hl
  obtain ⟨kx, kb, hml, hown, hts, -⟩ := id C
  have hS : va_S A s0.heap s0.heap [] := va_S.rf
  have hl : lv_has ls 1 [(0, .ref o)] := hl
  have hwg := wg_le hw hg
  refine lv_aload_n kx kb dX3_parts_0 rfl (lv_at hl 0 rfl) ?_
  refine lv_aload_n kx kb dX3_parts_1 rfl (lv_at hl 0 rfl) ?_
  refine t_callV (wr := []) C (met_X3_allParts l D E o b1 b2 b3 b4 b5 b6 thr w g ik st kp go dp pt (by first | assumption | omega) (by first | assumption | omega)) (cwV 0 hts (lw_V q1602 q1604 qs50 q62 q1605) rfl rfl rfl (by decide +kernel) ⟨Nat.le_of_ble_eq_true rfl, Nat.le_of_ble_eq_true rfl⟩) (va_recv hK hP (ci := 0) (q0 := 0) rfl rfl) hK hX hP hD hS hA [0, 1, 2, 3, 4, 5, 6] [] rfl rfl (by decide) (by decide) (by decide) tYb_0 (fun _ _ _ => trivial) rfl hl.1 rfl (Nat.le_of_ble_eq_true rfl) dX3_parts_2 ⟨(show 0 ≤ 0 from by omega), (show 0 ≤ 0 from by omega)⟩ (fun u_ H locs hp hP hD hS => ?_)
  obtain ⟨pt2_1, rfl⟩ : ∃ z, z = u_ := ⟨_, rfl⟩
  have hc2_1 : ∀ j_, j_ < w * g → pt2_1 j_ = lbI w g ik true j_ := hp
  have hP : va_P D.1 clAll [(o, .inr (0, [.int (iI thr), .ref b1, .ref b2, .ref b3, .ref b4, .ref b5, .ref b6, .int (iI (w : Int)), .int (iI (g : Int))])), (b1, .inl (D.2 0, 1024, .inl (fun x_ => zI (ik x_)))), (b2, .inl (D.2 0, 1024, .inl (fun x_ => zI (st x_)))), (b3, .inl (D.2 0, 1024, .inl (fun x_ => zI (kp x_)))), (b4, .inl (D.2 0, 1024, .inl (fun x_ => zI (go x_)))), (b5, .inl (D.2 1, 1024, .inl (fun x_ => iI (dp x_)))), (b6, .inl (D.2 1, 1024, .inl (fun x_ => iI (pt2_1 x_))))] H := hP
  have hD : va_D A [(o, .inr (0, [.int (iI thr), .ref b1, .ref b2, .ref b3, .ref b4, .ref b5, .ref b6, .int (iI (w : Int)), .int (iI (g : Int))])), (b1, .inl (D.2 0, 1024, .inl (fun x_ => zI (ik x_)))), (b2, .inl (D.2 0, 1024, .inl (fun x_ => zI (st x_)))), (b3, .inl (D.2 0, 1024, .inl (fun x_ => zI (kp x_)))), (b4, .inl (D.2 0, 1024, .inl (fun x_ => zI (go x_)))), (b5, .inl (D.2 1, 1024, .inl (fun x_ => iI (dp x_)))), (b6, .inl (D.2 1, 1024, .inl (fun x_ => iI (pt2_1 x_))))] := hD
  refine W.eq (g2 := F0 m0 5 ls [.int (iI ((prtN w g ik : Nat) : Int)), .ref o]) rfl ?_
  refine t_callV (wr := []) C (met_X3_toldOf l D E o b1 b2 b3 b4 b5 b6 thr w g ik st kp go dp pt2_1 ((prtN w g ik : Nat) : Int) (by first | assumption | omega) (by first | assumption | omega)) (cwV 1 hts (lw_V q1525 q1527 qs42 q62 q1528) rfl rfl rfl (by decide +kernel) ⟨Nat.le_of_ble_eq_true rfl, Nat.le_of_ble_eq_true rfl⟩) (va_recv hK hP (ci := 0) (q0 := 0) rfl rfl) hK hX hP hD hS hA [0, 1, 2, 3, 4, 5, 6] [] rfl rfl (by decide) (by decide) (by decide) tYb_0 (fun _ _ _ => trivial) rfl hl.1 rfl (Nat.le_of_ble_eq_true rfl) dX3_parts_5 ⟨(show 0 ≤ 0 from by omega), (show 0 ≤ 0 from by omega)⟩ (fun u_ H locs hp hP hD hS => ?_)
  have hP : va_P D.1 clAll [(o, .inr (0, [.int (iI 0), .ref b1, .ref b2, .ref b3, .ref b4, .ref b5, .ref b6, .int (iI (w : Int)), .int (iI (g : Int))])), (b1, .inl (D.2 0, 1024, .inl (fun x_ => zI (ik x_)))), (b2, .inl (D.2 0, 1024, .inl (fun x_ => zI (st x_)))), (b3, .inl (D.2 0, 1024, .inl (fun x_ => zI (kp x_)))), (b4, .inl (D.2 0, 1024, .inl (fun x_ => zI (go x_)))), (b5, .inl (D.2 1, 1024, .inl (fun x_ => iI (dp x_)))), (b6, .inl (D.2 1, 1024, .inl (fun x_ => iI (pt2_1 x_))))] H := hP
  have hD : va_D A [(o, .inr (0, [.int (iI 0), .ref b1, .ref b2, .ref b3, .ref b4, .ref b5, .ref b6, .int (iI (w : Int)), .int (iI (g : Int))])), (b1, .inl (D.2 0, 1024, .inl (fun x_ => zI (ik x_)))), (b2, .inl (D.2 0, 1024, .inl (fun x_ => zI (st x_)))), (b3, .inl (D.2 0, 1024, .inl (fun x_ => zI (kp x_)))), (b4, .inl (D.2 0, 1024, .inl (fun x_ => zI (go x_)))), (b5, .inl (D.2 1, 1024, .inl (fun x_ => iI (dp x_)))), (b6, .inl (D.2 1, 1024, .inl (fun x_ => iI (pt2_1 x_))))] := hD
  refine W.eq (g2 := F0 m0 8 ls [.int (iI ((prtN w g ik : Nat) : Int))]) rfl ?_
  subst hQ
  exact tm_iret C pt2_1 trivial hP hD hS (show 0 ≤ 0 from by omega) (show 0 ≤ 0 from by omega) rfl rfl dX3_parts_8
set_option maxHeartbeats 4000000 in
set_option maxRecDepth 100000 in
theorem met_X3_holes (l : Launch) (D : TG) (E : TE) (o : Nat) (b1 : Nat) (b2 : Nat) (b3 : Nat) (b4 : Nat) (b5 : Nat) (b6 : Nat) (thr : Int) (w : Nat) (g : Nat) (ik : Nat → Bool) (st : Nat → Bool) (kp : Nat → Bool) (go : Nat → Bool) (dp : Nat → Int) (pt : Nat → Int) (hw : 1 ≤ w ∧ w ≤ 32) (hg : 1 ≤ g ∧ g ≤ 32) : tMet l yX3_holes cX3_holes 1 (some .int) 4 93 (0) (0) [.ref o] D E [(o, .inr (0, [.int (iI thr), .ref b1, .ref b2, .ref b3, .ref b4, .ref b5, .ref b6, .int (iI (w : Int)), .int (iI (g : Int))])), (b1, .inl (D.2 0, 1024, .inl (fun x_ => zI (ik x_)))), (b2, .inl (D.2 0, 1024, .inl (fun x_ => zI (st x_)))), (b3, .inl (D.2 0, 1024, .inl (fun x_ => zI (kp x_)))), (b4, .inl (D.2 0, 1024, .inl (fun x_ => zI (go x_)))), (b5, .inl (D.2 1, 1024, .inl (fun x_ => iI (dp x_)))), (b6, .inl (D.2 1, 1024, .inl (fun x_ => iI (pt x_))))] tY0 (S := (Nat → Int)) (fun u_ => True) (fun u_ => some (.int (iI ((holN w g ik : Nat) : Int)))) (fun u_ => [(o, .inr (0, [.int (iI 0), .ref b1, .ref b2, .ref b3, .ref b4, .ref b5, .ref b6, .int (iI (w : Int)), .int (iI (g : Int))])), (b1, .inl (D.2 0, 1024, .inl (fun x_ => zI (ik x_)))), (b2, .inl (D.2 0, 1024, .inl (fun x_ => zI (st x_)))), (b3, .inl (D.2 0, 1024, .inl (fun x_ => zI (kp x_)))), (b4, .inl (D.2 0, 1024, .inl (fun x_ => zI (go x_)))), (b5, .inl (D.2 1, 1024, .inl (fun x_ => iI (dp x_)))), (b6, .inl (D.2 1, 1024, .inl (fun x_ => iI (u_ x_))))]) := by
  refine tu_met (by decide +kernel) (Nat.le_of_ble_eq_true rfl) ?_
  intro p0 e0 s0 m0 below meth c0 A ls args Q hag hQ C hK hX hY hP hD hA hAe hl
  obtain ⟨kx, kb, hml, hown, hts, -⟩ := id C
  have hS : va_S A s0.heap s0.heap [] := va_S.rf
  have hl : lv_has ls 1 [(0, .ref o)] := hl
  have hwg := wg_le hw hg
  refine lv_aload_n kx kb dX3_holes_0 rfl (lv_at hl 0 rfl) ?_
  refine lv_aload_n kx kb dX3_holes_1 rfl (lv_at hl 0 rfl) ?_
  refine t_callV (wr := []) C (met_X3_allHoles l D E o b1 b2 b3 b4 b5 b6 thr w g ik st kp go dp pt (by first | assumption | omega) (by first | assumption | omega)) (cwV 0 hts (lw_V q1626 q1628 qs53 q62 q1629) rfl rfl rfl (by decide +kernel) ⟨Nat.le_of_ble_eq_true rfl, Nat.le_of_ble_eq_true rfl⟩) (va_recv hK hP (ci := 0) (q0 := 0) rfl rfl) hK hX hP hD hS hA [0, 1, 2, 3, 4, 5, 6] [] rfl rfl (by decide) (by decide) (by decide) tYb_0 (fun _ _ _ => trivial) rfl hl.1 rfl (Nat.le_of_ble_eq_true rfl) dX3_holes_2 ⟨(show 0 ≤ 0 from by omega), (show 0 ≤ 0 from by omega)⟩ (fun u_ H locs hp hP hD hS => ?_)
  obtain ⟨pt2_1, rfl⟩ : ∃ z, z = u_ := ⟨_, rfl⟩
  have hP : va_P D.1 clAll [(o, .inr (0, [.int (iI thr), .ref b1, .ref b2, .ref b3, .ref b4, .ref b5, .ref b6, .int (iI (w : Int)), .int (iI (g : Int))])), (b1, .inl (D.2 0, 1024, .inl (fun x_ => zI (ik x_)))), (b2, .inl (D.2 0, 1024, .inl (fun x_ => zI (st x_)))), (b3, .inl (D.2 0, 1024, .inl (fun x_ => zI (kp x_)))), (b4, .inl (D.2 0, 1024, .inl (fun x_ => zI (go x_)))), (b5, .inl (D.2 1, 1024, .inl (fun x_ => iI (dp x_)))), (b6, .inl (D.2 1, 1024, .inl (fun x_ => iI (pt2_1 x_))))] H := hP
  have hD : va_D A [(o, .inr (0, [.int (iI thr), .ref b1, .ref b2, .ref b3, .ref b4, .ref b5, .ref b6, .int (iI (w : Int)), .int (iI (g : Int))])), (b1, .inl (D.2 0, 1024, .inl (fun x_ => zI (ik x_)))), (b2, .inl (D.2 0, 1024, .inl (fun x_ => zI (st x_)))), (b3, .inl (D.2 0, 1024, .inl (fun x_ => zI (kp x_)))), (b4, .inl (D.2 0, 1024, .inl (fun x_ => zI (go x_)))), (b5, .inl (D.2 1, 1024, .inl (fun x_ => iI (dp x_)))), (b6, .inl (D.2 1, 1024, .inl (fun x_ => iI (pt2_1 x_))))] := hD
  refine W.eq (g2 := F0 m0 5 ls [.int (iI ((holN w g ik : Nat) : Int)), .ref o]) rfl ?_
  refine t_callV (wr := []) C (met_X3_toldOf l D E o b1 b2 b3 b4 b5 b6 thr w g ik st kp go dp pt2_1 ((holN w g ik : Nat) : Int) (by first | assumption | omega) (by first | assumption | omega)) (cwV 1 hts (lw_V q1525 q1527 qs42 q62 q1528) rfl rfl rfl (by decide +kernel) ⟨Nat.le_of_ble_eq_true rfl, Nat.le_of_ble_eq_true rfl⟩) (va_recv hK hP (ci := 0) (q0 := 0) rfl rfl) hK hX hP hD hS hA [0, 1, 2, 3, 4, 5, 6] [] rfl rfl (by decide) (by decide) (by decide) tYb_0 (fun _ _ _ => trivial) rfl hl.1 rfl (Nat.le_of_ble_eq_true rfl) dX3_holes_5 ⟨(show 0 ≤ 0 from by omega), (show 0 ≤ 0 from by omega)⟩ (fun u_ H locs hp hP hD hS => ?_)
  have hP : va_P D.1 clAll [(o, .inr (0, [.int (iI 0), .ref b1, .ref b2, .ref b3, .ref b4, .ref b5, .ref b6, .int (iI (w : Int)), .int (iI (g : Int))])), (b1, .inl (D.2 0, 1024, .inl (fun x_ => zI (ik x_)))), (b2, .inl (D.2 0, 1024, .inl (fun x_ => zI (st x_)))), (b3, .inl (D.2 0, 1024, .inl (fun x_ => zI (kp x_)))), (b4, .inl (D.2 0, 1024, .inl (fun x_ => zI (go x_)))), (b5, .inl (D.2 1, 1024, .inl (fun x_ => iI (dp x_)))), (b6, .inl (D.2 1, 1024, .inl (fun x_ => iI (pt2_1 x_))))] H := hP
  have hD : va_D A [(o, .inr (0, [.int (iI 0), .ref b1, .ref b2, .ref b3, .ref b4, .ref b5, .ref b6, .int (iI (w : Int)), .int (iI (g : Int))])), (b1, .inl (D.2 0, 1024, .inl (fun x_ => zI (ik x_)))), (b2, .inl (D.2 0, 1024, .inl (fun x_ => zI (st x_)))), (b3, .inl (D.2 0, 1024, .inl (fun x_ => zI (kp x_)))), (b4, .inl (D.2 0, 1024, .inl (fun x_ => zI (go x_)))), (b5, .inl (D.2 1, 1024, .inl (fun x_ => iI (dp x_)))), (b6, .inl (D.2 1, 1024, .inl (fun x_ => iI (pt2_1 x_))))] := hD
  refine W.eq (g2 := F0 m0 8 ls [.int (iI ((holN w g ik : Nat) : Int))]) rfl ?_
  subst hQ
  exact tm_iret C pt2_1 trivial hP hD hS (show 0 ≤ 0 from by omega) (show 0 ≤ 0 from by omega) rfl rfl dX3_holes_8
set_option maxHeartbeats 4000000 in
set_option maxRecDepth 100000 in
theorem met_X3_partAt (l : Launch) (D : TG) (E : TE) (o : Nat) (b1 : Nat) (b2 : Nat) (b3 : Nat) (b4 : Nat) (b5 : Nat) (b6 : Nat) (thr : Int) (w : Nat) (g : Nat) (ik : Nat → Bool) (st : Nat → Bool) (kp : Nat → Bool) (go : Nat → Bool) (dp : Nat → Int) (pt : Nat → Int) (c : Nat) (hw : 1 ≤ w ∧ w ≤ 32) (hg : 1 ≤ g ∧ g ≤ 32) (hc : c < w * g) : tMet l yX3_partAt cX3_partAt 2 (some .int) 3 71 (0) (0) [.ref o, .int (iI (c : Int))] D E [(o, .inr (0, [.int (iI thr), .ref b1, .ref b2, .ref b3, .ref b4, .ref b5, .ref b6, .int (iI (w : Int)), .int (iI (g : Int))])), (b1, .inl (D.2 0, 1024, .inl (fun x_ => zI (ik x_)))), (b2, .inl (D.2 0, 1024, .inl (fun x_ => zI (st x_)))), (b3, .inl (D.2 0, 1024, .inl (fun x_ => zI (kp x_)))), (b4, .inl (D.2 0, 1024, .inl (fun x_ => zI (go x_)))), (b5, .inl (D.2 1, 1024, .inl (fun x_ => iI (dp x_)))), (b6, .inl (D.2 1, 1024, .inl (fun x_ => iI (pt x_))))] tY0 (S := (Nat → Int)) (fun u_ => ∀ j_, j_ < w * g → u_ j_ = lbI w g ik true j_) (fun u_ => some (.int (iI (lbI w g ik true c)))) (fun u_ => [(o, .inr (0, [.int (iI thr), .ref b1, .ref b2, .ref b3, .ref b4, .ref b5, .ref b6, .int (iI (w : Int)), .int (iI (g : Int))])), (b1, .inl (D.2 0, 1024, .inl (fun x_ => zI (ik x_)))), (b2, .inl (D.2 0, 1024, .inl (fun x_ => zI (st x_)))), (b3, .inl (D.2 0, 1024, .inl (fun x_ => zI (kp x_)))), (b4, .inl (D.2 0, 1024, .inl (fun x_ => zI (go x_)))), (b5, .inl (D.2 1, 1024, .inl (fun x_ => iI (dp x_)))), (b6, .inl (D.2 1, 1024, .inl (fun x_ => iI (u_ x_))))]) := by
  refine tu_met (by decide +kernel) (Nat.le_of_ble_eq_true rfl) ?_
  intro p0 e0 s0 m0 below meth c0 A ls args Q hag hQ C hK hX hY hP hD hA hAe hl
  obtain ⟨kx, kb, hml, hown, hts, -⟩ := id C
  have hS : va_S A s0.heap s0.heap [] := va_S.rf
  have hl : lv_has ls 2 [(0, .ref o), (1, .int (iI (c : Int)))] := hl
  have hwg := wg_le hw hg
  refine lv_aload_n kx kb dX3_partAt_0 rfl (lv_at hl 0 rfl) ?_
  refine lv_iconst (v := iI 1) kx kb dX3_partAt_1 rfl ?_
  refine t_callV (wr := []) C (met_X3_spreads l D E o b1 b2 b3 b4 b5 b6 thr w g ik st kp go dp pt true (by first | assumption | omega) (by first | assumption | omega)) (cwV 1 hts (lw_V q1463 q1465 qs32 q62 q1466) rfl rfl rfl (by decide +kernel) ⟨Nat.le_of_ble_eq_true rfl, Nat.le_of_ble_eq_true rfl⟩) (va_recv hK hP (ci := 0) (q0 := 0) rfl rfl) hK hX hP hD hS hA [0, 1, 2, 3, 4, 5, 6] [] rfl rfl (by decide) (by decide) (by decide) tYb_0 (fun _ _ _ => trivial) rfl hl.1 rfl (Nat.le_of_ble_eq_true rfl) dX3_partAt_2 ⟨(show 0 ≤ 0 from by omega), (show 0 ≤ 0 from by omega)⟩ (fun u_ H locs hp hP hD hS => ?_)
  obtain ⟨pt2_1, rfl⟩ : ∃ z, z = u_ := ⟨_, rfl⟩
  have hc2_1 : ∀ j_, j_ < w * g → pt2_1 j_ = lbI w g ik true j_ := hp
  have hP : va_P D.1 clAll [(o, .inr (0, [.int (iI thr), .ref b1, .ref b2, .ref b3, .ref b4, .ref b5, .ref b6, .int (iI (w : Int)), .int (iI (g : Int))])), (b1, .inl (D.2 0, 1024, .inl (fun x_ => zI (ik x_)))), (b2, .inl (D.2 0, 1024, .inl (fun x_ => zI (st x_)))), (b3, .inl (D.2 0, 1024, .inl (fun x_ => zI (kp x_)))), (b4, .inl (D.2 0, 1024, .inl (fun x_ => zI (go x_)))), (b5, .inl (D.2 1, 1024, .inl (fun x_ => iI (dp x_)))), (b6, .inl (D.2 1, 1024, .inl (fun x_ => iI (pt2_1 x_))))] H := hP
  have hD : va_D A [(o, .inr (0, [.int (iI thr), .ref b1, .ref b2, .ref b3, .ref b4, .ref b5, .ref b6, .int (iI (w : Int)), .int (iI (g : Int))])), (b1, .inl (D.2 0, 1024, .inl (fun x_ => zI (ik x_)))), (b2, .inl (D.2 0, 1024, .inl (fun x_ => zI (st x_)))), (b3, .inl (D.2 0, 1024, .inl (fun x_ => zI (kp x_)))), (b4, .inl (D.2 0, 1024, .inl (fun x_ => zI (go x_)))), (b5, .inl (D.2 1, 1024, .inl (fun x_ => iI (dp x_)))), (b6, .inl (D.2 1, 1024, .inl (fun x_ => iI (pt2_1 x_))))] := hD
  refine W.eq (g2 := F0 m0 5 ls []) rfl ?_
  refine lv_aload_n kx kb dX3_partAt_5 rfl (lv_at hl 0 rfl) ?_
  refine va_get (D := D.1) (ci := 0) (v := .ref b6) (C := RX3) (T := TX3) (N := 9) kx kb hts in_X3 hown hK hP 0 rfl rfl 6 (by decide) (hts _ q1376) (fun _ h9 => h9) rfl dX3_partAt_6 ?_
  refine lv_iload_n kx kb dX3_partAt_9 rfl (lv_at hl 1 rfl) ?_
  refine ta_iald C hK hP 6 rfl c (by omega) dX3_partAt_10 ?_
  subst hQ
  exact tm_iret C pt2_1 (by first | rfl | assumption) hP hD hS (show 0 ≤ 0 from by omega) (show 0 ≤ 0 from by omega) (by rw [hc2_1 c hc]) rfl dX3_partAt_11
set_option maxHeartbeats 4000000 in
set_option maxRecDepth 100000 in
theorem met_X3_partOf_ok (l : Launch) (D : TG) (E : TE) (o : Nat) (b1 : Nat) (b2 : Nat) (b3 : Nat) (b4 : Nat) (b5 : Nat) (b6 : Nat) (thr : Int) (w : Nat) (g : Nat) (ik : Nat → Bool) (st : Nat → Bool) (kp : Nat → Bool) (go : Nat → Bool) (dp : Nat → Int) (pt : Nat → Int) (x : Int) (y : Int) (hw : 1 ≤ w ∧ w ≤ 32) (hg : 1 ≤ g ∧ g ≤ 32) (hv : 0 ≤ x ∧ x < w ∧ 0 ≤ y ∧ y < g) : tMet l yX3_partOf cX3_partOf 3 (some .int) 4 92 (0) (0) [.ref o, .int (iI x), .int (iI y)] D E [(o, .inr (0, [.int (iI thr), .ref b1, .ref b2, .ref b3, .ref b4, .ref b5, .ref b6, .int (iI (w : Int)), .int (iI (g : Int))])), (b1, .inl (D.2 0, 1024, .inl (fun x_ => zI (ik x_)))), (b2, .inl (D.2 0, 1024, .inl (fun x_ => zI (st x_)))), (b3, .inl (D.2 0, 1024, .inl (fun x_ => zI (kp x_)))), (b4, .inl (D.2 0, 1024, .inl (fun x_ => zI (go x_)))), (b5, .inl (D.2 1, 1024, .inl (fun x_ => iI (dp x_)))), (b6, .inl (D.2 1, 1024, .inl (fun x_ => iI (pt x_))))] tY0 (S := (Nat → Int)) (fun u_ => True) (fun u_ => some (.int (iI (lbI w g ik true (cel w x y))))) (fun u_ => [(o, .inr (0, [.int (iI 0), .ref b1, .ref b2, .ref b3, .ref b4, .ref b5, .ref b6, .int (iI (w : Int)), .int (iI (g : Int))])), (b1, .inl (D.2 0, 1024, .inl (fun x_ => zI (ik x_)))), (b2, .inl (D.2 0, 1024, .inl (fun x_ => zI (st x_)))), (b3, .inl (D.2 0, 1024, .inl (fun x_ => zI (kp x_)))), (b4, .inl (D.2 0, 1024, .inl (fun x_ => zI (go x_)))), (b5, .inl (D.2 1, 1024, .inl (fun x_ => iI (dp x_)))), (b6, .inl (D.2 1, 1024, .inl (fun x_ => iI (u_ x_))))]) := by
  refine tu_met (by decide +kernel) (Nat.le_of_ble_eq_true rfl) ?_
  intro p0 e0 s0 m0 below meth c0 A ls args Q hag hQ C hK hX hY hP hD hA hAe hl
  obtain ⟨kx, kb, hml, hown, hts, -⟩ := id C
  have hS : va_S A s0.heap s0.heap [] := va_S.rf
  have hl : lv_has ls 3 [(0, .ref o), (1, .int (iI x)), (2, .int (iI y))] := hl
  have hwg := wg_le hw hg
  refine lv_aload_n kx kb dX3_partOf_0 rfl (lv_at hl 0 rfl) ?_
  refine lv_iload_n kx kb dX3_partOf_1 rfl (lv_at hl 1 rfl) ?_
  refine lv_iload_n kx kb dX3_partOf_2 rfl (lv_at hl 2 rfl) ?_
  refine t_callV (wr := []) C (met_X3_cell l D E o b1 b2 b3 b4 b5 b6 thr w g ik st kp go dp pt x y (by first | assumption | omega) (by first | assumption | omega) (by first | assumption | omega) (by first | assumption | omega)) (cwV 2 hts (lw_V q1418 q1420 qs25 q62 q1421) rfl rfl rfl (by decide +kernel) ⟨Nat.le_of_ble_eq_true rfl, Nat.le_of_ble_eq_true rfl⟩) (va_recv hK hP (ci := 0) (q0 := 0) rfl rfl) hK hX hP hD hS hA [0, 1, 2, 3, 4, 5, 6] [] rfl rfl (by decide) (by decide) (by decide) tYb_0 (fun _ _ _ => trivial) rfl hl.1 rfl (Nat.le_of_ble_eq_true rfl) dX3_partOf_3 ⟨(show 0 ≤ 0 from by omega), (show 0 ≤ 0 from by omega)⟩ (fun u_ H locs hp hP hD hS => ?_)
  obtain ⟨t2_1, rfl⟩ : ∃ z, z = u_ := ⟨_, rfl⟩
  have hc3_1 : t2_1 = if isBd w g x y then 0 else 1 := hp
  subst hc3_1
  have hP : va_P D.1 clAll [(o, .inr (0, [.int (iI (if isBd w g x y then 0 else 1)), .ref b1, .ref b2, .ref b3, .ref b4, .ref b5, .ref b6, .int (iI (w : Int)), .int (iI (g : Int))])), (b1, .inl (D.2 0, 1024, .inl (fun x_ => zI (ik x_)))), (b2, .inl (D.2 0, 1024, .inl (fun x_ => zI (st x_)))), (b3, .inl (D.2 0, 1024, .inl (fun x_ => zI (kp x_)))), (b4, .inl (D.2 0, 1024, .inl (fun x_ => zI (go x_)))), (b5, .inl (D.2 1, 1024, .inl (fun x_ => iI (dp x_)))), (b6, .inl (D.2 1, 1024, .inl (fun x_ => iI (pt x_))))] H := hP
  have hD : va_D A [(o, .inr (0, [.int (iI (if isBd w g x y then 0 else 1)), .ref b1, .ref b2, .ref b3, .ref b4, .ref b5, .ref b6, .int (iI (w : Int)), .int (iI (g : Int))])), (b1, .inl (D.2 0, 1024, .inl (fun x_ => zI (ik x_)))), (b2, .inl (D.2 0, 1024, .inl (fun x_ => zI (st x_)))), (b3, .inl (D.2 0, 1024, .inl (fun x_ => zI (kp x_)))), (b4, .inl (D.2 0, 1024, .inl (fun x_ => zI (go x_)))), (b5, .inl (D.2 1, 1024, .inl (fun x_ => iI (dp x_)))), (b6, .inl (D.2 1, 1024, .inl (fun x_ => iI (pt x_))))] := hD
  refine W.eq (g2 := F0 m0 6 ls [.int (zI (isBd w g x y))]) rfl ?_
  refine tz_if_eq (tgt := 24) kx kb dX3_partOf_6 (by decide) (fun h6 => ?_) (fun h6 => ?_)
  · simp only [isBd_f] at h6; exact absurd hv h6
  · simp only [isBd_t, isBd_f] at h6
    rw [show ((if isBd w g x y then 0 else 1)) = (0 : Int) from by rw [if_pos ((isBd_t _ _ _ _).mpr h6)]] at hP hD
    have hP : va_P D.1 clAll [(o, .inr (0, [.int (iI 0), .ref b1, .ref b2, .ref b3, .ref b4, .ref b5, .ref b6, .int (iI (w : Int)), .int (iI (g : Int))])), (b1, .inl (D.2 0, 1024, .inl (fun x_ => zI (ik x_)))), (b2, .inl (D.2 0, 1024, .inl (fun x_ => zI (st x_)))), (b3, .inl (D.2 0, 1024, .inl (fun x_ => zI (kp x_)))), (b4, .inl (D.2 0, 1024, .inl (fun x_ => zI (go x_)))), (b5, .inl (D.2 1, 1024, .inl (fun x_ => iI (dp x_)))), (b6, .inl (D.2 1, 1024, .inl (fun x_ => iI (pt x_))))] H := hP
    have hD : va_D A [(o, .inr (0, [.int (iI 0), .ref b1, .ref b2, .ref b3, .ref b4, .ref b5, .ref b6, .int (iI (w : Int)), .int (iI (g : Int))])), (b1, .inl (D.2 0, 1024, .inl (fun x_ => zI (ik x_)))), (b2, .inl (D.2 0, 1024, .inl (fun x_ => zI (st x_)))), (b3, .inl (D.2 0, 1024, .inl (fun x_ => zI (kp x_)))), (b4, .inl (D.2 0, 1024, .inl (fun x_ => zI (go x_)))), (b5, .inl (D.2 1, 1024, .inl (fun x_ => iI (dp x_)))), (b6, .inl (D.2 1, 1024, .inl (fun x_ => iI (pt x_))))] := hD
    refine lv_aload_n kx kb dX3_partOf_9 rfl (lv_at hl 0 rfl) ?_
    refine lv_iload_n kx kb dX3_partOf_10 rfl (lv_at hl 2 rfl) ?_
    refine lv_aload_n kx kb dX3_partOf_11 rfl (lv_at hl 0 rfl) ?_
    refine va_get (D := D.1) (ci := 0) (v := .int (iI (w : Int))) (C := RX3) (T := TX3) (N := 9) kx kb hts in_X3 hown hK hP 0 rfl rfl 7 (by decide) (hts _ q1377) (fun _ h9 => h9) rfl dX3_partOf_12 ?_
    refine ti_imul kx kb dX3_partOf_15 ?_
    refine lv_iload_n kx kb dX3_partOf_16 rfl (lv_at hl 1 rfl) ?_
    refine ti_iadd kx kb dX3_partOf_17 ?_
    have hq := cel_int h6
    refine W.eq (g2 := F0 m0 18 ls [.int (iI (cel w x y : Int)), .ref o]) (by rw [hq.1]) ?_
    refine t_callV (wr := []) C (met_X3_partAt l D E o b1 b2 b3 b4 b5 b6 0 w g ik st kp go dp pt (cel w x y) (by first | assumption | omega) (by first | assumption | omega) (hq.2)) (cwV 1 hts (lw_V q1610 q1612 qs51 q62 q1613) rfl rfl rfl (by decide +kernel) ⟨Nat.le_of_ble_eq_true rfl, Nat.le_of_ble_eq_true rfl⟩) (va_recv hK hP (ci := 0) (q0 := 0) rfl rfl) hK hX hP hD hS hA [0, 1, 2, 3, 4, 5, 6] [] rfl rfl (by decide) (by decide) (by decide) tYb_0 (fun _ _ _ => trivial) rfl hl.1 rfl (Nat.le_of_ble_eq_true rfl) dX3_partOf_18 ⟨(show 0 ≤ 0 from by omega), (show 0 ≤ 0 from by omega)⟩ (fun u_ H locs hp hP hD hS => ?_)
    obtain ⟨pt2_2, rfl⟩ : ∃ z, z = u_ := ⟨_, rfl⟩
    have hc18_1 : ∀ j_, j_ < w * g → pt2_2 j_ = lbI w g ik true j_ := hp
    have hP : va_P D.1 clAll [(o, .inr (0, [.int (iI 0), .ref b1, .ref b2, .ref b3, .ref b4, .ref b5, .ref b6, .int (iI (w : Int)), .int (iI (g : Int))])), (b1, .inl (D.2 0, 1024, .inl (fun x_ => zI (ik x_)))), (b2, .inl (D.2 0, 1024, .inl (fun x_ => zI (st x_)))), (b3, .inl (D.2 0, 1024, .inl (fun x_ => zI (kp x_)))), (b4, .inl (D.2 0, 1024, .inl (fun x_ => zI (go x_)))), (b5, .inl (D.2 1, 1024, .inl (fun x_ => iI (dp x_)))), (b6, .inl (D.2 1, 1024, .inl (fun x_ => iI (pt2_2 x_))))] H := hP
    have hD : va_D A [(o, .inr (0, [.int (iI 0), .ref b1, .ref b2, .ref b3, .ref b4, .ref b5, .ref b6, .int (iI (w : Int)), .int (iI (g : Int))])), (b1, .inl (D.2 0, 1024, .inl (fun x_ => zI (ik x_)))), (b2, .inl (D.2 0, 1024, .inl (fun x_ => zI (st x_)))), (b3, .inl (D.2 0, 1024, .inl (fun x_ => zI (kp x_)))), (b4, .inl (D.2 0, 1024, .inl (fun x_ => zI (go x_)))), (b5, .inl (D.2 1, 1024, .inl (fun x_ => iI (dp x_)))), (b6, .inl (D.2 1, 1024, .inl (fun x_ => iI (pt2_2 x_))))] := hD
    refine W.eq (g2 := F0 m0 21 ls [.int (iI (lbI w g ik true (cel w x y)))]) rfl ?_
    refine lv_goto (tgt := 25) kx kb dX3_partOf_21 (by decide) ?_
    subst hQ
    exact tm_iret C pt2_2 trivial hP hD hS (show 0 ≤ 0 from by omega) (show 0 ≤ 0 from by omega) rfl rfl dX3_partOf_25
set_option maxHeartbeats 4000000 in
set_option maxRecDepth 100000 in
theorem met_X3_partOf_no (l : Launch) (D : TG) (E : TE) (o : Nat) (b1 : Nat) (b2 : Nat) (b3 : Nat) (b4 : Nat) (b5 : Nat) (b6 : Nat) (thr : Int) (w : Nat) (g : Nat) (ik : Nat → Bool) (st : Nat → Bool) (kp : Nat → Bool) (go : Nat → Bool) (dp : Nat → Int) (pt : Nat → Int) (x : Int) (y : Int) (hw : 1 ≤ w ∧ w ≤ 32) (hg : 1 ≤ g ∧ g ≤ 32) (rx : -2147483648 ≤ x ∧ x < 2147483648) (ry : -2147483648 ≤ y ∧ y < 2147483648) (hv : ¬ (0 ≤ x ∧ x < w ∧ 0 ≤ y ∧ y < g)) : tMet l yX3_partOf cX3_partOf 3 (some .int) 4 92 (0) (0) [.ref o, .int (iI x), .int (iI y)] D E [(o, .inr (0, [.int (iI thr), .ref b1, .ref b2, .ref b3, .ref b4, .ref b5, .ref b6, .int (iI (w : Int)), .int (iI (g : Int))])), (b1, .inl (D.2 0, 1024, .inl (fun x_ => zI (ik x_)))), (b2, .inl (D.2 0, 1024, .inl (fun x_ => zI (st x_)))), (b3, .inl (D.2 0, 1024, .inl (fun x_ => zI (kp x_)))), (b4, .inl (D.2 0, 1024, .inl (fun x_ => zI (go x_)))), (b5, .inl (D.2 1, 1024, .inl (fun x_ => iI (dp x_)))), (b6, .inl (D.2 1, 1024, .inl (fun x_ => iI (pt x_))))] tY0 (S := Unit) (fun u_ => True) (fun u_ => some (.int (iI 0))) (fun u_ => [(o, .inr (0, [.int (iI 1), .ref b1, .ref b2, .ref b3, .ref b4, .ref b5, .ref b6, .int (iI (w : Int)), .int (iI (g : Int))])), (b1, .inl (D.2 0, 1024, .inl (fun x_ => zI (ik x_)))), (b2, .inl (D.2 0, 1024, .inl (fun x_ => zI (st x_)))), (b3, .inl (D.2 0, 1024, .inl (fun x_ => zI (kp x_)))), (b4, .inl (D.2 0, 1024, .inl (fun x_ => zI (go x_)))), (b5, .inl (D.2 1, 1024, .inl (fun x_ => iI (dp x_)))), (b6, .inl (D.2 1, 1024, .inl (fun x_ => iI (pt x_))))]) := by
  refine tu_met (by decide +kernel) (Nat.le_of_ble_eq_true rfl) ?_
  intro p0 e0 s0 m0 below meth c0 A ls args Q hag hQ C hK hX hY hP hD hA hAe hl
  obtain ⟨kx, kb, hml, hown, hts, -⟩ := id C
  have hS : va_S A s0.heap s0.heap [] := va_S.rf
  have hl : lv_has ls 3 [(0, .ref o), (1, .int (iI x)), (2, .int (iI y))] := hl
  have hwg := wg_le hw hg
  refine lv_aload_n kx kb dX3_partOf_0 rfl (lv_at hl 0 rfl) ?_
  refine lv_iload_n kx kb dX3_partOf_1 rfl (lv_at hl 1 rfl) ?_
  refine lv_iload_n kx kb dX3_partOf_2 rfl (lv_at hl 2 rfl) ?_
  refine t_callV (wr := []) C (met_X3_cell l D E o b1 b2 b3 b4 b5 b6 thr w g ik st kp go dp pt x y (by first | assumption | omega) (by first | assumption | omega) (by first | assumption | omega) (by first | assumption | omega)) (cwV 2 hts (lw_V q1418 q1420 qs25 q62 q1421) rfl rfl rfl (by decide +kernel) ⟨Nat.le_of_ble_eq_true rfl, Nat.le_of_ble_eq_true rfl⟩) (va_recv hK hP (ci := 0) (q0 := 0) rfl rfl) hK hX hP hD hS hA [0, 1, 2, 3, 4, 5, 6] [] rfl rfl (by decide) (by decide) (by decide) tYb_0 (fun _ _ _ => trivial) rfl hl.1 rfl (Nat.le_of_ble_eq_true rfl) dX3_partOf_3 ⟨(show 0 ≤ 0 from by omega), (show 0 ≤ 0 from by omega)⟩ (fun u_ H locs hp hP hD hS => ?_)
  obtain ⟨t2_1, rfl⟩ : ∃ z, z = u_ := ⟨_, rfl⟩
  have hc3_1 : t2_1 = if isBd w g x y then 0 else 1 := hp
  subst hc3_1
  have hP : va_P D.1 clAll [(o, .inr (0, [.int (iI (if isBd w g x y then 0 else 1)), .ref b1, .ref b2, .ref b3, .ref b4, .ref b5, .ref b6, .int (iI (w : Int)), .int (iI (g : Int))])), (b1, .inl (D.2 0, 1024, .inl (fun x_ => zI (ik x_)))), (b2, .inl (D.2 0, 1024, .inl (fun x_ => zI (st x_)))), (b3, .inl (D.2 0, 1024, .inl (fun x_ => zI (kp x_)))), (b4, .inl (D.2 0, 1024, .inl (fun x_ => zI (go x_)))), (b5, .inl (D.2 1, 1024, .inl (fun x_ => iI (dp x_)))), (b6, .inl (D.2 1, 1024, .inl (fun x_ => iI (pt x_))))] H := hP
  have hD : va_D A [(o, .inr (0, [.int (iI (if isBd w g x y then 0 else 1)), .ref b1, .ref b2, .ref b3, .ref b4, .ref b5, .ref b6, .int (iI (w : Int)), .int (iI (g : Int))])), (b1, .inl (D.2 0, 1024, .inl (fun x_ => zI (ik x_)))), (b2, .inl (D.2 0, 1024, .inl (fun x_ => zI (st x_)))), (b3, .inl (D.2 0, 1024, .inl (fun x_ => zI (kp x_)))), (b4, .inl (D.2 0, 1024, .inl (fun x_ => zI (go x_)))), (b5, .inl (D.2 1, 1024, .inl (fun x_ => iI (dp x_)))), (b6, .inl (D.2 1, 1024, .inl (fun x_ => iI (pt x_))))] := hD
  refine W.eq (g2 := F0 m0 6 ls [.int (zI (isBd w g x y))]) rfl ?_
  refine tz_if_eq (tgt := 24) kx kb dX3_partOf_6 (by decide) (fun h6 => ?_) (fun h6 => ?_)
  · simp only [isBd_t, isBd_f] at h6
    rw [show ((if isBd w g x y then 0 else 1)) = (1 : Int) from by rw [(isBd_f _ _ _ _).mpr h6]; rfl] at hP hD
    have hP : va_P D.1 clAll [(o, .inr (0, [.int (iI 1), .ref b1, .ref b2, .ref b3, .ref b4, .ref b5, .ref b6, .int (iI (w : Int)), .int (iI (g : Int))])), (b1, .inl (D.2 0, 1024, .inl (fun x_ => zI (ik x_)))), (b2, .inl (D.2 0, 1024, .inl (fun x_ => zI (st x_)))), (b3, .inl (D.2 0, 1024, .inl (fun x_ => zI (kp x_)))), (b4, .inl (D.2 0, 1024, .inl (fun x_ => zI (go x_)))), (b5, .inl (D.2 1, 1024, .inl (fun x_ => iI (dp x_)))), (b6, .inl (D.2 1, 1024, .inl (fun x_ => iI (pt x_))))] H := hP
    have hD : va_D A [(o, .inr (0, [.int (iI 1), .ref b1, .ref b2, .ref b3, .ref b4, .ref b5, .ref b6, .int (iI (w : Int)), .int (iI (g : Int))])), (b1, .inl (D.2 0, 1024, .inl (fun x_ => zI (ik x_)))), (b2, .inl (D.2 0, 1024, .inl (fun x_ => zI (st x_)))), (b3, .inl (D.2 0, 1024, .inl (fun x_ => zI (kp x_)))), (b4, .inl (D.2 0, 1024, .inl (fun x_ => zI (go x_)))), (b5, .inl (D.2 1, 1024, .inl (fun x_ => iI (dp x_)))), (b6, .inl (D.2 1, 1024, .inl (fun x_ => iI (pt x_))))] := hD
    refine lv_iconst (v := iI 0) kx kb dX3_partOf_24 rfl ?_
    subst hQ
    exact tm_iret C () trivial hP hD hS (show 0 ≤ 0 from by omega) (show 0 ≤ 0 from by omega) rfl rfl dX3_partOf_25
  · simp only [isBd_t] at h6; exact absurd h6 hv
set_option maxHeartbeats 4000000 in
set_option maxRecDepth 100000 in
theorem met_X3_sizeAt (l : Launch) (D : TG) (E : TE) (o : Nat) (b1 : Nat) (b2 : Nat) (b3 : Nat) (b4 : Nat) (b5 : Nat) (b6 : Nat) (thr : Int) (w : Nat) (g : Nat) (ik : Nat → Bool) (st : Nat → Bool) (kp : Nat → Bool) (go : Nat → Bool) (dp : Nat → Int) (pt : Nat → Int) (c : Nat) (hw : 1 ≤ w ∧ w ≤ 32) (hg : 1 ≤ g ∧ g ≤ 32) (hc : c < w * g) : tMet l yX3_sizeAt cX3_sizeAt 3 (some .int) 4 92 (0) (0) [.ref o, .int (iI (c : Int))] D E [(o, .inr (0, [.int (iI thr), .ref b1, .ref b2, .ref b3, .ref b4, .ref b5, .ref b6, .int (iI (w : Int)), .int (iI (g : Int))])), (b1, .inl (D.2 0, 1024, .inl (fun x_ => zI (ik x_)))), (b2, .inl (D.2 0, 1024, .inl (fun x_ => zI (st x_)))), (b3, .inl (D.2 0, 1024, .inl (fun x_ => zI (kp x_)))), (b4, .inl (D.2 0, 1024, .inl (fun x_ => zI (go x_)))), (b5, .inl (D.2 1, 1024, .inl (fun x_ => iI (dp x_)))), (b6, .inl (D.2 1, 1024, .inl (fun x_ => iI (pt x_))))] tY0 (S := (Nat → Int)) (fun u_ => True) (fun u_ => some (.int (iI (if lbI w g ik true c = -1 then 0 else ((sizN w g ik true (lbI w g ik true c) : Nat) : Int))))) (fun u_ => [(o, .inr (0, [.int (iI thr), .ref b1, .ref b2, .ref b3, .ref b4, .ref b5, .ref b6, .int (iI (w : Int)), .int (iI (g : Int))])), (b1, .inl (D.2 0, 1024, .inl (fun x_ => zI (ik x_)))), (b2, .inl (D.2 0, 1024, .inl (fun x_ => zI (st x_)))), (b3, .inl (D.2 0, 1024, .inl (fun x_ => zI (kp x_)))), (b4, .inl (D.2 0, 1024, .inl (fun x_ => zI (go x_)))), (b5, .inl (D.2 1, 1024, .inl (fun x_ => iI (dp x_)))), (b6, .inl (D.2 1, 1024, .inl (fun x_ => iI (u_ x_))))]) := by
  refine tu_met (by decide +kernel) (Nat.le_of_ble_eq_true rfl) ?_
  intro p0 e0 s0 m0 below meth c0 A ls args Q hag hQ C hK hX hY hP hD hA hAe hl
  obtain ⟨kx, kb, hml, hown, hts, -⟩ := id C
  have hS : va_S A s0.heap s0.heap [] := va_S.rf
  have hl : lv_has ls 3 [(0, .ref o), (1, .int (iI (c : Int)))] := hl
  have hwg := wg_le hw hg
  refine lv_aload_n kx kb dX3_sizeAt_0 rfl (lv_at hl 0 rfl) ?_
  refine lv_iload_n kx kb dX3_sizeAt_1 rfl (lv_at hl 1 rfl) ?_
  refine t_callV (wr := []) C (met_X3_partAt l D E o b1 b2 b3 b4 b5 b6 thr w g ik st kp go dp pt c (by first | assumption | omega) (by first | assumption | omega) (by first | assumption | omega)) (cwV 1 hts (lw_V q1610 q1612 qs51 q62 q1613) rfl rfl rfl (by decide +kernel) ⟨Nat.le_of_ble_eq_true rfl, Nat.le_of_ble_eq_true rfl⟩) (va_recv hK hP (ci := 0) (q0 := 0) rfl rfl) hK hX hP hD hS hA [0, 1, 2, 3, 4, 5, 6] [] rfl rfl (by decide) (by decide) (by decide) tYb_0 (fun _ _ _ => trivial) rfl hl.1 rfl (Nat.le_of_ble_eq_true rfl) dX3_sizeAt_2 ⟨(show 0 ≤ 0 from by omega), (show 0 ≤ 0 from by omega)⟩ (fun u_ H locs hp hP hD hS => ?_)
  obtain ⟨pt2_1, rfl⟩ : ∃ z, z = u_ := ⟨_, rfl⟩
  have hc2_1 : ∀ j_, j_ < w * g → pt2_1 j_ = lbI w g ik true j_ := hp
  have hP : va_P D.1 clAll [(o, .inr (0, [.int (iI thr), .ref b1, .ref b2, .ref b3, .ref b4, .ref b5, .ref b6, .int (iI (w : Int)), .int (iI (g : Int))])), (b1, .inl (D.2 0, 1024, .inl (fun x_ => zI (ik x_)))), (b2, .inl (D.2 0, 1024, .inl (fun x_ => zI (st x_)))), (b3, .inl (D.2 0, 1024, .inl (fun x_ => zI (kp x_)))), (b4, .inl (D.2 0, 1024, .inl (fun x_ => zI (go x_)))), (b5, .inl (D.2 1, 1024, .inl (fun x_ => iI (dp x_)))), (b6, .inl (D.2 1, 1024, .inl (fun x_ => iI (pt2_1 x_))))] H := hP
  have hD : va_D A [(o, .inr (0, [.int (iI thr), .ref b1, .ref b2, .ref b3, .ref b4, .ref b5, .ref b6, .int (iI (w : Int)), .int (iI (g : Int))])), (b1, .inl (D.2 0, 1024, .inl (fun x_ => zI (ik x_)))), (b2, .inl (D.2 0, 1024, .inl (fun x_ => zI (st x_)))), (b3, .inl (D.2 0, 1024, .inl (fun x_ => zI (kp x_)))), (b4, .inl (D.2 0, 1024, .inl (fun x_ => zI (go x_)))), (b5, .inl (D.2 1, 1024, .inl (fun x_ => iI (dp x_)))), (b6, .inl (D.2 1, 1024, .inl (fun x_ => iI (pt2_1 x_))))] := hD
  refine W.eq (g2 := F0 m0 5 ls [.int (iI (lbI w g ik true c))]) rfl ?_
  refine lv_istore_n (lv' := [(2, .int (iI (lbI w g ik true c))), (0, .ref o), (1, .int (iI (c : Int)))]) kx kb dX3_sizeAt_5 rfl hl (by decide) rfl (fun ls hl => ?_)
  refine lv_iload_n kx kb dX3_sizeAt_6 rfl (lv_at hl 0 rfl) ?_
  refine lv_iconst (v := iI (-1)) kx kb dX3_sizeAt_7 rfl ?_
  have hrl := lbI_rng (ik := ik) (b := true) hc
  refine ti_icmp_ne (tgt := 15) kx kb (by omega) dX3_sizeAt_8 (by decide) (fun h8 => ?_) (fun h8 => ?_)
  · refine lv_aload_n kx kb dX3_sizeAt_15 rfl (lv_at hl 1 rfl) ?_
    refine lv_iload_n kx kb dX3_sizeAt_16 rfl (lv_at hl 0 rfl) ?_
    refine t_callRV C (met_X3_sizeOf l D E o b1 b2 b3 b4 b5 b6 thr w g ik st kp go dp pt2_1 (lbI w g ik true c) (by first | assumption | omega) (by first | assumption | omega) (by omega) (fun j hj => by have := hc2_1 j hj; have := lbI_rng (ik := ik) (b := true) hj; omega)) (cwV 1 hts (lw_V q1477 q1479 qs34 q62 q1480) rfl rfl rfl (by decide +kernel) ⟨Nat.le_of_ble_eq_true rfl, Nat.le_of_ble_eq_true rfl⟩) (va_recv hK hP (ci := 0) (q0 := 0) rfl rfl) hK hX hP hD hS hA [0, 1, 2, 3, 4, 5, 6] rfl (by decide) tYb_0 (fun _ _ _ => trivial) rfl hl.1 rfl (Nat.le_of_ble_eq_true rfl) dX3_sizeAt_17 ⟨(show 0 ≤ 0 from by omega), (show 0 ≤ 0 from by omega)⟩ ?_
    refine W.eq (g2 := F0 m0 20 ls [.int (iI ((fb_ct (fun j => decide (pt2_1 j = (lbI w g ik true c))) (w * g) : Nat) : Int))]) rfl ?_
    subst hQ
    exact tm_iret C pt2_1 trivial hP hD hS (show 0 ≤ 0 from by omega) (show 0 ≤ 0 from by omega) (by rw [if_neg h8, ← sizN_of hc2_1]) rfl dX3_sizeAt_20
  · refine lv_iconst (v := iI 0) kx kb dX3_sizeAt_11 rfl ?_
    refine lv_goto (tgt := 20) kx kb dX3_sizeAt_12 (by decide) ?_
    subst hQ
    exact tm_iret C pt2_1 trivial hP hD hS (show 0 ≤ 0 from by omega) (show 0 ≤ 0 from by omega) (by rw [if_pos h8]) rfl dX3_sizeAt_20
set_option maxHeartbeats 4000000 in
set_option maxRecDepth 100000 in
theorem met_X3_partSize_ok (l : Launch) (D : TG) (E : TE) (o : Nat) (b1 : Nat) (b2 : Nat) (b3 : Nat) (b4 : Nat) (b5 : Nat) (b6 : Nat) (thr : Int) (w : Nat) (g : Nat) (ik : Nat → Bool) (st : Nat → Bool) (kp : Nat → Bool) (go : Nat → Bool) (dp : Nat → Int) (pt : Nat → Int) (x : Int) (y : Int) (hw : 1 ≤ w ∧ w ≤ 32) (hg : 1 ≤ g ∧ g ≤ 32) (hv : 0 ≤ x ∧ x < w ∧ 0 ≤ y ∧ y < g) : tMet l yX3_partSize cX3_partSize 3 (some .int) 5 114 (0) (0) [.ref o, .int (iI x), .int (iI y)] D E [(o, .inr (0, [.int (iI thr), .ref b1, .ref b2, .ref b3, .ref b4, .ref b5, .ref b6, .int (iI (w : Int)), .int (iI (g : Int))])), (b1, .inl (D.2 0, 1024, .inl (fun x_ => zI (ik x_)))), (b2, .inl (D.2 0, 1024, .inl (fun x_ => zI (st x_)))), (b3, .inl (D.2 0, 1024, .inl (fun x_ => zI (kp x_)))), (b4, .inl (D.2 0, 1024, .inl (fun x_ => zI (go x_)))), (b5, .inl (D.2 1, 1024, .inl (fun x_ => iI (dp x_)))), (b6, .inl (D.2 1, 1024, .inl (fun x_ => iI (pt x_))))] tY0 (S := (Nat → Int)) (fun u_ => True) (fun u_ => some (.int (iI (if lbI w g ik true (cel w x y) = -1 then 0 else ((sizN w g ik true (lbI w g ik true (cel w x y)) : Nat) : Int))))) (fun u_ => [(o, .inr (0, [.int (iI 0), .ref b1, .ref b2, .ref b3, .ref b4, .ref b5, .ref b6, .int (iI (w : Int)), .int (iI (g : Int))])), (b1, .inl (D.2 0, 1024, .inl (fun x_ => zI (ik x_)))), (b2, .inl (D.2 0, 1024, .inl (fun x_ => zI (st x_)))), (b3, .inl (D.2 0, 1024, .inl (fun x_ => zI (kp x_)))), (b4, .inl (D.2 0, 1024, .inl (fun x_ => zI (go x_)))), (b5, .inl (D.2 1, 1024, .inl (fun x_ => iI (dp x_)))), (b6, .inl (D.2 1, 1024, .inl (fun x_ => iI (u_ x_))))]) := by
  refine tu_met (by decide +kernel) (Nat.le_of_ble_eq_true rfl) ?_
  intro p0 e0 s0 m0 below meth c0 A ls args Q hag hQ C hK hX hY hP hD hA hAe hl
  obtain ⟨kx, kb, hml, hown, hts, -⟩ := id C
  have hS : va_S A s0.heap s0.heap [] := va_S.rf
  have hl : lv_has ls 3 [(0, .ref o), (1, .int (iI x)), (2, .int (iI y))] := hl
  have hwg := wg_le hw hg
  refine lv_aload_n kx kb dX3_partSize_0 rfl (lv_at hl 0 rfl) ?_
  refine lv_iload_n kx kb dX3_partSize_1 rfl (lv_at hl 1 rfl) ?_
  refine lv_iload_n kx kb dX3_partSize_2 rfl (lv_at hl 2 rfl) ?_
  refine t_callV (wr := []) C (met_X3_cell l D E o b1 b2 b3 b4 b5 b6 thr w g ik st kp go dp pt x y (by first | assumption | omega) (by first | assumption | omega) (by first | assumption | omega) (by first | assumption | omega)) (cwV 2 hts (lw_V q1418 q1420 qs25 q62 q1421) rfl rfl rfl (by decide +kernel) ⟨Nat.le_of_ble_eq_true rfl, Nat.le_of_ble_eq_true rfl⟩) (va_recv hK hP (ci := 0) (q0 := 0) rfl rfl) hK hX hP hD hS hA [0, 1, 2, 3, 4, 5, 6] [] rfl rfl (by decide) (by decide) (by decide) tYb_0 (fun _ _ _ => trivial) rfl hl.1 rfl (Nat.le_of_ble_eq_true rfl) dX3_partSize_3 ⟨(show 0 ≤ 0 from by omega), (show 0 ≤ 0 from by omega)⟩ (fun u_ H locs hp hP hD hS => ?_)
  obtain ⟨t2_1, rfl⟩ : ∃ z, z = u_ := ⟨_, rfl⟩
  have hc3_1 : t2_1 = if isBd w g x y then 0 else 1 := hp
  subst hc3_1
  have hP : va_P D.1 clAll [(o, .inr (0, [.int (iI (if isBd w g x y then 0 else 1)), .ref b1, .ref b2, .ref b3, .ref b4, .ref b5, .ref b6, .int (iI (w : Int)), .int (iI (g : Int))])), (b1, .inl (D.2 0, 1024, .inl (fun x_ => zI (ik x_)))), (b2, .inl (D.2 0, 1024, .inl (fun x_ => zI (st x_)))), (b3, .inl (D.2 0, 1024, .inl (fun x_ => zI (kp x_)))), (b4, .inl (D.2 0, 1024, .inl (fun x_ => zI (go x_)))), (b5, .inl (D.2 1, 1024, .inl (fun x_ => iI (dp x_)))), (b6, .inl (D.2 1, 1024, .inl (fun x_ => iI (pt x_))))] H := hP
  have hD : va_D A [(o, .inr (0, [.int (iI (if isBd w g x y then 0 else 1)), .ref b1, .ref b2, .ref b3, .ref b4, .ref b5, .ref b6, .int (iI (w : Int)), .int (iI (g : Int))])), (b1, .inl (D.2 0, 1024, .inl (fun x_ => zI (ik x_)))), (b2, .inl (D.2 0, 1024, .inl (fun x_ => zI (st x_)))), (b3, .inl (D.2 0, 1024, .inl (fun x_ => zI (kp x_)))), (b4, .inl (D.2 0, 1024, .inl (fun x_ => zI (go x_)))), (b5, .inl (D.2 1, 1024, .inl (fun x_ => iI (dp x_)))), (b6, .inl (D.2 1, 1024, .inl (fun x_ => iI (pt x_))))] := hD
  refine W.eq (g2 := F0 m0 6 ls [.int (zI (isBd w g x y))]) rfl ?_
  refine tz_if_eq (tgt := 24) kx kb dX3_partSize_6 (by decide) (fun h6 => ?_) (fun h6 => ?_)
  · simp only [isBd_f] at h6; exact absurd hv h6
  · simp only [isBd_t, isBd_f] at h6
    rw [show ((if isBd w g x y then 0 else 1)) = (0 : Int) from by rw [if_pos ((isBd_t _ _ _ _).mpr h6)]] at hP hD
    have hP : va_P D.1 clAll [(o, .inr (0, [.int (iI 0), .ref b1, .ref b2, .ref b3, .ref b4, .ref b5, .ref b6, .int (iI (w : Int)), .int (iI (g : Int))])), (b1, .inl (D.2 0, 1024, .inl (fun x_ => zI (ik x_)))), (b2, .inl (D.2 0, 1024, .inl (fun x_ => zI (st x_)))), (b3, .inl (D.2 0, 1024, .inl (fun x_ => zI (kp x_)))), (b4, .inl (D.2 0, 1024, .inl (fun x_ => zI (go x_)))), (b5, .inl (D.2 1, 1024, .inl (fun x_ => iI (dp x_)))), (b6, .inl (D.2 1, 1024, .inl (fun x_ => iI (pt x_))))] H := hP
    have hD : va_D A [(o, .inr (0, [.int (iI 0), .ref b1, .ref b2, .ref b3, .ref b4, .ref b5, .ref b6, .int (iI (w : Int)), .int (iI (g : Int))])), (b1, .inl (D.2 0, 1024, .inl (fun x_ => zI (ik x_)))), (b2, .inl (D.2 0, 1024, .inl (fun x_ => zI (st x_)))), (b3, .inl (D.2 0, 1024, .inl (fun x_ => zI (kp x_)))), (b4, .inl (D.2 0, 1024, .inl (fun x_ => zI (go x_)))), (b5, .inl (D.2 1, 1024, .inl (fun x_ => iI (dp x_)))), (b6, .inl (D.2 1, 1024, .inl (fun x_ => iI (pt x_))))] := hD
    refine lv_aload_n kx kb dX3_partSize_9 rfl (lv_at hl 0 rfl) ?_
    refine lv_iload_n kx kb dX3_partSize_10 rfl (lv_at hl 2 rfl) ?_
    refine lv_aload_n kx kb dX3_partSize_11 rfl (lv_at hl 0 rfl) ?_
    refine va_get (D := D.1) (ci := 0) (v := .int (iI (w : Int))) (C := RX3) (T := TX3) (N := 9) kx kb hts in_X3 hown hK hP 0 rfl rfl 7 (by decide) (hts _ q1377) (fun _ h9 => h9) rfl dX3_partSize_12 ?_
    refine ti_imul kx kb dX3_partSize_15 ?_
    refine lv_iload_n kx kb dX3_partSize_16 rfl (lv_at hl 1 rfl) ?_
    refine ti_iadd kx kb dX3_partSize_17 ?_
    have hq := cel_int h6
    refine W.eq (g2 := F0 m0 18 ls [.int (iI (cel w x y : Int)), .ref o]) (by rw [hq.1]) ?_
    refine t_callV (wr := []) C (met_X3_sizeAt l D E o b1 b2 b3 b4 b5 b6 0 w g ik st kp go dp pt (cel w x y) (by first | assumption | omega) (by first | assumption | omega) (hq.2)) (cwV 1 hts (lw_V q1618 q1620 qs52 q62 q1621) rfl rfl rfl (by decide +kernel) ⟨Nat.le_of_ble_eq_true rfl, Nat.le_of_ble_eq_true rfl⟩) (va_recv hK hP (ci := 0) (q0 := 0) rfl rfl) hK hX hP hD hS hA [0, 1, 2, 3, 4, 5, 6] [] rfl rfl (by decide) (by decide) (by decide) tYb_0 (fun _ _ _ => trivial) rfl hl.1 rfl (Nat.le_of_ble_eq_true rfl) dX3_partSize_18 ⟨(show 0 ≤ 0 from by omega), (show 0 ≤ 0 from by omega)⟩ (fun u_ H locs hp hP hD hS => ?_)
    obtain ⟨pt2_2, rfl⟩ : ∃ z, z = u_ := ⟨_, rfl⟩
    have hP : va_P D.1 clAll [(o, .inr (0, [.int (iI 0), .ref b1, .ref b2, .ref b3, .ref b4, .ref b5, .ref b6, .int (iI (w : Int)), .int (iI (g : Int))])), (b1, .inl (D.2 0, 1024, .inl (fun x_ => zI (ik x_)))), (b2, .inl (D.2 0, 1024, .inl (fun x_ => zI (st x_)))), (b3, .inl (D.2 0, 1024, .inl (fun x_ => zI (kp x_)))), (b4, .inl (D.2 0, 1024, .inl (fun x_ => zI (go x_)))), (b5, .inl (D.2 1, 1024, .inl (fun x_ => iI (dp x_)))), (b6, .inl (D.2 1, 1024, .inl (fun x_ => iI (pt2_2 x_))))] H := hP
    have hD : va_D A [(o, .inr (0, [.int (iI 0), .ref b1, .ref b2, .ref b3, .ref b4, .ref b5, .ref b6, .int (iI (w : Int)), .int (iI (g : Int))])), (b1, .inl (D.2 0, 1024, .inl (fun x_ => zI (ik x_)))), (b2, .inl (D.2 0, 1024, .inl (fun x_ => zI (st x_)))), (b3, .inl (D.2 0, 1024, .inl (fun x_ => zI (kp x_)))), (b4, .inl (D.2 0, 1024, .inl (fun x_ => zI (go x_)))), (b5, .inl (D.2 1, 1024, .inl (fun x_ => iI (dp x_)))), (b6, .inl (D.2 1, 1024, .inl (fun x_ => iI (pt2_2 x_))))] := hD
    refine W.eq (g2 := F0 m0 21 ls [.int (iI (if lbI w g ik true (cel w x y) = -1 then 0 else ((sizN w g ik true (lbI w g ik true (cel w x y)) : Nat) : Int)))]) rfl ?_
    refine lv_goto (tgt := 25) kx kb dX3_partSize_21 (by decide) ?_
    subst hQ
    exact tm_iret C pt2_2 trivial hP hD hS (show 0 ≤ 0 from by omega) (show 0 ≤ 0 from by omega) rfl rfl dX3_partSize_25
set_option maxHeartbeats 4000000 in
set_option maxRecDepth 100000 in
theorem met_X3_partSize_no (l : Launch) (D : TG) (E : TE) (o : Nat) (b1 : Nat) (b2 : Nat) (b3 : Nat) (b4 : Nat) (b5 : Nat) (b6 : Nat) (thr : Int) (w : Nat) (g : Nat) (ik : Nat → Bool) (st : Nat → Bool) (kp : Nat → Bool) (go : Nat → Bool) (dp : Nat → Int) (pt : Nat → Int) (x : Int) (y : Int) (hw : 1 ≤ w ∧ w ≤ 32) (hg : 1 ≤ g ∧ g ≤ 32) (rx : -2147483648 ≤ x ∧ x < 2147483648) (ry : -2147483648 ≤ y ∧ y < 2147483648) (hv : ¬ (0 ≤ x ∧ x < w ∧ 0 ≤ y ∧ y < g)) : tMet l yX3_partSize cX3_partSize 3 (some .int) 5 114 (0) (0) [.ref o, .int (iI x), .int (iI y)] D E [(o, .inr (0, [.int (iI thr), .ref b1, .ref b2, .ref b3, .ref b4, .ref b5, .ref b6, .int (iI (w : Int)), .int (iI (g : Int))])), (b1, .inl (D.2 0, 1024, .inl (fun x_ => zI (ik x_)))), (b2, .inl (D.2 0, 1024, .inl (fun x_ => zI (st x_)))), (b3, .inl (D.2 0, 1024, .inl (fun x_ => zI (kp x_)))), (b4, .inl (D.2 0, 1024, .inl (fun x_ => zI (go x_)))), (b5, .inl (D.2 1, 1024, .inl (fun x_ => iI (dp x_)))), (b6, .inl (D.2 1, 1024, .inl (fun x_ => iI (pt x_))))] tY0 (S := Unit) (fun u_ => True) (fun u_ => some (.int (iI 0))) (fun u_ => [(o, .inr (0, [.int (iI 1), .ref b1, .ref b2, .ref b3, .ref b4, .ref b5, .ref b6, .int (iI (w : Int)), .int (iI (g : Int))])), (b1, .inl (D.2 0, 1024, .inl (fun x_ => zI (ik x_)))), (b2, .inl (D.2 0, 1024, .inl (fun x_ => zI (st x_)))), (b3, .inl (D.2 0, 1024, .inl (fun x_ => zI (kp x_)))), (b4, .inl (D.2 0, 1024, .inl (fun x_ => zI (go x_)))), (b5, .inl (D.2 1, 1024, .inl (fun x_ => iI (dp x_)))), (b6, .inl (D.2 1, 1024, .inl (fun x_ => iI (pt x_))))]) := by
  refine tu_met (by decide +kernel) (Nat.le_of_ble_eq_true rfl) ?_
  intro p0 e0 s0 m0 below meth c0 A ls args Q hag hQ C hK hX hY hP hD hA hAe hl
  obtain ⟨kx, kb, hml, hown, hts, -⟩ := id C
  have hS : va_S A s0.heap s0.heap [] := va_S.rf
  have hl : lv_has ls 3 [(0, .ref o), (1, .int (iI x)), (2, .int (iI y))] := hl
  have hwg := wg_le hw hg
  refine lv_aload_n kx kb dX3_partSize_0 rfl (lv_at hl 0 rfl) ?_
  refine lv_iload_n kx kb dX3_partSize_1 rfl (lv_at hl 1 rfl) ?_
  refine lv_iload_n kx kb dX3_partSize_2 rfl (lv_at hl 2 rfl) ?_
  refine t_callV (wr := []) C (met_X3_cell l D E o b1 b2 b3 b4 b5 b6 thr w g ik st kp go dp pt x y (by first | assumption | omega) (by first | assumption | omega) (by first | assumption | omega) (by first | assumption | omega)) (cwV 2 hts (lw_V q1418 q1420 qs25 q62 q1421) rfl rfl rfl (by decide +kernel) ⟨Nat.le_of_ble_eq_true rfl, Nat.le_of_ble_eq_true rfl⟩) (va_recv hK hP (ci := 0) (q0 := 0) rfl rfl) hK hX hP hD hS hA [0, 1, 2, 3, 4, 5, 6] [] rfl rfl (by decide) (by decide) (by decide) tYb_0 (fun _ _ _ => trivial) rfl hl.1 rfl (Nat.le_of_ble_eq_true rfl) dX3_partSize_3 ⟨(show 0 ≤ 0 from by omega), (show 0 ≤ 0 from by omega)⟩ (fun u_ H locs hp hP hD hS => ?_)
  obtain ⟨t2_1, rfl⟩ : ∃ z, z = u_ := ⟨_, rfl⟩
  have hc3_1 : t2_1 = if isBd w g x y then 0 else 1 := hp
  subst hc3_1
  have hP : va_P D.1 clAll [(o, .inr (0, [.int (iI (if isBd w g x y then 0 else 1)), .ref b1, .ref b2, .ref b3, .ref b4, .ref b5, .ref b6, .int (iI (w : Int)), .int (iI (g : Int))])), (b1, .inl (D.2 0, 1024, .inl (fun x_ => zI (ik x_)))), (b2, .inl (D.2 0, 1024, .inl (fun x_ => zI (st x_)))), (b3, .inl (D.2 0, 1024, .inl (fun x_ => zI (kp x_)))), (b4, .inl (D.2 0, 1024, .inl (fun x_ => zI (go x_)))), (b5, .inl (D.2 1, 1024, .inl (fun x_ => iI (dp x_)))), (b6, .inl (D.2 1, 1024, .inl (fun x_ => iI (pt x_))))] H := hP
  have hD : va_D A [(o, .inr (0, [.int (iI (if isBd w g x y then 0 else 1)), .ref b1, .ref b2, .ref b3, .ref b4, .ref b5, .ref b6, .int (iI (w : Int)), .int (iI (g : Int))])), (b1, .inl (D.2 0, 1024, .inl (fun x_ => zI (ik x_)))), (b2, .inl (D.2 0, 1024, .inl (fun x_ => zI (st x_)))), (b3, .inl (D.2 0, 1024, .inl (fun x_ => zI (kp x_)))), (b4, .inl (D.2 0, 1024, .inl (fun x_ => zI (go x_)))), (b5, .inl (D.2 1, 1024, .inl (fun x_ => iI (dp x_)))), (b6, .inl (D.2 1, 1024, .inl (fun x_ => iI (pt x_))))] := hD
  refine W.eq (g2 := F0 m0 6 ls [.int (zI (isBd w g x y))]) rfl ?_
  refine tz_if_eq (tgt := 24) kx kb dX3_partSize_6 (by decide) (fun h6 => ?_) (fun h6 => ?_)
  · simp only [isBd_t, isBd_f] at h6
    rw [show ((if isBd w g x y then 0 else 1)) = (1 : Int) from by rw [(isBd_f _ _ _ _).mpr h6]; rfl] at hP hD
    have hP : va_P D.1 clAll [(o, .inr (0, [.int (iI 1), .ref b1, .ref b2, .ref b3, .ref b4, .ref b5, .ref b6, .int (iI (w : Int)), .int (iI (g : Int))])), (b1, .inl (D.2 0, 1024, .inl (fun x_ => zI (ik x_)))), (b2, .inl (D.2 0, 1024, .inl (fun x_ => zI (st x_)))), (b3, .inl (D.2 0, 1024, .inl (fun x_ => zI (kp x_)))), (b4, .inl (D.2 0, 1024, .inl (fun x_ => zI (go x_)))), (b5, .inl (D.2 1, 1024, .inl (fun x_ => iI (dp x_)))), (b6, .inl (D.2 1, 1024, .inl (fun x_ => iI (pt x_))))] H := hP
    have hD : va_D A [(o, .inr (0, [.int (iI 1), .ref b1, .ref b2, .ref b3, .ref b4, .ref b5, .ref b6, .int (iI (w : Int)), .int (iI (g : Int))])), (b1, .inl (D.2 0, 1024, .inl (fun x_ => zI (ik x_)))), (b2, .inl (D.2 0, 1024, .inl (fun x_ => zI (st x_)))), (b3, .inl (D.2 0, 1024, .inl (fun x_ => zI (kp x_)))), (b4, .inl (D.2 0, 1024, .inl (fun x_ => zI (go x_)))), (b5, .inl (D.2 1, 1024, .inl (fun x_ => iI (dp x_)))), (b6, .inl (D.2 1, 1024, .inl (fun x_ => iI (pt x_))))] := hD
    refine lv_iconst (v := iI 0) kx kb dX3_partSize_24 rfl ?_
    subst hQ
    exact tm_iret C () trivial hP hD hS (show 0 ≤ 0 from by omega) (show 0 ≤ 0 from by omega) rfl rfl dX3_partSize_25
  · simp only [isBd_t] at h6; exact absurd h6 hv
set_option maxHeartbeats 4000000 in
set_option maxRecDepth 100000 in
theorem met_X3_fill_ok (l : Launch) (D : TG) (E : TE) (o : Nat) (b1 : Nat) (b2 : Nat) (b3 : Nat) (b4 : Nat) (b5 : Nat) (b6 : Nat) (thr : Int) (w : Nat) (g : Nat) (ik : Nat → Bool) (st : Nat → Bool) (kp : Nat → Bool) (go : Nat → Bool) (dp : Nat → Int) (pt : Nat → Int) (x : Int) (y : Int) (hw : 1 ≤ w ∧ w ≤ 32) (hg : 1 ≤ g ∧ g ≤ 32) (hv : 0 ≤ x ∧ x < w ∧ 0 ≤ y ∧ y < g) : tMet l yX3_fill cX3_fill 5 (some .int) 3 71 (0) (0) [.ref o, .int (iI x), .int (iI y)] D E [(o, .inr (0, [.int (iI thr), .ref b1, .ref b2, .ref b3, .ref b4, .ref b5, .ref b6, .int (iI (w : Int)), .int (iI (g : Int))])), (b1, .inl (D.2 0, 1024, .inl (fun x_ => zI (ik x_)))), (b2, .inl (D.2 0, 1024, .inl (fun x_ => zI (st x_)))), (b3, .inl (D.2 0, 1024, .inl (fun x_ => zI (kp x_)))), (b4, .inl (D.2 0, 1024, .inl (fun x_ => zI (go x_)))), (b5, .inl (D.2 1, 1024, .inl (fun x_ => iI (dp x_)))), (b6, .inl (D.2 1, 1024, .inl (fun x_ => iI (pt x_))))] tY0 (S := (Nat → Bool) × (Nat → Int)) (fun u_ => u_.1 = if ik (cel w x y) then ik else filF w g ik (cel w x y)) (fun u_ => some (.int (iI (if ik (cel w x y) then 0 else ((sizN w g ik false (lbI w g ik false (cel w x y)) : Nat) : Int))))) (fun u_ => [(o, .inr (0, [.int (iI 0), .ref b1, .ref b2, .ref b3, .ref b4, .ref b5, .ref b6, .int (iI (w : Int)), .int (iI (g : Int))])), (b1, .inl (D.2 0, 1024, .inl (fun x_ => zI (u_.1 x_)))), (b2, .inl (D.2 0, 1024, .inl (fun x_ => zI (st x_)))), (b3, .inl (D.2 0, 1024, .inl (fun x_ => zI (kp x_)))), (b4, .inl (D.2 0, 1024, .inl (fun x_ => zI (go x_)))), (b5, .inl (D.2 1, 1024, .inl (fun x_ => iI (dp x_)))), (b6, .inl (D.2 1, 1024, .inl (fun x_ => iI (u_.2 x_))))]) := by
  refine tu_met (by decide +kernel) (Nat.le_of_ble_eq_true rfl) ?_
  intro p0 e0 s0 m0 below meth c0 A ls args Q hag hQ C hK hX hY hP hD hA hAe hl
  obtain ⟨kx, kb, hml, hown, hts, -⟩ := id C
  have hS : va_S A s0.heap s0.heap [] := va_S.rf
  have hl : lv_has ls 5 [(0, .ref o), (1, .int (iI x)), (2, .int (iI y))] := hl
  have hwg := wg_le hw hg
  refine lv_aload_n kx kb dX3_fill_0 rfl (lv_at hl 0 rfl) ?_
  refine lv_iload_n kx kb dX3_fill_1 rfl (lv_at hl 1 rfl) ?_
  refine lv_iload_n kx kb dX3_fill_2 rfl (lv_at hl 2 rfl) ?_
  refine t_callV (wr := []) C (met_X3_cell l D E o b1 b2 b3 b4 b5 b6 thr w g ik st kp go dp pt x y (by first | assumption | omega) (by first | assumption | omega) (by first | assumption | omega) (by first | assumption | omega)) (cwV 2 hts (lw_V q1418 q1420 qs25 q62 q1421) rfl rfl rfl (by decide +kernel) ⟨Nat.le_of_ble_eq_true rfl, Nat.le_of_ble_eq_true rfl⟩) (va_recv hK hP (ci := 0) (q0 := 0) rfl rfl) hK hX hP hD hS hA [0, 1, 2, 3, 4, 5, 6] [] rfl rfl (by decide) (by decide) (by decide) tYb_0 (fun _ _ _ => trivial) rfl hl.1 rfl (Nat.le_of_ble_eq_true rfl) dX3_fill_3 ⟨(show 0 ≤ 0 from by omega), (show 0 ≤ 0 from by omega)⟩ (fun u_ H locs hp hP hD hS => ?_)
  obtain ⟨t2_1, rfl⟩ : ∃ z, z = u_ := ⟨_, rfl⟩
  have hc3_1 : t2_1 = if isBd w g x y then 0 else 1 := hp
  subst hc3_1
  have hP : va_P D.1 clAll [(o, .inr (0, [.int (iI (if isBd w g x y then 0 else 1)), .ref b1, .ref b2, .ref b3, .ref b4, .ref b5, .ref b6, .int (iI (w : Int)), .int (iI (g : Int))])), (b1, .inl (D.2 0, 1024, .inl (fun x_ => zI (ik x_)))), (b2, .inl (D.2 0, 1024, .inl (fun x_ => zI (st x_)))), (b3, .inl (D.2 0, 1024, .inl (fun x_ => zI (kp x_)))), (b4, .inl (D.2 0, 1024, .inl (fun x_ => zI (go x_)))), (b5, .inl (D.2 1, 1024, .inl (fun x_ => iI (dp x_)))), (b6, .inl (D.2 1, 1024, .inl (fun x_ => iI (pt x_))))] H := hP
  have hD : va_D A [(o, .inr (0, [.int (iI (if isBd w g x y then 0 else 1)), .ref b1, .ref b2, .ref b3, .ref b4, .ref b5, .ref b6, .int (iI (w : Int)), .int (iI (g : Int))])), (b1, .inl (D.2 0, 1024, .inl (fun x_ => zI (ik x_)))), (b2, .inl (D.2 0, 1024, .inl (fun x_ => zI (st x_)))), (b3, .inl (D.2 0, 1024, .inl (fun x_ => zI (kp x_)))), (b4, .inl (D.2 0, 1024, .inl (fun x_ => zI (go x_)))), (b5, .inl (D.2 1, 1024, .inl (fun x_ => iI (dp x_)))), (b6, .inl (D.2 1, 1024, .inl (fun x_ => iI (pt x_))))] := hD
  refine W.eq (g2 := F0 m0 6 ls [.int (zI (isBd w g x y))]) rfl ?_
  refine tz_if_eq (tgt := 18) kx kb dX3_fill_6 (by decide) (fun h6 => ?_) (fun h6 => ?_)
  · simp only [isBd_f] at h6; exact absurd hv h6
  · simp only [isBd_t, isBd_f] at h6
    rw [show ((if isBd w g x y then 0 else 1)) = (0 : Int) from by rw [if_pos ((isBd_t _ _ _ _).mpr h6)]] at hP hD
    have hP : va_P D.1 clAll [(o, .inr (0, [.int (iI 0), .ref b1, .ref b2, .ref b3, .ref b4, .ref b5, .ref b6, .int (iI (w : Int)), .int (iI (g : Int))])), (b1, .inl (D.2 0, 1024, .inl (fun x_ => zI (ik x_)))), (b2, .inl (D.2 0, 1024, .inl (fun x_ => zI (st x_)))), (b3, .inl (D.2 0, 1024, .inl (fun x_ => zI (kp x_)))), (b4, .inl (D.2 0, 1024, .inl (fun x_ => zI (go x_)))), (b5, .inl (D.2 1, 1024, .inl (fun x_ => iI (dp x_)))), (b6, .inl (D.2 1, 1024, .inl (fun x_ => iI (pt x_))))] H := hP
    have hD : va_D A [(o, .inr (0, [.int (iI 0), .ref b1, .ref b2, .ref b3, .ref b4, .ref b5, .ref b6, .int (iI (w : Int)), .int (iI (g : Int))])), (b1, .inl (D.2 0, 1024, .inl (fun x_ => zI (ik x_)))), (b2, .inl (D.2 0, 1024, .inl (fun x_ => zI (st x_)))), (b3, .inl (D.2 0, 1024, .inl (fun x_ => zI (kp x_)))), (b4, .inl (D.2 0, 1024, .inl (fun x_ => zI (go x_)))), (b5, .inl (D.2 1, 1024, .inl (fun x_ => iI (dp x_)))), (b6, .inl (D.2 1, 1024, .inl (fun x_ => iI (pt x_))))] := hD
    refine lv_aload_n kx kb dX3_fill_9 rfl (lv_at hl 0 rfl) ?_
    refine lv_iload_n kx kb dX3_fill_10 rfl (lv_at hl 1 rfl) ?_
    refine lv_iload_n kx kb dX3_fill_11 rfl (lv_at hl 2 rfl) ?_
    refine t_callRV C (met_X3_isInk l D E o b1 b2 b3 b4 b5 b6 0 w g ik st kp go dp pt x y (by first | assumption | omega) (by first | assumption | omega) (by first | assumption | omega) (by first | assumption | omega)) (cwV 2 hts (lw_V q1459 q1461 qs31 q62 q1462) rfl rfl rfl (by decide +kernel) ⟨Nat.le_of_ble_eq_true rfl, Nat.le_of_ble_eq_true rfl⟩) (va_recv hK hP (ci := 0) (q0 := 0) rfl rfl) hK hX hP hD hS hA [0, 1, 2, 3, 4, 5, 6] rfl (by decide) tYb_0 (fun _ _ _ => trivial) rfl hl.1 rfl (Nat.le_of_ble_eq_true rfl) dX3_fill_12 ⟨(show 0 ≤ 0 from by omega), (show 0 ≤ 0 from by omega)⟩ ?_
    refine W.eq (g2 := F0 m0 15 ls [.int (zI (isK w g ik x y))]) rfl ?_
    refine tz_if_eq (tgt := 20) kx kb dX3_fill_15 (by decide) (fun h15 => ?_) (fun h15 => ?_)
    · have hike : ik (cel w x y) = false := by simpa [isK, (isBd_t _ _ _ _).mpr h6] using h15
      refine lv_aload_n kx kb dX3_fill_20 rfl (lv_at hl 0 rfl) ?_
      refine lv_iconst (v := iI 0) kx kb dX3_fill_21 rfl ?_
      refine t_callV (wr := []) C (met_X3_spreads l D E o b1 b2 b3 b4 b5 b6 0 w g ik st kp go dp pt false (by first | assumption | omega) (by first | assumption | omega)) (cwV 1 hts (lw_V q1463 q1465 qs32 q62 q1466) rfl rfl rfl (by decide +kernel) ⟨Nat.le_of_ble_eq_true rfl, Nat.le_of_ble_eq_true rfl⟩) (va_recv hK hP (ci := 0) (q0 := 0) rfl rfl) hK hX hP hD hS hA [0, 1, 2, 3, 4, 5, 6] [] rfl rfl (by decide) (by decide) (by decide) tYb_0 (fun _ _ _ => trivial) rfl hl.1 rfl (Nat.le_of_ble_eq_true rfl) dX3_fill_22 ⟨(show 0 ≤ 0 from by omega), (show 0 ≤ 0 from by omega)⟩ (fun u_ H locs hp hP hD hS => ?_)
      obtain ⟨pt2_2, rfl⟩ : ∃ z, z = u_ := ⟨_, rfl⟩
      have hc22_1 : ∀ j_, j_ < w * g → pt2_2 j_ = lbI w g ik false j_ := hp
      have hP : va_P D.1 clAll [(o, .inr (0, [.int (iI 0), .ref b1, .ref b2, .ref b3, .ref b4, .ref b5, .ref b6, .int (iI (w : Int)), .int (iI (g : Int))])), (b1, .inl (D.2 0, 1024, .inl (fun x_ => zI (ik x_)))), (b2, .inl (D.2 0, 1024, .inl (fun x_ => zI (st x_)))), (b3, .inl (D.2 0, 1024, .inl (fun x_ => zI (kp x_)))), (b4, .inl (D.2 0, 1024, .inl (fun x_ => zI (go x_)))), (b5, .inl (D.2 1, 1024, .inl (fun x_ => iI (dp x_)))), (b6, .inl (D.2 1, 1024, .inl (fun x_ => iI (pt2_2 x_))))] H := hP
      have hD : va_D A [(o, .inr (0, [.int (iI 0), .ref b1, .ref b2, .ref b3, .ref b4, .ref b5, .ref b6, .int (iI (w : Int)), .int (iI (g : Int))])), (b1, .inl (D.2 0, 1024, .inl (fun x_ => zI (ik x_)))), (b2, .inl (D.2 0, 1024, .inl (fun x_ => zI (st x_)))), (b3, .inl (D.2 0, 1024, .inl (fun x_ => zI (kp x_)))), (b4, .inl (D.2 0, 1024, .inl (fun x_ => zI (go x_)))), (b5, .inl (D.2 1, 1024, .inl (fun x_ => iI (dp x_)))), (b6, .inl (D.2 1, 1024, .inl (fun x_ => iI (pt2_2 x_))))] := hD
      refine W.eq (g2 := F0 m0 25 ls []) rfl ?_
      refine lv_aload_n kx kb dX3_fill_25 rfl (lv_at hl 0 rfl) ?_
      refine va_get (D := D.1) (ci := 0) (v := .ref b6) (C := RX3) (T := TX3) (N := 9) kx kb hts in_X3 hown hK hP 0 rfl rfl 6 (by decide) (hts _ q1376) (fun _ h9 => h9) rfl dX3_fill_26 ?_
      refine lv_iload_n kx kb dX3_fill_29 rfl (lv_at hl 2 rfl) ?_
      refine lv_aload_n kx kb dX3_fill_30 rfl (lv_at hl 0 rfl) ?_
      refine va_get (D := D.1) (ci := 0) (v := .int (iI (w : Int))) (C := RX3) (T := TX3) (N := 9) kx kb hts in_X3 hown hK hP 0 rfl rfl 7 (by decide) (hts _ q1377) (fun _ h9 => h9) rfl dX3_fill_31 ?_
      refine ti_imul kx kb dX3_fill_34 ?_
      refine lv_iload_n kx kb dX3_fill_35 rfl (lv_at hl 1 rfl) ?_
      refine ti_iadd kx kb dX3_fill_36 ?_
      have hq := cel_int h6
      refine ta_iald C hK hP 6 rfl (cel w x y) (by omega) dX3_fill_37 ?_
      have hlc := hc22_1 _ hq.2
      have hrc := lbI_rng (ik := ik) (b := false) hq.2
      rw [← hlc] at hrc
      refine lv_istore_n (lv' := [(3, .int (iI (pt2_2 (cel w x y)))), (0, .ref o), (1, .int (iI x)), (2, .int (iI y))]) kx kb dX3_fill_38 rfl hl (by decide) rfl (fun ls hl => ?_)
      refine lv_iconst (v := iI 0) kx kb dX3_fill_39 rfl ?_
      refine lv_istore (lv' := [(4, .int (iI 0)), (3, .int (iI (pt2_2 (cel w x y)))), (0, .ref o), (1, .int (iI x)), (2, .int (iI y))]) kx kb dX3_fill_40 hl (by decide) rfl (fun ls hl => ?_)
      have cut42 : ∀ (fuel : Nat) (i : Nat) (k1 : Nat → Bool), (i ≤ w * g) → (k1 = flw (fun j => ik j || decide (lbI w g ik false j = lbI w g ik false (cel w x y))) ik i) → (w * g - i) < fuel → ∀ (H : Heap) (locs : List Loc), va_P D.1 clAll [(o, .inr (0, [.int (iI 0), .ref b1, .ref b2, .ref b3, .ref b4, .ref b5, .ref b6, .int (iI (w : Int)), .int (iI (g : Int))])), (b1, .inl (D.2 0, 1024, .inl (fun x_ => zI (k1 x_)))), (b2, .inl (D.2 0, 1024, .inl (fun x_ => zI (st x_)))), (b3, .inl (D.2 0, 1024, .inl (fun x_ => zI (kp x_)))), (b4, .inl (D.2 0, 1024, .inl (fun x_ => zI (go x_)))), (b5, .inl (D.2 1, 1024, .inl (fun x_ => iI (dp x_)))), (b6, .inl (D.2 1, 1024, .inl (fun x_ => iI (pt2_2 x_))))] H → va_D A [(o, .inr (0, [.int (iI 0), .ref b1, .ref b2, .ref b3, .ref b4, .ref b5, .ref b6, .int (iI (w : Int)), .int (iI (g : Int))])), (b1, .inl (D.2 0, 1024, .inl (fun x_ => zI (k1 x_)))), (b2, .inl (D.2 0, 1024, .inl (fun x_ => zI (st x_)))), (b3, .inl (D.2 0, 1024, .inl (fun x_ => zI (kp x_)))), (b4, .inl (D.2 0, 1024, .inl (fun x_ => zI (go x_)))), (b5, .inl (D.2 1, 1024, .inl (fun x_ => iI (dp x_)))), (b6, .inl (D.2 1, 1024, .inl (fun x_ => iI (pt2_2 x_))))] → va_S A s0.heap H locs → ∀ ls : Array Slot, lv_has ls 5 [(4, .int (iI (i : Int))), (3, .int (iI (pt2_2 (cel w x y)))), (0, .ref o), (1, .int (iI x)), (2, .int (iI y))] → W p0 l e0 ({ frames := 3, cells := 0, slots := 0, locals := 71 } : Room) s0 m0 args below meth c0 H locs (0) (0) Q (F0 m0 42 ls []) := by
        intro fuel
        induction fuel with
        | zero =>
          intro i k1 hi hk1 hfuel42
          exact absurd hfuel42 (Nat.not_lt_zero _)
        | succ fuel ih42 =>
          intro i k1 hi hk1 hfuel42 H locs hP hD hS ls hl
          have hki : k1 i = ik i := by rw [hk1, flw_at]
          refine lv_iload kx kb dX3_fill_42 (lv_at hl 0 rfl) ?_
          refine lv_aload_n kx kb dX3_fill_44 rfl (lv_at hl 2 rfl) ?_
          refine t_callRV C (met_X3_cells l D E o b1 b2 b3 b4 b5 b6 0 w g k1 st kp go dp pt2_2 (by first | assumption | omega) (by first | assumption | omega)) (cwV 0 hts (lw_V q1467 q1469 qs33 q62 q1470) rfl rfl rfl (by decide +kernel) ⟨Nat.le_of_ble_eq_true rfl, Nat.le_of_ble_eq_true rfl⟩) (va_recv hK hP (ci := 0) (q0 := 0) rfl rfl) hK hX hP hD hS hA [0, 1, 2, 3, 4, 5, 6] rfl (by decide) tYb_0 (fun _ _ _ => trivial) rfl hl.1 rfl (Nat.le_of_ble_eq_true rfl) dX3_fill_45 ⟨(show 0 ≤ 0 from by omega), (show 0 ≤ 0 from by omega)⟩ ?_
          refine W.eq (g2 := F0 m0 48 ls [.int (iI ((w * g : Nat) : Int)), .int (iI (i : Int))]) rfl ?_
          refine ti_icmp_ge (tgt := 83) kx kb (by omega) dX3_fill_48 (by decide) (fun h48 => ?_) (fun h48 => ?_)
          · refine lv_aload_n kx kb dX3_fill_83 rfl (lv_at hl 2 rfl) ?_
            refine lv_iload_n kx kb dX3_fill_84 rfl (lv_at hl 1 rfl) ?_
            refine t_callRV C (met_X3_sizeOf l D E o b1 b2 b3 b4 b5 b6 0 w g k1 st kp go dp pt2_2 (pt2_2 (cel w x y)) (by first | assumption | omega) (by first | assumption | omega) (by omega) (fun j hj => by have := hc22_1 j hj; have := lbI_rng (ik := ik) (b := false) hj; omega)) (cwV 1 hts (lw_V q1477 q1479 qs34 q62 q1480) rfl rfl rfl (by decide +kernel) ⟨Nat.le_of_ble_eq_true rfl, Nat.le_of_ble_eq_true rfl⟩) (va_recv hK hP (ci := 0) (q0 := 0) rfl rfl) hK hX hP hD hS hA [0, 1, 2, 3, 4, 5, 6] rfl (by decide) tYb_0 (fun _ _ _ => trivial) rfl hl.1 rfl (Nat.le_of_ble_eq_true rfl) dX3_fill_85 ⟨(show 0 ≤ 0 from by omega), (show 0 ≤ 0 from by omega)⟩ ?_
            refine W.eq (g2 := F0 m0 88 ls [.int (iI ((fb_ct (fun j => decide (pt2_2 j = (pt2_2 (cel w x y)))) (w * g) : Nat) : Int))]) rfl ?_
            subst hQ
            exact tm_iret C (k1, pt2_2) (by rw [hike]; simp only [Bool.false_eq_true, if_false]; rw [hk1, show i = w * g from by omega]; rfl) hP hD hS (show 0 ≤ 0 from by omega) (show 0 ≤ 0 from by omega) (by rw [hike]; simp only [Bool.false_eq_true, if_false]; rw [← sizN_of hc22_1, ← hlc]) rfl dX3_fill_88
          · refine lv_aload_n kx kb dX3_fill_51 rfl (lv_at hl 2 rfl) ?_
            refine va_get (D := D.1) (ci := 0) (v := .ref b1) (C := RX3) (T := TX3) (N := 9) kx kb hts in_X3 hown hK hP 0 rfl rfl 1 (by decide) (hts _ q1371) (fun _ h9 => h9) rfl dX3_fill_52 ?_
            refine lv_iload kx kb dX3_fill_55 (lv_at hl 0 rfl) ?_
            refine lv_dup2_11 kx kb dX3_fill_57 rfl rfl ?_
            refine ta_zald C hK hP 1 rfl i (by omega) dX3_fill_58 ?_
            refine lv_aload_n kx kb dX3_fill_59 rfl (lv_at hl 2 rfl) ?_
            refine va_get (D := D.1) (ci := 0) (v := .ref b6) (C := RX3) (T := TX3) (N := 9) kx kb hts in_X3 hown hK hP 0 rfl rfl 6 (by decide) (hts _ q1376) (fun _ h9 => h9) rfl dX3_fill_60 ?_
            refine lv_iload kx kb dX3_fill_63 (lv_at hl 0 rfl) ?_
            refine ta_iald C hK hP 6 rfl i (by omega) dX3_fill_65 ?_
            have hpi := hc22_1 i (by omega)
            have hrl := lbI_rng (ik := ik) (b := false) (show i < w * g by omega)
            rw [← hpi] at hrl
            refine lv_iload_n kx kb dX3_fill_66 rfl (lv_at hl 1 rfl) ?_
            refine ti_icmp_ne (tgt := 74) kx kb (by omega) dX3_fill_67 (by decide) (fun h67 => ?_) (fun h67 => ?_)
            · refine lv_iconst (v := iI 0) kx kb dX3_fill_74 rfl ?_
              refine W.eq (g2 := F0 m0 75 ls [.int (zI false), .int (zI (k1 i)), .int (iI (i : Int)), .ref b1]) rfl ?_
              refine tz_ior kx kb dX3_fill_75 ?_
              refine ta_zast C hK hP hD hS 1 rfl i (by omega) dX3_fill_76 (fun H locs hP hD hS => ?_)
              have hP : va_P D.1 clAll [(o, .inr (0, [.int (iI 0), .ref b1, .ref b2, .ref b3, .ref b4, .ref b5, .ref b6, .int (iI (w : Int)), .int (iI (g : Int))])), (b1, .inl (D.2 0, 1024, .inl (fun x_ => zI ((va_up k1 i ((k1 i) || false)) x_)))), (b2, .inl (D.2 0, 1024, .inl (fun x_ => zI (st x_)))), (b3, .inl (D.2 0, 1024, .inl (fun x_ => zI (kp x_)))), (b4, .inl (D.2 0, 1024, .inl (fun x_ => zI (go x_)))), (b5, .inl (D.2 1, 1024, .inl (fun x_ => iI (dp x_)))), (b6, .inl (D.2 1, 1024, .inl (fun x_ => iI (pt2_2 x_))))] H := hP
              have hD : va_D A [(o, .inr (0, [.int (iI 0), .ref b1, .ref b2, .ref b3, .ref b4, .ref b5, .ref b6, .int (iI (w : Int)), .int (iI (g : Int))])), (b1, .inl (D.2 0, 1024, .inl (fun x_ => zI ((va_up k1 i ((k1 i) || false)) x_)))), (b2, .inl (D.2 0, 1024, .inl (fun x_ => zI (st x_)))), (b3, .inl (D.2 0, 1024, .inl (fun x_ => zI (kp x_)))), (b4, .inl (D.2 0, 1024, .inl (fun x_ => zI (go x_)))), (b5, .inl (D.2 1, 1024, .inl (fun x_ => iI (dp x_)))), (b6, .inl (D.2 1, 1024, .inl (fun x_ => iI (pt2_2 x_))))] := hD
              refine ti_iinc (a := (i : Int)) (lv' := [(4, .int (iI ((i : Int) + 1))), (3, .int (iI (pt2_2 (cel w x y)))), (0, .ref o), (1, .int (iI x)), (2, .int (iI y))]) kx kb dX3_fill_77 hl (k := 0) rfl (by decide) rfl (fun ls hl => ?_)
              refine lv_goto (tgt := 42) kx kb dX3_fill_80 (by decide) ?_
              exact ih42 (i + 1) (va_up k1 i ((k1 i) || false)) (by omega) (by rw [← flw_s, ← hk1]; exact congrArg _ (by rw [hpi, hlc] at h67; simp [hki, h67])) (by omega) H locs hP hD hS ls hl
            · refine lv_iconst (v := iI 1) kx kb dX3_fill_70 rfl ?_
              refine lv_goto (tgt := 75) kx kb dX3_fill_71 (by decide) ?_
              refine W.eq (g2 := F0 m0 75 ls [.int (zI true), .int (zI (k1 i)), .int (iI (i : Int)), .ref b1]) rfl ?_
              refine tz_ior kx kb dX3_fill_75 ?_
              refine ta_zast C hK hP hD hS 1 rfl i (by omega) dX3_fill_76 (fun H locs hP hD hS => ?_)
              have hP : va_P D.1 clAll [(o, .inr (0, [.int (iI 0), .ref b1, .ref b2, .ref b3, .ref b4, .ref b5, .ref b6, .int (iI (w : Int)), .int (iI (g : Int))])), (b1, .inl (D.2 0, 1024, .inl (fun x_ => zI ((va_up k1 i ((k1 i) || true)) x_)))), (b2, .inl (D.2 0, 1024, .inl (fun x_ => zI (st x_)))), (b3, .inl (D.2 0, 1024, .inl (fun x_ => zI (kp x_)))), (b4, .inl (D.2 0, 1024, .inl (fun x_ => zI (go x_)))), (b5, .inl (D.2 1, 1024, .inl (fun x_ => iI (dp x_)))), (b6, .inl (D.2 1, 1024, .inl (fun x_ => iI (pt2_2 x_))))] H := hP
              have hD : va_D A [(o, .inr (0, [.int (iI 0), .ref b1, .ref b2, .ref b3, .ref b4, .ref b5, .ref b6, .int (iI (w : Int)), .int (iI (g : Int))])), (b1, .inl (D.2 0, 1024, .inl (fun x_ => zI ((va_up k1 i ((k1 i) || true)) x_)))), (b2, .inl (D.2 0, 1024, .inl (fun x_ => zI (st x_)))), (b3, .inl (D.2 0, 1024, .inl (fun x_ => zI (kp x_)))), (b4, .inl (D.2 0, 1024, .inl (fun x_ => zI (go x_)))), (b5, .inl (D.2 1, 1024, .inl (fun x_ => iI (dp x_)))), (b6, .inl (D.2 1, 1024, .inl (fun x_ => iI (pt2_2 x_))))] := hD
              refine ti_iinc (a := (i : Int)) (lv' := [(4, .int (iI ((i : Int) + 1))), (3, .int (iI (pt2_2 (cel w x y)))), (0, .ref o), (1, .int (iI x)), (2, .int (iI y))]) kx kb dX3_fill_77 hl (k := 0) rfl (by decide) rfl (fun ls hl => ?_)
              refine lv_goto (tgt := 42) kx kb dX3_fill_80 (by decide) ?_
              exact ih42 (i + 1) (va_up k1 i ((k1 i) || true)) (by omega) (by rw [← flw_s, ← hk1]; exact congrArg _ (by rw [hpi, hlc] at h67; simp [hki, h67])) (by omega) H locs hP hD hS ls hl
      exact cut42 ((w * g - 0) + 1) 0 ik (by omega) (by rw [flw_0]) (Nat.lt_succ_self _) H locs hP hD hS ls hl
    · have hike : ik (cel w x y) = true := by simpa [isK, (isBd_t _ _ _ _).mpr h6] using h15
      refine lv_iconst (v := iI 0) kx kb dX3_fill_18 rfl ?_
      subst hQ
      exact tm_iret C (ik, pt) (by rw [hike]; rfl) hP hD hS (show 0 ≤ 0 from by omega) (show 0 ≤ 0 from by omega) (by rw [hike]; rfl) rfl dX3_fill_19
set_option maxHeartbeats 4000000 in
set_option maxRecDepth 100000 in
theorem met_X3_fill_no (l : Launch) (D : TG) (E : TE) (o : Nat) (b1 : Nat) (b2 : Nat) (b3 : Nat) (b4 : Nat) (b5 : Nat) (b6 : Nat) (thr : Int) (w : Nat) (g : Nat) (ik : Nat → Bool) (st : Nat → Bool) (kp : Nat → Bool) (go : Nat → Bool) (dp : Nat → Int) (pt : Nat → Int) (x : Int) (y : Int) (hw : 1 ≤ w ∧ w ≤ 32) (hg : 1 ≤ g ∧ g ≤ 32) (rx : -2147483648 ≤ x ∧ x < 2147483648) (ry : -2147483648 ≤ y ∧ y < 2147483648) (hv : ¬ (0 ≤ x ∧ x < w ∧ 0 ≤ y ∧ y < g)) : tMet l yX3_fill cX3_fill 5 (some .int) 3 71 (0) (0) [.ref o, .int (iI x), .int (iI y)] D E [(o, .inr (0, [.int (iI thr), .ref b1, .ref b2, .ref b3, .ref b4, .ref b5, .ref b6, .int (iI (w : Int)), .int (iI (g : Int))])), (b1, .inl (D.2 0, 1024, .inl (fun x_ => zI (ik x_)))), (b2, .inl (D.2 0, 1024, .inl (fun x_ => zI (st x_)))), (b3, .inl (D.2 0, 1024, .inl (fun x_ => zI (kp x_)))), (b4, .inl (D.2 0, 1024, .inl (fun x_ => zI (go x_)))), (b5, .inl (D.2 1, 1024, .inl (fun x_ => iI (dp x_)))), (b6, .inl (D.2 1, 1024, .inl (fun x_ => iI (pt x_))))] tY0 (S := Unit) (fun u_ => True) (fun u_ => some (.int (iI 0))) (fun u_ => [(o, .inr (0, [.int (iI 1), .ref b1, .ref b2, .ref b3, .ref b4, .ref b5, .ref b6, .int (iI (w : Int)), .int (iI (g : Int))])), (b1, .inl (D.2 0, 1024, .inl (fun x_ => zI (ik x_)))), (b2, .inl (D.2 0, 1024, .inl (fun x_ => zI (st x_)))), (b3, .inl (D.2 0, 1024, .inl (fun x_ => zI (kp x_)))), (b4, .inl (D.2 0, 1024, .inl (fun x_ => zI (go x_)))), (b5, .inl (D.2 1, 1024, .inl (fun x_ => iI (dp x_)))), (b6, .inl (D.2 1, 1024, .inl (fun x_ => iI (pt x_))))]) := by
  refine tu_met (by decide +kernel) (Nat.le_of_ble_eq_true rfl) ?_
  intro p0 e0 s0 m0 below meth c0 A ls args Q hag hQ C hK hX hY hP hD hA hAe hl
  obtain ⟨kx, kb, hml, hown, hts, -⟩ := id C
  have hS : va_S A s0.heap s0.heap [] := va_S.rf
  have hl : lv_has ls 5 [(0, .ref o), (1, .int (iI x)), (2, .int (iI y))] := hl
  have hwg := wg_le hw hg
  refine lv_aload_n kx kb dX3_fill_0 rfl (lv_at hl 0 rfl) ?_
  refine lv_iload_n kx kb dX3_fill_1 rfl (lv_at hl 1 rfl) ?_
  refine lv_iload_n kx kb dX3_fill_2 rfl (lv_at hl 2 rfl) ?_
  refine t_callV (wr := []) C (met_X3_cell l D E o b1 b2 b3 b4 b5 b6 thr w g ik st kp go dp pt x y (by first | assumption | omega) (by first | assumption | omega) (by first | assumption | omega) (by first | assumption | omega)) (cwV 2 hts (lw_V q1418 q1420 qs25 q62 q1421) rfl rfl rfl (by decide +kernel) ⟨Nat.le_of_ble_eq_true rfl, Nat.le_of_ble_eq_true rfl⟩) (va_recv hK hP (ci := 0) (q0 := 0) rfl rfl) hK hX hP hD hS hA [0, 1, 2, 3, 4, 5, 6] [] rfl rfl (by decide) (by decide) (by decide) tYb_0 (fun _ _ _ => trivial) rfl hl.1 rfl (Nat.le_of_ble_eq_true rfl) dX3_fill_3 ⟨(show 0 ≤ 0 from by omega), (show 0 ≤ 0 from by omega)⟩ (fun u_ H locs hp hP hD hS => ?_)
  obtain ⟨t2_1, rfl⟩ : ∃ z, z = u_ := ⟨_, rfl⟩
  have hc3_1 : t2_1 = if isBd w g x y then 0 else 1 := hp
  subst hc3_1
  have hP : va_P D.1 clAll [(o, .inr (0, [.int (iI (if isBd w g x y then 0 else 1)), .ref b1, .ref b2, .ref b3, .ref b4, .ref b5, .ref b6, .int (iI (w : Int)), .int (iI (g : Int))])), (b1, .inl (D.2 0, 1024, .inl (fun x_ => zI (ik x_)))), (b2, .inl (D.2 0, 1024, .inl (fun x_ => zI (st x_)))), (b3, .inl (D.2 0, 1024, .inl (fun x_ => zI (kp x_)))), (b4, .inl (D.2 0, 1024, .inl (fun x_ => zI (go x_)))), (b5, .inl (D.2 1, 1024, .inl (fun x_ => iI (dp x_)))), (b6, .inl (D.2 1, 1024, .inl (fun x_ => iI (pt x_))))] H := hP
  have hD : va_D A [(o, .inr (0, [.int (iI (if isBd w g x y then 0 else 1)), .ref b1, .ref b2, .ref b3, .ref b4, .ref b5, .ref b6, .int (iI (w : Int)), .int (iI (g : Int))])), (b1, .inl (D.2 0, 1024, .inl (fun x_ => zI (ik x_)))), (b2, .inl (D.2 0, 1024, .inl (fun x_ => zI (st x_)))), (b3, .inl (D.2 0, 1024, .inl (fun x_ => zI (kp x_)))), (b4, .inl (D.2 0, 1024, .inl (fun x_ => zI (go x_)))), (b5, .inl (D.2 1, 1024, .inl (fun x_ => iI (dp x_)))), (b6, .inl (D.2 1, 1024, .inl (fun x_ => iI (pt x_))))] := hD
  refine W.eq (g2 := F0 m0 6 ls [.int (zI (isBd w g x y))]) rfl ?_
  refine tz_if_eq (tgt := 18) kx kb dX3_fill_6 (by decide) (fun h6 => ?_) (fun h6 => ?_)
  · simp only [isBd_t, isBd_f] at h6
    rw [show ((if isBd w g x y then 0 else 1)) = (1 : Int) from by rw [(isBd_f _ _ _ _).mpr h6]; rfl] at hP hD
    have hP : va_P D.1 clAll [(o, .inr (0, [.int (iI 1), .ref b1, .ref b2, .ref b3, .ref b4, .ref b5, .ref b6, .int (iI (w : Int)), .int (iI (g : Int))])), (b1, .inl (D.2 0, 1024, .inl (fun x_ => zI (ik x_)))), (b2, .inl (D.2 0, 1024, .inl (fun x_ => zI (st x_)))), (b3, .inl (D.2 0, 1024, .inl (fun x_ => zI (kp x_)))), (b4, .inl (D.2 0, 1024, .inl (fun x_ => zI (go x_)))), (b5, .inl (D.2 1, 1024, .inl (fun x_ => iI (dp x_)))), (b6, .inl (D.2 1, 1024, .inl (fun x_ => iI (pt x_))))] H := hP
    have hD : va_D A [(o, .inr (0, [.int (iI 1), .ref b1, .ref b2, .ref b3, .ref b4, .ref b5, .ref b6, .int (iI (w : Int)), .int (iI (g : Int))])), (b1, .inl (D.2 0, 1024, .inl (fun x_ => zI (ik x_)))), (b2, .inl (D.2 0, 1024, .inl (fun x_ => zI (st x_)))), (b3, .inl (D.2 0, 1024, .inl (fun x_ => zI (kp x_)))), (b4, .inl (D.2 0, 1024, .inl (fun x_ => zI (go x_)))), (b5, .inl (D.2 1, 1024, .inl (fun x_ => iI (dp x_)))), (b6, .inl (D.2 1, 1024, .inl (fun x_ => iI (pt x_))))] := hD
    refine lv_iconst (v := iI 0) kx kb dX3_fill_18 rfl ?_
    subst hQ
    exact tm_iret C () trivial hP hD hS (show 0 ≤ 0 from by omega) (show 0 ≤ 0 from by omega) rfl rfl dX3_fill_19
  · simp only [isBd_t] at h6; exact absurd h6 hv
set_option maxHeartbeats 4000000 in
set_option maxRecDepth 100000 in
theorem met_X3_run (l : Launch) (D : TG) (E : TE) (o : Nat) (b1 : Nat) (b2 : Nat) (b3 : Nat) (b4 : Nat) (b5 : Nat) (b6 : Nat) (thr : Int) (w : Nat) (g : Nat) (ik : Nat → Bool) (st : Nat → Bool) (kp : Nat → Bool) (go : Nat → Bool) (dp : Nat → Int) (pt : Nat → Int) (y : Int) (idx : Nat) (hw : 1 ≤ w ∧ w ≤ 32) (hg : 1 ≤ g ∧ g ≤ 32) (hy : 0 ≤ y ∧ y < g) (hidx : idx < rnO w g ik y) : tRd l yX3_run cX3_run 6 (some .int) 4 88 [.ref o, .int (iI y), .int (iI (idx : Int))] D E [(o, .inr (0, [.int (iI thr), .ref b1, .ref b2, .ref b3, .ref b4, .ref b5, .ref b6, .int (iI (w : Int)), .int (iI (g : Int))])), (b1, .inl (D.2 0, 1024, .inl (fun x_ => zI (ik x_)))), (b2, .inl (D.2 0, 1024, .inl (fun x_ => zI (st x_)))), (b3, .inl (D.2 0, 1024, .inl (fun x_ => zI (kp x_)))), (b4, .inl (D.2 0, 1024, .inl (fun x_ => zI (go x_)))), (b5, .inl (D.2 1, 1024, .inl (fun x_ => iI (dp x_)))), (b6, .inl (D.2 1, 1024, .inl (fun x_ => iI (pt x_))))] tY0 (some (.int (iI (100 * ((rnX (rowP w g ik y) idx w : Nat) : Int) + ((rlen (rowP w g ik y) (rnX (rowP w g ik y) idx w) w : Nat) : Int))))) := by
  refine tu_rd (by decide +kernel) (Nat.le_of_ble_eq_true rfl) ?_
  intro p0 e0 s0 m0 below meth c0 A ls args Q hag hQ C hK hX hY hP hD hA hAe hl
  obtain ⟨kx, kb, hml, hown, hts, -⟩ := id C
  have hS : va_S A s0.heap s0.heap [] := va_S.rf
  have hl : lv_has ls 6 [(0, .ref o), (1, .int (iI y)), (2, .int (iI (idx : Int)))] := hl
  have hwg := wg_le hw hg
  have hro : rnO w g ik y = fb_ct (rfst (rowP w g ik y)) w := rnO_r w g ik y w
  have hrl := rnO_le w g ik y
  refine lv_iload_n kx kb dX3_run_0 rfl (lv_at hl 2 rfl) ?_
  refine lv_istore_n (lv' := [(3, .int (iI (idx : Int))), (0, .ref o), (1, .int (iI y)), (2, .int (iI (idx : Int)))]) kx kb dX3_run_1 rfl hl (by decide) rfl (fun ls hl => ?_)
  refine lv_iconst (v := iI 0) kx kb dX3_run_2 rfl ?_
  refine lv_istore (lv' := [(4, .int (iI 0)), (3, .int (iI (idx : Int))), (0, .ref o), (1, .int (iI y)), (2, .int (iI (idx : Int)))]) kx kb dX3_run_3 hl (by decide) rfl (fun ls hl => ?_)
  have cut5 : ∀ (fuel : Nat) (i : Nat) (n : Int), (i ≤ w) → (0 ≤ n ∧ n = (idx : Int) - ((fb_ct (rfst (rowP w g ik y)) i : Nat) : Int)) → (w - i) < fuel → ∀ ls : Array Slot, lv_has ls 6 [(4, .int (iI (i : Int))), (3, .int (iI n)), (0, .ref o), (1, .int (iI y)), (2, .int (iI (idx : Int)))] → W p0 l e0 ({ frames := 4, cells := 0, slots := 0, locals := 88 } : Room) s0 m0 args below meth c0 s0.heap [] (0) (0) Q (F0 m0 5 ls []) := by
    intro fuel
    induction fuel with
    | zero =>
      intro i n hi hn hfuel5
      exact absurd hfuel5 (Nat.not_lt_zero _)
    | succ fuel ih5 =>
      intro i n hi hn hfuel5  ls hl
      have hcl := fb_ct_le (rfst (rowP w g ik y)) i
      refine lv_iload kx kb dX3_run_5 (lv_at hl 0 rfl) ?_
      refine lv_aload_n kx kb dX3_run_7 rfl (lv_at hl 2 rfl) ?_
      refine va_get (D := D.1) (ci := 0) (v := .int (iI (w : Int))) (C := RX3) (T := TX3) (N := 9) kx kb hts in_X3 hown hK hP 0 rfl rfl 7 (by decide) (hts _ q1377) (fun _ h9 => h9) rfl dX3_run_8 ?_
      refine ti_icmp_ge (tgt := 72) kx kb (by omega) dX3_run_11 (by decide) (fun h11 => ?_) (fun h11 => ?_)
      · rw [show i = w from (by omega)] at hn; omega
      · refine lv_aload_n kx kb dX3_run_14 rfl (lv_at hl 2 rfl) ?_
        refine lv_iload kx kb dX3_run_15 (lv_at hl 0 rfl) ?_
        refine lv_iload_n kx kb dX3_run_17 rfl (lv_at hl 3 rfl) ?_
        refine t_callRV C (met_X3_isFirst l D E o b1 b2 b3 b4 b5 b6 thr w g ik st kp go dp pt (i : Int) y (by first | assumption | omega) (by first | assumption | omega) (by first | assumption | omega) (by first | assumption | omega) (by first | assumption | omega)) (cwV 2 hts (lw_V q1578 q1580 qs47 q62 q1581) rfl rfl rfl (by decide +kernel) ⟨Nat.le_of_ble_eq_true rfl, Nat.le_of_ble_eq_true rfl⟩) (va_recv hK hP (ci := 0) (q0 := 0) rfl rfl) hK hX hP hD hS hA [0, 1, 2, 3, 4, 5, 6] rfl (by decide) tYb_0 (fun _ _ _ => trivial) rfl hl.1 rfl (Nat.le_of_ble_eq_true rfl) dX3_run_18 ⟨(show 0 ≤ 0 from by omega), (show 0 ≤ 0 from by omega)⟩ ?_
        refine W.eq (g2 := F0 m0 21 ls [.int (zI (isF w g ik (i : Int) y))]) rfl ?_
        refine tz_if_ne (tgt := 27) kx kb dX3_run_21 (by decide) (fun h21 => ?_) (fun h21 => ?_)
        · refine lv_iload_n kx kb dX3_run_27 rfl (lv_at hl 1 rfl) ?_
          refine ti_if_ne (tgt := 63) kx kb (by omega) dX3_run_28 (by decide) (fun h28 => ?_) (fun h28 => ?_)
          · refine ti_iinc (a := n) (lv' := [(3, .int (iI (n + (-1)))), (4, .int (iI (i : Int))), (0, .ref o), (1, .int (iI y)), (2, .int (iI (idx : Int)))]) kx kb dX3_run_63 hl (k := 1) rfl (by decide) rfl (fun ls hl => ?_)
            refine ti_iinc (a := (i : Int)) (lv' := [(4, .int (iI ((i : Int) + 1))), (3, .int (iI (n + (-1)))), (0, .ref o), (1, .int (iI y)), (2, .int (iI (idx : Int)))]) kx kb dX3_run_66 hl (k := 1) rfl (by decide) rfl (fun ls hl => ?_)
            refine lv_goto (tgt := 5) kx kb dX3_run_69 (by decide) ?_
            exact ih5 (i + 1) (n + (-1)) (by omega) (by rw [isF_r] at h21; rw [fb_ct_succ, h21]; simp only [if_true, Bool.false_eq_true, if_false]; omega) (by omega) ls hl
          · refine lv_iload kx kb dX3_run_31 (lv_at hl 0 rfl) ?_
            refine lv_istore (lv' := [(5, .int (iI (i : Int))), (4, .int (iI (i : Int))), (3, .int (iI n)), (0, .ref o), (1, .int (iI y)), (2, .int (iI (idx : Int)))]) kx kb dX3_run_33 hl (by decide) rfl (fun ls hl => ?_)
            have cut35 : ∀ (fuel : Nat) (j : Nat), (i ≤ j ∧ j ≤ w) → (∀ t, i ≤ t → t < j → (rowP w g ik y) t = true) → (w - j) < fuel → ∀ ls : Array Slot, lv_has ls 6 [(5, .int (iI (j : Int))), (4, .int (iI (i : Int))), (3, .int (iI n)), (0, .ref o), (1, .int (iI y)), (2, .int (iI (idx : Int)))] → W p0 l e0 ({ frames := 4, cells := 0, slots := 0, locals := 88 } : Room) s0 m0 args below meth c0 s0.heap [] (0) (0) Q (F0 m0 35 ls []) := by
              intro fuel
              induction fuel with
              | zero =>
                intro j hj hjp hfuel35
                exact absurd hfuel35 (Nat.not_lt_zero _)
              | succ fuel ih35 =>
                intro j hj hjp hfuel35  ls hl
                refine lv_aload_n kx kb dX3_run_35 rfl (lv_at hl 3 rfl) ?_
                refine lv_iload kx kb dX3_run_36 (lv_at hl 0 rfl) ?_
                refine lv_iload_n kx kb dX3_run_38 rfl (lv_at hl 4 rfl) ?_
                refine t_callRV C (met_X3_isInk l D E o b1 b2 b3 b4 b5 b6 thr w g ik st kp go dp pt (j : Int) y (by first | assumption | omega) (by first | assumption | omega) (by first | assumption | omega) (by first | assumption | omega)) (cwV 2 hts (lw_V q1459 q1461 qs31 q62 q1462) rfl rfl rfl (by decide +kernel) ⟨Nat.le_of_ble_eq_true rfl, Nat.le_of_ble_eq_true rfl⟩) (va_recv hK hP (ci := 0) (q0 := 0) rfl rfl) hK hX hP hD hS hA [0, 1, 2, 3, 4, 5, 6] rfl (by decide) tYb_0 (fun _ _ _ => trivial) rfl hl.1 rfl (Nat.le_of_ble_eq_true rfl) dX3_run_39 ⟨(show 0 ≤ 0 from by omega), (show 0 ≤ 0 from by omega)⟩ ?_
                refine W.eq (g2 := F0 m0 42 ls [.int (zI (isK w g ik (j : Int) y))]) rfl ?_
                refine tz_if_eq (tgt := 51) kx kb dX3_run_42 (by decide) (fun h42 => ?_) (fun h42 => ?_)
                · refine lv_bipush (v := iI 100) kx kb dX3_run_51 rfl ?_
                  refine lv_iload kx kb dX3_run_53 (lv_at hl 1 rfl) ?_
                  refine ti_imul kx kb dX3_run_55 ?_
                  refine lv_iload kx kb dX3_run_56 (lv_at hl 0 rfl) ?_
                  refine ti_iadd kx kb dX3_run_58 ?_
                  refine lv_iload kx kb dX3_run_59 (lv_at hl 1 rfl) ?_
                  refine ti_isub kx kb dX3_run_61 ?_
                  have hx := rnX_is (by rw [← isF_r]; exact h21) (show fb_ct (rfst (rowP w g ik y)) i = idx by omega) w (by omega)
                  have hln := rlen_is hj.1 hjp w hj.2 (by rcases Nat.lt_or_ge j w with q | q; exact Or.inr h42; exact Or.inl (by omega))
                  subst hQ
                  exact tr_iret C rfl (by rw [hx, hln]; congr 2; congr 1; omega) dX3_run_62
                · have hjw := isK_bd h42
                  refine ti_iinc (a := (j : Int)) (lv' := [(5, .int (iI ((j : Int) + 1))), (4, .int (iI (i : Int))), (3, .int (iI n)), (0, .ref o), (1, .int (iI y)), (2, .int (iI (idx : Int)))]) kx kb dX3_run_45 hl (k := 0) rfl (by decide) rfl (fun ls hl => ?_)
                  refine lv_goto (tgt := 35) kx kb dX3_run_48 (by decide) ?_
                  exact ih35 (j + 1) (by omega) (fun t a b => by rcases Nat.lt_or_ge t j with q | q; exact hjp t a q; (have : t = j := by omega); subst this; exact h42) (by omega) ls hl
            exact cut35 ((w - i) + 1) i (by omega) (fun t a b => by omega) (Nat.lt_succ_self _) ls hl
        · refine lv_goto (tgt := 66) kx kb dX3_run_24 (by decide) ?_
          refine ti_iinc (a := (i : Int)) (lv' := [(4, .int (iI ((i : Int) + 1))), (3, .int (iI n)), (0, .ref o), (1, .int (iI y)), (2, .int (iI (idx : Int)))]) kx kb dX3_run_66 hl (k := 0) rfl (by decide) rfl (fun ls hl => ?_)
          refine lv_goto (tgt := 5) kx kb dX3_run_69 (by decide) ?_
          exact ih5 (i + 1) n (by omega) (by rw [isF_r] at h21; rw [fb_ct_succ, h21]; simp only [if_true, Bool.false_eq_true, if_false]; omega) (by omega) ls hl
  exact cut5 ((w - 0) + 1) 0 (idx : Int) (by omega) (by simp [fb_ct]) (Nat.lt_succ_self _) ls hl
set_option maxHeartbeats 4000000 in
set_option maxRecDepth 100000 in
theorem met_X3_runAt_ok (l : Launch) (D : TG) (E : TE) (o : Nat) (b1 : Nat) (b2 : Nat) (b3 : Nat) (b4 : Nat) (b5 : Nat) (b6 : Nat) (thr : Int) (w : Nat) (g : Nat) (ik : Nat → Bool) (st : Nat → Bool) (kp : Nat → Bool) (go : Nat → Bool) (dp : Nat → Int) (pt : Nat → Int) (y : Int) (idx : Nat) (hw : 1 ≤ w ∧ w ≤ 32) (hg : 1 ≤ g ∧ g ≤ 32) (hv : 0 ≤ y ∧ y < g) (hidx : idx < rnO w g ik y) : tMet l yX3_runAt cX3_runAt 3 (some .int) 5 113 (0) (0) [.ref o, .int (iI y), .int (iI (idx : Int))] D E [(o, .inr (0, [.int (iI thr), .ref b1, .ref b2, .ref b3, .ref b4, .ref b5, .ref b6, .int (iI (w : Int)), .int (iI (g : Int))])), (b1, .inl (D.2 0, 1024, .inl (fun x_ => zI (ik x_)))), (b2, .inl (D.2 0, 1024, .inl (fun x_ => zI (st x_)))), (b3, .inl (D.2 0, 1024, .inl (fun x_ => zI (kp x_)))), (b4, .inl (D.2 0, 1024, .inl (fun x_ => zI (go x_)))), (b5, .inl (D.2 1, 1024, .inl (fun x_ => iI (dp x_)))), (b6, .inl (D.2 1, 1024, .inl (fun x_ => iI (pt x_))))] tY0 (S := Unit) (fun u_ => True) (fun u_ => some (.int (iI (100 * ((rnX (rowP w g ik y) idx w : Nat) : Int) + ((rlen (rowP w g ik y) (rnX (rowP w g ik y) idx w) w : Nat) : Int))))) (fun u_ => [(o, .inr (0, [.int (iI 0), .ref b1, .ref b2, .ref b3, .ref b4, .ref b5, .ref b6, .int (iI (w : Int)), .int (iI (g : Int))])), (b1, .inl (D.2 0, 1024, .inl (fun x_ => zI (ik x_)))), (b2, .inl (D.2 0, 1024, .inl (fun x_ => zI (st x_)))), (b3, .inl (D.2 0, 1024, .inl (fun x_ => zI (kp x_)))), (b4, .inl (D.2 0, 1024, .inl (fun x_ => zI (go x_)))), (b5, .inl (D.2 1, 1024, .inl (fun x_ => iI (dp x_)))), (b6, .inl (D.2 1, 1024, .inl (fun x_ => iI (pt x_))))]) := by
  refine tu_met (by decide +kernel) (Nat.le_of_ble_eq_true rfl) ?_
  intro p0 e0 s0 m0 below meth c0 A ls args Q hag hQ C hK hX hY hP hD hA hAe hl
  obtain ⟨kx, kb, hml, hown, hts, -⟩ := id C
  have hS : va_S A s0.heap s0.heap [] := va_S.rf
  have hl : lv_has ls 3 [(0, .ref o), (1, .int (iI y)), (2, .int (iI (idx : Int)))] := hl
  have hwg := wg_le hw hg
  have hrl := rnO_le w g ik y
  refine lv_aload_n kx kb dX3_runAt_0 rfl (lv_at hl 0 rfl) ?_
  refine lv_iload_n kx kb dX3_runAt_1 rfl (lv_at hl 1 rfl) ?_
  refine t_callV (wr := []) C (met_X3_row l D E o b1 b2 b3 b4 b5 b6 thr w g ik st kp go dp pt y (by first | assumption | omega) (by first | assumption | omega) (by first | assumption | omega)) (cwV 1 hts (lw_V q1570 q1572 qs45 q62 q1573) rfl rfl rfl (by decide +kernel) ⟨Nat.le_of_ble_eq_true rfl, Nat.le_of_ble_eq_true rfl⟩) (va_recv hK hP (ci := 0) (q0 := 0) rfl rfl) hK hX hP hD hS hA [0, 1, 2, 3, 4, 5, 6] [] rfl rfl (by decide) (by decide) (by decide) tYb_0 (fun _ _ _ => trivial) rfl hl.1 rfl (Nat.le_of_ble_eq_true rfl) dX3_runAt_2 ⟨(show 0 ≤ 0 from by omega), (show 0 ≤ 0 from by omega)⟩ (fun u_ H locs hp hP hD hS => ?_)
  obtain ⟨t2_1, rfl⟩ : ∃ z, z = u_ := ⟨_, rfl⟩
  have hc2_1 : t2_1 = if decide (0 ≤ y ∧ y ≤ (g : Int) - 1) then 0 else 1 := hp
  subst hc2_1
  have hP : va_P D.1 clAll [(o, .inr (0, [.int (iI (if decide (0 ≤ y ∧ y ≤ (g : Int) - 1) then 0 else 1)), .ref b1, .ref b2, .ref b3, .ref b4, .ref b5, .ref b6, .int (iI (w : Int)), .int (iI (g : Int))])), (b1, .inl (D.2 0, 1024, .inl (fun x_ => zI (ik x_)))), (b2, .inl (D.2 0, 1024, .inl (fun x_ => zI (st x_)))), (b3, .inl (D.2 0, 1024, .inl (fun x_ => zI (kp x_)))), (b4, .inl (D.2 0, 1024, .inl (fun x_ => zI (go x_)))), (b5, .inl (D.2 1, 1024, .inl (fun x_ => iI (dp x_)))), (b6, .inl (D.2 1, 1024, .inl (fun x_ => iI (pt x_))))] H := hP
  have hD : va_D A [(o, .inr (0, [.int (iI (if decide (0 ≤ y ∧ y ≤ (g : Int) - 1) then 0 else 1)), .ref b1, .ref b2, .ref b3, .ref b4, .ref b5, .ref b6, .int (iI (w : Int)), .int (iI (g : Int))])), (b1, .inl (D.2 0, 1024, .inl (fun x_ => zI (ik x_)))), (b2, .inl (D.2 0, 1024, .inl (fun x_ => zI (st x_)))), (b3, .inl (D.2 0, 1024, .inl (fun x_ => zI (kp x_)))), (b4, .inl (D.2 0, 1024, .inl (fun x_ => zI (go x_)))), (b5, .inl (D.2 1, 1024, .inl (fun x_ => iI (dp x_)))), (b6, .inl (D.2 1, 1024, .inl (fun x_ => iI (pt x_))))] := hD
  refine W.eq (g2 := F0 m0 5 ls [.int (zI (decide (0 ≤ y ∧ y ≤ (g : Int) - 1)))]) rfl ?_
  refine tz_if_eq (tgt := 37) kx kb dX3_runAt_5 (by decide) (fun h5 => ?_) (fun h5 => ?_)
  · simp only [decide_eq_false_iff_not] at h5; omega
  · simp only [decide_eq_true_eq, decide_eq_false_iff_not] at h5
    rw [show ((if decide (0 ≤ y ∧ y ≤ (g : Int) - 1) then 0 else 1)) = (0 : Int) from by rw [decide_eq_true h5]; rfl] at hP hD
    have hP : va_P D.1 clAll [(o, .inr (0, [.int (iI 0), .ref b1, .ref b2, .ref b3, .ref b4, .ref b5, .ref b6, .int (iI (w : Int)), .int (iI (g : Int))])), (b1, .inl (D.2 0, 1024, .inl (fun x_ => zI (ik x_)))), (b2, .inl (D.2 0, 1024, .inl (fun x_ => zI (st x_)))), (b3, .inl (D.2 0, 1024, .inl (fun x_ => zI (kp x_)))), (b4, .inl (D.2 0, 1024, .inl (fun x_ => zI (go x_)))), (b5, .inl (D.2 1, 1024, .inl (fun x_ => iI (dp x_)))), (b6, .inl (D.2 1, 1024, .inl (fun x_ => iI (pt x_))))] H := hP
    have hD : va_D A [(o, .inr (0, [.int (iI 0), .ref b1, .ref b2, .ref b3, .ref b4, .ref b5, .ref b6, .int (iI (w : Int)), .int (iI (g : Int))])), (b1, .inl (D.2 0, 1024, .inl (fun x_ => zI (ik x_)))), (b2, .inl (D.2 0, 1024, .inl (fun x_ => zI (st x_)))), (b3, .inl (D.2 0, 1024, .inl (fun x_ => zI (kp x_)))), (b4, .inl (D.2 0, 1024, .inl (fun x_ => zI (go x_)))), (b5, .inl (D.2 1, 1024, .inl (fun x_ => iI (dp x_)))), (b6, .inl (D.2 1, 1024, .inl (fun x_ => iI (pt x_))))] := hD
    refine lv_aload_n kx kb dX3_runAt_8 rfl (lv_at hl 0 rfl) ?_
    refine lv_iload_n kx kb dX3_runAt_9 rfl (lv_at hl 2 rfl) ?_
    refine lv_iconst (v := iI 0) kx kb dX3_runAt_10 rfl ?_
    refine lv_aload_n kx kb dX3_runAt_11 rfl (lv_at hl 0 rfl) ?_
    refine lv_iload_n kx kb dX3_runAt_12 rfl (lv_at hl 1 rfl) ?_
    refine t_callRV C (met_X3_runsOf l D E o b1 b2 b3 b4 b5 b6 0 w g ik st kp go dp pt y (by first | assumption | omega) (by first | assumption | omega) (by first | assumption | omega)) (cwV 1 hts (lw_V q1574 q1576 qs46 q62 q1577) rfl rfl rfl (by decide +kernel) ⟨Nat.le_of_ble_eq_true rfl, Nat.le_of_ble_eq_true rfl⟩) (va_recv hK hP (ci := 0) (q0 := 0) rfl rfl) hK hX hP hD hS hA [0, 1, 2, 3, 4, 5, 6] rfl (by decide) tYb_0 (fun _ _ _ => trivial) rfl hl.1 rfl (Nat.le_of_ble_eq_true rfl) dX3_runAt_13 ⟨(show 0 ≤ 0 from by omega), (show 0 ≤ 0 from by omega)⟩ ?_
    refine W.eq (g2 := F0 m0 16 ls [.int (iI ((rnO w g ik y : Nat) : Int)), .int (iI 0), .int (iI (idx : Int)), .ref o]) rfl ?_
    refine lv_iconst (v := iI 1) kx kb dX3_runAt_16 rfl ?_
    refine ti_isub kx kb dX3_runAt_17 ?_
    refine t_callRS C (met_X3_isIn l D E (idx : Int) 0 (((rnO w g ik y : Nat) : Int) - 1) (by first | assumption | omega)) (va_cwS 3 hts (lw_S q1407 q1408 q62 q1409) rfl rfl rfl (by decide +kernel) ⟨Nat.le_of_ble_eq_true rfl, Nat.le_of_ble_eq_true rfl⟩) hK hX hP hD hS hA [] rfl (by decide) tYb_0 (fun _ _ _ => trivial) rfl hl.1 rfl (Nat.le_of_ble_eq_true rfl) dX3_runAt_18 ⟨(show 0 ≤ 0 from by omega), (show 0 ≤ 0 from by omega)⟩ ?_
    refine W.eq (g2 := F0 m0 21 ls [.int (zI (decide (0 ≤ (idx : Int) ∧ (idx : Int) ≤ (((rnO w g ik y : Nat) : Int) - 1)))), .ref o]) rfl ?_
    refine lv_iconst (v := iI 2) kx kb dX3_runAt_21 rfl ?_
    refine t_callV (wr := []) C (met_X3_right l D E o b1 b2 b3 b4 b5 b6 w g ik st kp go dp pt (decide (0 ≤ (idx : Int) ∧ (idx : Int) ≤ (((rnO w g ik y : Nat) : Int) - 1))) 2 (by first | assumption | omega) (by first | assumption | omega) (by first | assumption | omega)) (cwV 2 hts (lw_V q1410 q1412 qs24 q62 q1413) rfl rfl rfl (by decide +kernel) ⟨Nat.le_of_ble_eq_true rfl, Nat.le_of_ble_eq_true rfl⟩) (va_recv hK hP (ci := 0) (q0 := 0) rfl rfl) hK hX hP hD hS hA [0, 1, 2, 3, 4, 5, 6] [] rfl rfl (by decide) (by decide) (by decide) tYb_0 (fun _ _ _ => trivial) rfl hl.1 rfl (Nat.le_of_ble_eq_true rfl) dX3_runAt_22 ⟨(show 0 ≤ 0 from by omega), (show 0 ≤ 0 from by omega)⟩ (fun u_ H locs hp hP hD hS => ?_)
    obtain ⟨t2_2, rfl⟩ : ∃ z, z = u_ := ⟨_, rfl⟩
    have hc22_1 : t2_2 = if (decide (0 ≤ (idx : Int) ∧ (idx : Int) ≤ (((rnO w g ik y : Nat) : Int) - 1))) then 0 else 2 := hp
    subst hc22_1
    have hP : va_P D.1 clAll [(o, .inr (0, [.int (iI (if (decide (0 ≤ (idx : Int) ∧ (idx : Int) ≤ (((rnO w g ik y : Nat) : Int) - 1))) then 0 else 2)), .ref b1, .ref b2, .ref b3, .ref b4, .ref b5, .ref b6, .int (iI (w : Int)), .int (iI (g : Int))])), (b1, .inl (D.2 0, 1024, .inl (fun x_ => zI (ik x_)))), (b2, .inl (D.2 0, 1024, .inl (fun x_ => zI (st x_)))), (b3, .inl (D.2 0, 1024, .inl (fun x_ => zI (kp x_)))), (b4, .inl (D.2 0, 1024, .inl (fun x_ => zI (go x_)))), (b5, .inl (D.2 1, 1024, .inl (fun x_ => iI (dp x_)))), (b6, .inl (D.2 1, 1024, .inl (fun x_ => iI (pt x_))))] H := hP
    have hD : va_D A [(o, .inr (0, [.int (iI (if (decide (0 ≤ (idx : Int) ∧ (idx : Int) ≤ (((rnO w g ik y : Nat) : Int) - 1))) then 0 else 2)), .ref b1, .ref b2, .ref b3, .ref b4, .ref b5, .ref b6, .int (iI (w : Int)), .int (iI (g : Int))])), (b1, .inl (D.2 0, 1024, .inl (fun x_ => zI (ik x_)))), (b2, .inl (D.2 0, 1024, .inl (fun x_ => zI (st x_)))), (b3, .inl (D.2 0, 1024, .inl (fun x_ => zI (kp x_)))), (b4, .inl (D.2 0, 1024, .inl (fun x_ => zI (go x_)))), (b5, .inl (D.2 1, 1024, .inl (fun x_ => iI (dp x_)))), (b6, .inl (D.2 1, 1024, .inl (fun x_ => iI (pt x_))))] := hD
    refine W.eq (g2 := F0 m0 25 ls [.int (zI (decide (0 ≤ (idx : Int) ∧ (idx : Int) ≤ (((rnO w g ik y : Nat) : Int) - 1))))]) rfl ?_
    refine tz_if_eq (tgt := 37) kx kb dX3_runAt_25 (by decide) (fun h25 => ?_) (fun h25 => ?_)
    · simp only [decide_eq_false_iff_not] at h25; omega
    · simp only [decide_eq_true_eq, decide_eq_false_iff_not] at h25
      rw [show ((if (decide (0 ≤ (idx : Int) ∧ (idx : Int) ≤ (((rnO w g ik y : Nat) : Int) - 1))) then 0 else 2)) = (0 : Int) from by rw [decide_eq_true h25]; rfl] at hP hD
      have hP : va_P D.1 clAll [(o, .inr (0, [.int (iI 0), .ref b1, .ref b2, .ref b3, .ref b4, .ref b5, .ref b6, .int (iI (w : Int)), .int (iI (g : Int))])), (b1, .inl (D.2 0, 1024, .inl (fun x_ => zI (ik x_)))), (b2, .inl (D.2 0, 1024, .inl (fun x_ => zI (st x_)))), (b3, .inl (D.2 0, 1024, .inl (fun x_ => zI (kp x_)))), (b4, .inl (D.2 0, 1024, .inl (fun x_ => zI (go x_)))), (b5, .inl (D.2 1, 1024, .inl (fun x_ => iI (dp x_)))), (b6, .inl (D.2 1, 1024, .inl (fun x_ => iI (pt x_))))] H := hP
      have hD : va_D A [(o, .inr (0, [.int (iI 0), .ref b1, .ref b2, .ref b3, .ref b4, .ref b5, .ref b6, .int (iI (w : Int)), .int (iI (g : Int))])), (b1, .inl (D.2 0, 1024, .inl (fun x_ => zI (ik x_)))), (b2, .inl (D.2 0, 1024, .inl (fun x_ => zI (st x_)))), (b3, .inl (D.2 0, 1024, .inl (fun x_ => zI (kp x_)))), (b4, .inl (D.2 0, 1024, .inl (fun x_ => zI (go x_)))), (b5, .inl (D.2 1, 1024, .inl (fun x_ => iI (dp x_)))), (b6, .inl (D.2 1, 1024, .inl (fun x_ => iI (pt x_))))] := hD
      refine lv_aload_n kx kb dX3_runAt_28 rfl (lv_at hl 0 rfl) ?_
      refine lv_iload_n kx kb dX3_runAt_29 rfl (lv_at hl 1 rfl) ?_
      refine lv_iload_n kx kb dX3_runAt_30 rfl (lv_at hl 2 rfl) ?_
      refine t_callRV C (met_X3_run l D E o b1 b2 b3 b4 b5 b6 0 w g ik st kp go dp pt y idx (by first | assumption | omega) (by first | assumption | omega) (by first | assumption | omega) (by first | assumption | omega)) (cwV 2 hts (lw_V q1586 q1588 qs48 q62 q1589) rfl rfl rfl (by decide +kernel) ⟨Nat.le_of_ble_eq_true rfl, Nat.le_of_ble_eq_true rfl⟩) (va_recv hK hP (ci := 0) (q0 := 0) rfl rfl) hK hX hP hD hS hA [0, 1, 2, 3, 4, 5, 6] rfl (by decide) tYb_0 (fun _ _ _ => trivial) rfl hl.1 rfl (Nat.le_of_ble_eq_true rfl) dX3_runAt_31 ⟨(show 0 ≤ 0 from by omega), (show 0 ≤ 0 from by omega)⟩ ?_
      refine W.eq (g2 := F0 m0 34 ls [.int (iI (100 * ((rnX (rowP w g ik y) idx w : Nat) : Int) + ((rlen (rowP w g ik y) (rnX (rowP w g ik y) idx w) w : Nat) : Int)))]) rfl ?_
      refine lv_goto (tgt := 38) kx kb dX3_runAt_34 (by decide) ?_
      subst hQ
      exact tm_iret C () trivial hP hD hS (show 0 ≤ 0 from by omega) (show 0 ≤ 0 from by omega) rfl rfl dX3_runAt_38
set_option maxHeartbeats 4000000 in
set_option maxRecDepth 100000 in
theorem met_X3_runAt_n1 (l : Launch) (D : TG) (E : TE) (o : Nat) (b1 : Nat) (b2 : Nat) (b3 : Nat) (b4 : Nat) (b5 : Nat) (b6 : Nat) (thr : Int) (w : Nat) (g : Nat) (ik : Nat → Bool) (st : Nat → Bool) (kp : Nat → Bool) (go : Nat → Bool) (dp : Nat → Int) (pt : Nat → Int) (y : Int) (idx : Int) (hw : 1 ≤ w ∧ w ≤ 32) (hg : 1 ≤ g ∧ g ≤ 32) (ry : -2147483648 ≤ y ∧ y < 2147483648) (ridx : -2147483648 ≤ idx ∧ idx < 2147483648) (hv : ¬ (0 ≤ y ∧ y < g)) : tMet l yX3_runAt cX3_runAt 3 (some .int) 5 113 (0) (0) [.ref o, .int (iI y), .int (iI idx)] D E [(o, .inr (0, [.int (iI thr), .ref b1, .ref b2, .ref b3, .ref b4, .ref b5, .ref b6, .int (iI (w : Int)), .int (iI (g : Int))])), (b1, .inl (D.2 0, 1024, .inl (fun x_ => zI (ik x_)))), (b2, .inl (D.2 0, 1024, .inl (fun x_ => zI (st x_)))), (b3, .inl (D.2 0, 1024, .inl (fun x_ => zI (kp x_)))), (b4, .inl (D.2 0, 1024, .inl (fun x_ => zI (go x_)))), (b5, .inl (D.2 1, 1024, .inl (fun x_ => iI (dp x_)))), (b6, .inl (D.2 1, 1024, .inl (fun x_ => iI (pt x_))))] tY0 (S := Unit) (fun u_ => True) (fun u_ => some (.int (iI 0))) (fun u_ => [(o, .inr (0, [.int (iI 1), .ref b1, .ref b2, .ref b3, .ref b4, .ref b5, .ref b6, .int (iI (w : Int)), .int (iI (g : Int))])), (b1, .inl (D.2 0, 1024, .inl (fun x_ => zI (ik x_)))), (b2, .inl (D.2 0, 1024, .inl (fun x_ => zI (st x_)))), (b3, .inl (D.2 0, 1024, .inl (fun x_ => zI (kp x_)))), (b4, .inl (D.2 0, 1024, .inl (fun x_ => zI (go x_)))), (b5, .inl (D.2 1, 1024, .inl (fun x_ => iI (dp x_)))), (b6, .inl (D.2 1, 1024, .inl (fun x_ => iI (pt x_))))]) := by
  refine tu_met (by decide +kernel) (Nat.le_of_ble_eq_true rfl) ?_
  intro p0 e0 s0 m0 below meth c0 A ls args Q hag hQ C hK hX hY hP hD hA hAe hl
  obtain ⟨kx, kb, hml, hown, hts, -⟩ := id C
  have hS : va_S A s0.heap s0.heap [] := va_S.rf
  have hl : lv_has ls 3 [(0, .ref o), (1, .int (iI y)), (2, .int (iI idx))] := hl
  have hwg := wg_le hw hg
  refine lv_aload_n kx kb dX3_runAt_0 rfl (lv_at hl 0 rfl) ?_
  refine lv_iload_n kx kb dX3_runAt_1 rfl (lv_at hl 1 rfl) ?_
  refine t_callV (wr := []) C (met_X3_row l D E o b1 b2 b3 b4 b5 b6 thr w g ik st kp go dp pt y (by first | assumption | omega) (by first | assumption | omega) (by first | assumption | omega)) (cwV 1 hts (lw_V q1570 q1572 qs45 q62 q1573) rfl rfl rfl (by decide +kernel) ⟨Nat.le_of_ble_eq_true rfl, Nat.le_of_ble_eq_true rfl⟩) (va_recv hK hP (ci := 0) (q0 := 0) rfl rfl) hK hX hP hD hS hA [0, 1, 2, 3, 4, 5, 6] [] rfl rfl (by decide) (by decide) (by decide) tYb_0 (fun _ _ _ => trivial) rfl hl.1 rfl (Nat.le_of_ble_eq_true rfl) dX3_runAt_2 ⟨(show 0 ≤ 0 from by omega), (show 0 ≤ 0 from by omega)⟩ (fun u_ H locs hp hP hD hS => ?_)
  obtain ⟨t2_1, rfl⟩ : ∃ z, z = u_ := ⟨_, rfl⟩
  have hc2_1 : t2_1 = if decide (0 ≤ y ∧ y ≤ (g : Int) - 1) then 0 else 1 := hp
  subst hc2_1
  have hP : va_P D.1 clAll [(o, .inr (0, [.int (iI (if decide (0 ≤ y ∧ y ≤ (g : Int) - 1) then 0 else 1)), .ref b1, .ref b2, .ref b3, .ref b4, .ref b5, .ref b6, .int (iI (w : Int)), .int (iI (g : Int))])), (b1, .inl (D.2 0, 1024, .inl (fun x_ => zI (ik x_)))), (b2, .inl (D.2 0, 1024, .inl (fun x_ => zI (st x_)))), (b3, .inl (D.2 0, 1024, .inl (fun x_ => zI (kp x_)))), (b4, .inl (D.2 0, 1024, .inl (fun x_ => zI (go x_)))), (b5, .inl (D.2 1, 1024, .inl (fun x_ => iI (dp x_)))), (b6, .inl (D.2 1, 1024, .inl (fun x_ => iI (pt x_))))] H := hP
  have hD : va_D A [(o, .inr (0, [.int (iI (if decide (0 ≤ y ∧ y ≤ (g : Int) - 1) then 0 else 1)), .ref b1, .ref b2, .ref b3, .ref b4, .ref b5, .ref b6, .int (iI (w : Int)), .int (iI (g : Int))])), (b1, .inl (D.2 0, 1024, .inl (fun x_ => zI (ik x_)))), (b2, .inl (D.2 0, 1024, .inl (fun x_ => zI (st x_)))), (b3, .inl (D.2 0, 1024, .inl (fun x_ => zI (kp x_)))), (b4, .inl (D.2 0, 1024, .inl (fun x_ => zI (go x_)))), (b5, .inl (D.2 1, 1024, .inl (fun x_ => iI (dp x_)))), (b6, .inl (D.2 1, 1024, .inl (fun x_ => iI (pt x_))))] := hD
  refine W.eq (g2 := F0 m0 5 ls [.int (zI (decide (0 ≤ y ∧ y ≤ (g : Int) - 1)))]) rfl ?_
  refine tz_if_eq (tgt := 37) kx kb dX3_runAt_5 (by decide) (fun h5 => ?_) (fun h5 => ?_)
  · simp only [decide_eq_true_eq, decide_eq_false_iff_not] at h5
    rw [show ((if decide (0 ≤ y ∧ y ≤ (g : Int) - 1) then 0 else 1)) = (1 : Int) from by rw [decide_eq_false h5]; rfl] at hP hD
    have hP : va_P D.1 clAll [(o, .inr (0, [.int (iI 1), .ref b1, .ref b2, .ref b3, .ref b4, .ref b5, .ref b6, .int (iI (w : Int)), .int (iI (g : Int))])), (b1, .inl (D.2 0, 1024, .inl (fun x_ => zI (ik x_)))), (b2, .inl (D.2 0, 1024, .inl (fun x_ => zI (st x_)))), (b3, .inl (D.2 0, 1024, .inl (fun x_ => zI (kp x_)))), (b4, .inl (D.2 0, 1024, .inl (fun x_ => zI (go x_)))), (b5, .inl (D.2 1, 1024, .inl (fun x_ => iI (dp x_)))), (b6, .inl (D.2 1, 1024, .inl (fun x_ => iI (pt x_))))] H := hP
    have hD : va_D A [(o, .inr (0, [.int (iI 1), .ref b1, .ref b2, .ref b3, .ref b4, .ref b5, .ref b6, .int (iI (w : Int)), .int (iI (g : Int))])), (b1, .inl (D.2 0, 1024, .inl (fun x_ => zI (ik x_)))), (b2, .inl (D.2 0, 1024, .inl (fun x_ => zI (st x_)))), (b3, .inl (D.2 0, 1024, .inl (fun x_ => zI (kp x_)))), (b4, .inl (D.2 0, 1024, .inl (fun x_ => zI (go x_)))), (b5, .inl (D.2 1, 1024, .inl (fun x_ => iI (dp x_)))), (b6, .inl (D.2 1, 1024, .inl (fun x_ => iI (pt x_))))] := hD
    refine lv_iconst (v := iI 0) kx kb dX3_runAt_37 rfl ?_
    subst hQ
    exact tm_iret C () trivial hP hD hS (show 0 ≤ 0 from by omega) (show 0 ≤ 0 from by omega) rfl rfl dX3_runAt_38
  · simp only [decide_eq_true_eq] at h5; omega
set_option maxHeartbeats 4000000 in
set_option maxRecDepth 100000 in
theorem met_X3_runAt_n2 (l : Launch) (D : TG) (E : TE) (o : Nat) (b1 : Nat) (b2 : Nat) (b3 : Nat) (b4 : Nat) (b5 : Nat) (b6 : Nat) (thr : Int) (w : Nat) (g : Nat) (ik : Nat → Bool) (st : Nat → Bool) (kp : Nat → Bool) (go : Nat → Bool) (dp : Nat → Int) (pt : Nat → Int) (y : Int) (idx : Int) (hw : 1 ≤ w ∧ w ≤ 32) (hg : 1 ≤ g ∧ g ≤ 32) (ry : -2147483648 ≤ y ∧ y < 2147483648) (ridx : -2147483648 ≤ idx ∧ idx < 2147483648) (hv : 0 ≤ y ∧ y < g) (hidx : ¬ (0 ≤ idx ∧ idx < ((rnO w g ik y : Nat) : Int))) : tMet l yX3_runAt cX3_runAt 3 (some .int) 5 113 (0) (0) [.ref o, .int (iI y), .int (iI idx)] D E [(o, .inr (0, [.int (iI thr), .ref b1, .ref b2, .ref b3, .ref b4, .ref b5, .ref b6, .int (iI (w : Int)), .int (iI (g : Int))])), (b1, .inl (D.2 0, 1024, .inl (fun x_ => zI (ik x_)))), (b2, .inl (D.2 0, 1024, .inl (fun x_ => zI (st x_)))), (b3, .inl (D.2 0, 1024, .inl (fun x_ => zI (kp x_)))), (b4, .inl (D.2 0, 1024, .inl (fun x_ => zI (go x_)))), (b5, .inl (D.2 1, 1024, .inl (fun x_ => iI (dp x_)))), (b6, .inl (D.2 1, 1024, .inl (fun x_ => iI (pt x_))))] tY0 (S := Unit) (fun u_ => True) (fun u_ => some (.int (iI 0))) (fun u_ => [(o, .inr (0, [.int (iI 2), .ref b1, .ref b2, .ref b3, .ref b4, .ref b5, .ref b6, .int (iI (w : Int)), .int (iI (g : Int))])), (b1, .inl (D.2 0, 1024, .inl (fun x_ => zI (ik x_)))), (b2, .inl (D.2 0, 1024, .inl (fun x_ => zI (st x_)))), (b3, .inl (D.2 0, 1024, .inl (fun x_ => zI (kp x_)))), (b4, .inl (D.2 0, 1024, .inl (fun x_ => zI (go x_)))), (b5, .inl (D.2 1, 1024, .inl (fun x_ => iI (dp x_)))), (b6, .inl (D.2 1, 1024, .inl (fun x_ => iI (pt x_))))]) := by
  refine tu_met (by decide +kernel) (Nat.le_of_ble_eq_true rfl) ?_
  intro p0 e0 s0 m0 below meth c0 A ls args Q hag hQ C hK hX hY hP hD hA hAe hl
  obtain ⟨kx, kb, hml, hown, hts, -⟩ := id C
  have hS : va_S A s0.heap s0.heap [] := va_S.rf
  have hl : lv_has ls 3 [(0, .ref o), (1, .int (iI y)), (2, .int (iI idx))] := hl
  have hwg := wg_le hw hg
  have hrl := rnO_le w g ik y
  refine lv_aload_n kx kb dX3_runAt_0 rfl (lv_at hl 0 rfl) ?_
  refine lv_iload_n kx kb dX3_runAt_1 rfl (lv_at hl 1 rfl) ?_
  refine t_callV (wr := []) C (met_X3_row l D E o b1 b2 b3 b4 b5 b6 thr w g ik st kp go dp pt y (by first | assumption | omega) (by first | assumption | omega) (by first | assumption | omega)) (cwV 1 hts (lw_V q1570 q1572 qs45 q62 q1573) rfl rfl rfl (by decide +kernel) ⟨Nat.le_of_ble_eq_true rfl, Nat.le_of_ble_eq_true rfl⟩) (va_recv hK hP (ci := 0) (q0 := 0) rfl rfl) hK hX hP hD hS hA [0, 1, 2, 3, 4, 5, 6] [] rfl rfl (by decide) (by decide) (by decide) tYb_0 (fun _ _ _ => trivial) rfl hl.1 rfl (Nat.le_of_ble_eq_true rfl) dX3_runAt_2 ⟨(show 0 ≤ 0 from by omega), (show 0 ≤ 0 from by omega)⟩ (fun u_ H locs hp hP hD hS => ?_)
  obtain ⟨t2_1, rfl⟩ : ∃ z, z = u_ := ⟨_, rfl⟩
  have hc2_1 : t2_1 = if decide (0 ≤ y ∧ y ≤ (g : Int) - 1) then 0 else 1 := hp
  subst hc2_1
  have hP : va_P D.1 clAll [(o, .inr (0, [.int (iI (if decide (0 ≤ y ∧ y ≤ (g : Int) - 1) then 0 else 1)), .ref b1, .ref b2, .ref b3, .ref b4, .ref b5, .ref b6, .int (iI (w : Int)), .int (iI (g : Int))])), (b1, .inl (D.2 0, 1024, .inl (fun x_ => zI (ik x_)))), (b2, .inl (D.2 0, 1024, .inl (fun x_ => zI (st x_)))), (b3, .inl (D.2 0, 1024, .inl (fun x_ => zI (kp x_)))), (b4, .inl (D.2 0, 1024, .inl (fun x_ => zI (go x_)))), (b5, .inl (D.2 1, 1024, .inl (fun x_ => iI (dp x_)))), (b6, .inl (D.2 1, 1024, .inl (fun x_ => iI (pt x_))))] H := hP
  have hD : va_D A [(o, .inr (0, [.int (iI (if decide (0 ≤ y ∧ y ≤ (g : Int) - 1) then 0 else 1)), .ref b1, .ref b2, .ref b3, .ref b4, .ref b5, .ref b6, .int (iI (w : Int)), .int (iI (g : Int))])), (b1, .inl (D.2 0, 1024, .inl (fun x_ => zI (ik x_)))), (b2, .inl (D.2 0, 1024, .inl (fun x_ => zI (st x_)))), (b3, .inl (D.2 0, 1024, .inl (fun x_ => zI (kp x_)))), (b4, .inl (D.2 0, 1024, .inl (fun x_ => zI (go x_)))), (b5, .inl (D.2 1, 1024, .inl (fun x_ => iI (dp x_)))), (b6, .inl (D.2 1, 1024, .inl (fun x_ => iI (pt x_))))] := hD
  refine W.eq (g2 := F0 m0 5 ls [.int (zI (decide (0 ≤ y ∧ y ≤ (g : Int) - 1)))]) rfl ?_
  refine tz_if_eq (tgt := 37) kx kb dX3_runAt_5 (by decide) (fun h5 => ?_) (fun h5 => ?_)
  · simp only [decide_eq_false_iff_not] at h5; omega
  · simp only [decide_eq_true_eq, decide_eq_false_iff_not] at h5
    rw [show ((if decide (0 ≤ y ∧ y ≤ (g : Int) - 1) then 0 else 1)) = (0 : Int) from by rw [decide_eq_true h5]; rfl] at hP hD
    have hP : va_P D.1 clAll [(o, .inr (0, [.int (iI 0), .ref b1, .ref b2, .ref b3, .ref b4, .ref b5, .ref b6, .int (iI (w : Int)), .int (iI (g : Int))])), (b1, .inl (D.2 0, 1024, .inl (fun x_ => zI (ik x_)))), (b2, .inl (D.2 0, 1024, .inl (fun x_ => zI (st x_)))), (b3, .inl (D.2 0, 1024, .inl (fun x_ => zI (kp x_)))), (b4, .inl (D.2 0, 1024, .inl (fun x_ => zI (go x_)))), (b5, .inl (D.2 1, 1024, .inl (fun x_ => iI (dp x_)))), (b6, .inl (D.2 1, 1024, .inl (fun x_ => iI (pt x_))))] H := hP
    have hD : va_D A [(o, .inr (0, [.int (iI 0), .ref b1, .ref b2, .ref b3, .ref b4, .ref b5, .ref b6, .int (iI (w : Int)), .int (iI (g : Int))])), (b1, .inl (D.2 0, 1024, .inl (fun x_ => zI (ik x_)))), (b2, .inl (D.2 0, 1024, .inl (fun x_ => zI (st x_)))), (b3, .inl (D.2 0, 1024, .inl (fun x_ => zI (kp x_)))), (b4, .inl (D.2 0, 1024, .inl (fun x_ => zI (go x_)))), (b5, .inl (D.2 1, 1024, .inl (fun x_ => iI (dp x_)))), (b6, .inl (D.2 1, 1024, .inl (fun x_ => iI (pt x_))))] := hD
    refine lv_aload_n kx kb dX3_runAt_8 rfl (lv_at hl 0 rfl) ?_
    refine lv_iload_n kx kb dX3_runAt_9 rfl (lv_at hl 2 rfl) ?_
    refine lv_iconst (v := iI 0) kx kb dX3_runAt_10 rfl ?_
    refine lv_aload_n kx kb dX3_runAt_11 rfl (lv_at hl 0 rfl) ?_
    refine lv_iload_n kx kb dX3_runAt_12 rfl (lv_at hl 1 rfl) ?_
    refine t_callRV C (met_X3_runsOf l D E o b1 b2 b3 b4 b5 b6 0 w g ik st kp go dp pt y (by first | assumption | omega) (by first | assumption | omega) (by first | assumption | omega)) (cwV 1 hts (lw_V q1574 q1576 qs46 q62 q1577) rfl rfl rfl (by decide +kernel) ⟨Nat.le_of_ble_eq_true rfl, Nat.le_of_ble_eq_true rfl⟩) (va_recv hK hP (ci := 0) (q0 := 0) rfl rfl) hK hX hP hD hS hA [0, 1, 2, 3, 4, 5, 6] rfl (by decide) tYb_0 (fun _ _ _ => trivial) rfl hl.1 rfl (Nat.le_of_ble_eq_true rfl) dX3_runAt_13 ⟨(show 0 ≤ 0 from by omega), (show 0 ≤ 0 from by omega)⟩ ?_
    refine W.eq (g2 := F0 m0 16 ls [.int (iI ((rnO w g ik y : Nat) : Int)), .int (iI 0), .int (iI idx), .ref o]) rfl ?_
    refine lv_iconst (v := iI 1) kx kb dX3_runAt_16 rfl ?_
    refine ti_isub kx kb dX3_runAt_17 ?_
    refine t_callRS C (met_X3_isIn l D E idx 0 (((rnO w g ik y : Nat) : Int) - 1) (by first | assumption | omega)) (va_cwS 3 hts (lw_S q1407 q1408 q62 q1409) rfl rfl rfl (by decide +kernel) ⟨Nat.le_of_ble_eq_true rfl, Nat.le_of_ble_eq_true rfl⟩) hK hX hP hD hS hA [] rfl (by decide) tYb_0 (fun _ _ _ => trivial) rfl hl.1 rfl (Nat.le_of_ble_eq_true rfl) dX3_runAt_18 ⟨(show 0 ≤ 0 from by omega), (show 0 ≤ 0 from by omega)⟩ ?_
    refine W.eq (g2 := F0 m0 21 ls [.int (zI (decide (0 ≤ idx ∧ idx ≤ (((rnO w g ik y : Nat) : Int) - 1)))), .ref o]) rfl ?_
    refine lv_iconst (v := iI 2) kx kb dX3_runAt_21 rfl ?_
    refine t_callV (wr := []) C (met_X3_right l D E o b1 b2 b3 b4 b5 b6 w g ik st kp go dp pt (decide (0 ≤ idx ∧ idx ≤ (((rnO w g ik y : Nat) : Int) - 1))) 2 (by first | assumption | omega) (by first | assumption | omega) (by first | assumption | omega)) (cwV 2 hts (lw_V q1410 q1412 qs24 q62 q1413) rfl rfl rfl (by decide +kernel) ⟨Nat.le_of_ble_eq_true rfl, Nat.le_of_ble_eq_true rfl⟩) (va_recv hK hP (ci := 0) (q0 := 0) rfl rfl) hK hX hP hD hS hA [0, 1, 2, 3, 4, 5, 6] [] rfl rfl (by decide) (by decide) (by decide) tYb_0 (fun _ _ _ => trivial) rfl hl.1 rfl (Nat.le_of_ble_eq_true rfl) dX3_runAt_22 ⟨(show 0 ≤ 0 from by omega), (show 0 ≤ 0 from by omega)⟩ (fun u_ H locs hp hP hD hS => ?_)
    obtain ⟨t2_2, rfl⟩ : ∃ z, z = u_ := ⟨_, rfl⟩
    have hc22_1 : t2_2 = if (decide (0 ≤ idx ∧ idx ≤ (((rnO w g ik y : Nat) : Int) - 1))) then 0 else 2 := hp
    subst hc22_1
    have hP : va_P D.1 clAll [(o, .inr (0, [.int (iI (if (decide (0 ≤ idx ∧ idx ≤ (((rnO w g ik y : Nat) : Int) - 1))) then 0 else 2)), .ref b1, .ref b2, .ref b3, .ref b4, .ref b5, .ref b6, .int (iI (w : Int)), .int (iI (g : Int))])), (b1, .inl (D.2 0, 1024, .inl (fun x_ => zI (ik x_)))), (b2, .inl (D.2 0, 1024, .inl (fun x_ => zI (st x_)))), (b3, .inl (D.2 0, 1024, .inl (fun x_ => zI (kp x_)))), (b4, .inl (D.2 0, 1024, .inl (fun x_ => zI (go x_)))), (b5, .inl (D.2 1, 1024, .inl (fun x_ => iI (dp x_)))), (b6, .inl (D.2 1, 1024, .inl (fun x_ => iI (pt x_))))] H := hP
    have hD : va_D A [(o, .inr (0, [.int (iI (if (decide (0 ≤ idx ∧ idx ≤ (((rnO w g ik y : Nat) : Int) - 1))) then 0 else 2)), .ref b1, .ref b2, .ref b3, .ref b4, .ref b5, .ref b6, .int (iI (w : Int)), .int (iI (g : Int))])), (b1, .inl (D.2 0, 1024, .inl (fun x_ => zI (ik x_)))), (b2, .inl (D.2 0, 1024, .inl (fun x_ => zI (st x_)))), (b3, .inl (D.2 0, 1024, .inl (fun x_ => zI (kp x_)))), (b4, .inl (D.2 0, 1024, .inl (fun x_ => zI (go x_)))), (b5, .inl (D.2 1, 1024, .inl (fun x_ => iI (dp x_)))), (b6, .inl (D.2 1, 1024, .inl (fun x_ => iI (pt x_))))] := hD
    refine W.eq (g2 := F0 m0 25 ls [.int (zI (decide (0 ≤ idx ∧ idx ≤ (((rnO w g ik y : Nat) : Int) - 1))))]) rfl ?_
    refine tz_if_eq (tgt := 37) kx kb dX3_runAt_25 (by decide) (fun h25 => ?_) (fun h25 => ?_)
    · simp only [decide_eq_true_eq, decide_eq_false_iff_not] at h25
      rw [show ((if (decide (0 ≤ idx ∧ idx ≤ (((rnO w g ik y : Nat) : Int) - 1))) then 0 else 2)) = (2 : Int) from by rw [decide_eq_false h25]; rfl] at hP hD
      have hP : va_P D.1 clAll [(o, .inr (0, [.int (iI 2), .ref b1, .ref b2, .ref b3, .ref b4, .ref b5, .ref b6, .int (iI (w : Int)), .int (iI (g : Int))])), (b1, .inl (D.2 0, 1024, .inl (fun x_ => zI (ik x_)))), (b2, .inl (D.2 0, 1024, .inl (fun x_ => zI (st x_)))), (b3, .inl (D.2 0, 1024, .inl (fun x_ => zI (kp x_)))), (b4, .inl (D.2 0, 1024, .inl (fun x_ => zI (go x_)))), (b5, .inl (D.2 1, 1024, .inl (fun x_ => iI (dp x_)))), (b6, .inl (D.2 1, 1024, .inl (fun x_ => iI (pt x_))))] H := hP
      have hD : va_D A [(o, .inr (0, [.int (iI 2), .ref b1, .ref b2, .ref b3, .ref b4, .ref b5, .ref b6, .int (iI (w : Int)), .int (iI (g : Int))])), (b1, .inl (D.2 0, 1024, .inl (fun x_ => zI (ik x_)))), (b2, .inl (D.2 0, 1024, .inl (fun x_ => zI (st x_)))), (b3, .inl (D.2 0, 1024, .inl (fun x_ => zI (kp x_)))), (b4, .inl (D.2 0, 1024, .inl (fun x_ => zI (go x_)))), (b5, .inl (D.2 1, 1024, .inl (fun x_ => iI (dp x_)))), (b6, .inl (D.2 1, 1024, .inl (fun x_ => iI (pt x_))))] := hD
      refine lv_iconst (v := iI 0) kx kb dX3_runAt_37 rfl ?_
      subst hQ
      exact tm_iret C () trivial hP hD hS (show 0 ≤ 0 from by omega) (show 0 ≤ 0 from by omega) rfl rfl dX3_runAt_38
    · simp only [decide_eq_true_eq] at h25; omega
set_option maxHeartbeats 4000000 in
set_option maxRecDepth 100000 in
theorem met_X3_inkShare (l : Launch) (D : TG) (E : TE) (o : Nat) (b1 : Nat) (b2 : Nat) (b3 : Nat) (b4 : Nat) (b5 : Nat) (b6 : Nat) (thr : Int) (w : Nat) (g : Nat) (ik : Nat → Bool) (st : Nat → Bool) (kp : Nat → Bool) (go : Nat → Bool) (dp : Nat → Int) (pt : Nat → Int) (hw : 1 ≤ w ∧ w ≤ 32) (hg : 1 ≤ g ∧ g ≤ 32) : tMet l yX3_inkShare cX3_inkShare 1 (some .double) 2 42 (0) (0) [.ref o] D E [(o, .inr (0, [.int (iI thr), .ref b1, .ref b2, .ref b3, .ref b4, .ref b5, .ref b6, .int (iI (w : Int)), .int (iI (g : Int))])), (b1, .inl (D.2 0, 1024, .inl (fun x_ => zI (ik x_)))), (b2, .inl (D.2 0, 1024, .inl (fun x_ => zI (st x_)))), (b3, .inl (D.2 0, 1024, .inl (fun x_ => zI (kp x_)))), (b4, .inl (D.2 0, 1024, .inl (fun x_ => zI (go x_)))), (b5, .inl (D.2 1, 1024, .inl (fun x_ => iI (dp x_)))), (b6, .inl (D.2 1, 1024, .inl (fun x_ => iI (pt x_))))] tY0 (S := Unit) (fun u_ => True) (fun u_ => some (.double (ishF w g ik))) (fun u_ => [(o, .inr (0, [.int (iI 0), .ref b1, .ref b2, .ref b3, .ref b4, .ref b5, .ref b6, .int (iI (w : Int)), .int (iI (g : Int))])), (b1, .inl (D.2 0, 1024, .inl (fun x_ => zI (ik x_)))), (b2, .inl (D.2 0, 1024, .inl (fun x_ => zI (st x_)))), (b3, .inl (D.2 0, 1024, .inl (fun x_ => zI (kp x_)))), (b4, .inl (D.2 0, 1024, .inl (fun x_ => zI (go x_)))), (b5, .inl (D.2 1, 1024, .inl (fun x_ => iI (dp x_)))), (b6, .inl (D.2 1, 1024, .inl (fun x_ => iI (pt x_))))]) := by
  refine tu_met (by decide +kernel) (Nat.le_of_ble_eq_true rfl) ?_
  intro p0 e0 s0 m0 below meth c0 A ls args Q hag hQ C hK hX hY hP hD hA hAe hl
  obtain ⟨kx, kb, hml, hown, hts, -⟩ := id C
  have hS : va_S A s0.heap s0.heap [] := va_S.rf
  have hl : lv_has ls 1 [(0, .ref o)] := hl
  have hwg := wg_le hw hg
  have hfl := fb_ct_le ik (w * g)
  have hwp : 0 < w * g := Nat.mul_pos (by omega) (by omega)
  refine lv_aload_n kx kb dX3_inkShare_0 rfl (lv_at hl 0 rfl) ?_
  refine lv_iconst (v := iI 0) kx kb dX3_inkShare_1 rfl ?_
  refine va_put (D := D.1) (ci := 0) (v := .int (iI 0)) (ty := .int) (C := RX3) (T := TX3) (N := 9) kx kb hts in_X3 tyX3 tyX3_ok nmX3 hown hK hP hD hS 0 rfl rfl 0 (by decide) (hts _ q1370) (fun _ h9 => h9) rfl (by decide +kernel) rfl rfl (Nat.le_of_ble_eq_true rfl) dX3_inkShare_2 (fun H locs hP hD hS => ?_)
  have hP : va_P D.1 clAll [(o, .inr (0, [.int (iI 0), .ref b1, .ref b2, .ref b3, .ref b4, .ref b5, .ref b6, .int (iI (w : Int)), .int (iI (g : Int))])), (b1, .inl (D.2 0, 1024, .inl (fun x_ => zI (ik x_)))), (b2, .inl (D.2 0, 1024, .inl (fun x_ => zI (st x_)))), (b3, .inl (D.2 0, 1024, .inl (fun x_ => zI (kp x_)))), (b4, .inl (D.2 0, 1024, .inl (fun x_ => zI (go x_)))), (b5, .inl (D.2 1, 1024, .inl (fun x_ => iI (dp x_)))), (b6, .inl (D.2 1, 1024, .inl (fun x_ => iI (pt x_))))] H := hP
  have hD : va_D A [(o, .inr (0, [.int (iI 0), .ref b1, .ref b2, .ref b3, .ref b4, .ref b5, .ref b6, .int (iI (w : Int)), .int (iI (g : Int))])), (b1, .inl (D.2 0, 1024, .inl (fun x_ => zI (ik x_)))), (b2, .inl (D.2 0, 1024, .inl (fun x_ => zI (st x_)))), (b3, .inl (D.2 0, 1024, .inl (fun x_ => zI (kp x_)))), (b4, .inl (D.2 0, 1024, .inl (fun x_ => zI (go x_)))), (b5, .inl (D.2 1, 1024, .inl (fun x_ => iI (dp x_)))), (b6, .inl (D.2 1, 1024, .inl (fun x_ => iI (pt x_))))] := hD
  refine lv_aload_n kx kb dX3_inkShare_5 rfl (lv_at hl 0 rfl) ?_
  refine t_callRV C (met_X3_count l D E o b1 b2 b3 b4 b5 b6 0 w g ik st kp go dp pt (by first | assumption | omega) (by first | assumption | omega)) (cwV 0 hts (lw_V q1485 q1487 qs35 q62 q1488) rfl rfl rfl (by decide +kernel) ⟨Nat.le_of_ble_eq_true rfl, Nat.le_of_ble_eq_true rfl⟩) (va_recv hK hP (ci := 0) (q0 := 0) rfl rfl) hK hX hP hD hS hA [0, 1, 2, 3, 4, 5, 6] rfl (by decide) tYb_0 (fun _ _ _ => trivial) rfl hl.1 rfl (Nat.le_of_ble_eq_true rfl) dX3_inkShare_6 ⟨(show 0 ≤ 0 from by omega), (show 0 ≤ 0 from by omega)⟩ ?_
  refine W.eq (g2 := F0 m0 9 ls [.int (iI ((fb_ct ik (w * g) : Nat) : Int))]) rfl ?_
  refine lv_i2d kx kb dX3_inkShare_9 ?_
  refine lv_aload_n kx kb dX3_inkShare_10 rfl (lv_at hl 0 rfl) ?_
  refine t_callRV C (met_X3_cells l D E o b1 b2 b3 b4 b5 b6 0 w g ik st kp go dp pt (by first | assumption | omega) (by first | assumption | omega)) (cwV 0 hts (lw_V q1467 q1469 qs33 q62 q1470) rfl rfl rfl (by decide +kernel) ⟨Nat.le_of_ble_eq_true rfl, Nat.le_of_ble_eq_true rfl⟩) (va_recv hK hP (ci := 0) (q0 := 0) rfl rfl) hK hX hP hD hS hA [0, 1, 2, 3, 4, 5, 6] rfl (by decide) tYb_0 (fun _ _ _ => trivial) rfl hl.1 rfl (Nat.le_of_ble_eq_true rfl) dX3_inkShare_11 ⟨(show 0 ≤ 0 from by omega), (show 0 ≤ 0 from by omega)⟩ ?_
  refine W.eq (g2 := F0 m0 14 ls [.int (iI ((w * g : Nat) : Int)), .double (FP.i2d (iI ((fb_ct ik (w * g) : Nat) : Int)))]) rfl ?_
  refine lv_i2d kx kb dX3_inkShare_14 ?_
  refine lv_ddiv kx kb dX3_inkShare_15 (ddiv_vf (by omega) ⟨hwp, by omega⟩) ?_
  subst hQ
  exact tm_dret C () trivial hP hD hS (show 0 ≤ 0 from by omega) (show 0 ≤ 0 from by omega) rfl rfl dX3_inkShare_16
set_option maxHeartbeats 4000000 in
set_option maxRecDepth 100000 in
theorem met_X3_meanRun (l : Launch) (D : TG) (E : TE) (o : Nat) (b1 : Nat) (b2 : Nat) (b3 : Nat) (b4 : Nat) (b5 : Nat) (b6 : Nat) (thr : Int) (w : Nat) (g : Nat) (ik : Nat → Bool) (st : Nat → Bool) (kp : Nat → Bool) (go : Nat → Bool) (dp : Nat → Int) (pt : Nat → Int) (hw : 1 ≤ w ∧ w ≤ 32) (hg : 1 ≤ g ∧ g ≤ 32) : tMet l yX3_meanRun cX3_meanRun 2 (some .float) 6 133 (0) (0) [.ref o] D E [(o, .inr (0, [.int (iI thr), .ref b1, .ref b2, .ref b3, .ref b4, .ref b5, .ref b6, .int (iI (w : Int)), .int (iI (g : Int))])), (b1, .inl (D.2 0, 1024, .inl (fun x_ => zI (ik x_)))), (b2, .inl (D.2 0, 1024, .inl (fun x_ => zI (st x_)))), (b3, .inl (D.2 0, 1024, .inl (fun x_ => zI (kp x_)))), (b4, .inl (D.2 0, 1024, .inl (fun x_ => zI (go x_)))), (b5, .inl (D.2 1, 1024, .inl (fun x_ => iI (dp x_)))), (b6, .inl (D.2 1, 1024, .inl (fun x_ => iI (pt x_))))] tY0 (S := Unit) (fun u_ => True) (fun u_ => some (.float (mrF w g ik))) (fun u_ => [(o, .inr (0, [.int (iI 0), .ref b1, .ref b2, .ref b3, .ref b4, .ref b5, .ref b6, .int (iI (w : Int)), .int (iI (g : Int))])), (b1, .inl (D.2 0, 1024, .inl (fun x_ => zI (ik x_)))), (b2, .inl (D.2 0, 1024, .inl (fun x_ => zI (st x_)))), (b3, .inl (D.2 0, 1024, .inl (fun x_ => zI (kp x_)))), (b4, .inl (D.2 0, 1024, .inl (fun x_ => zI (go x_)))), (b5, .inl (D.2 1, 1024, .inl (fun x_ => iI (dp x_)))), (b6, .inl (D.2 1, 1024, .inl (fun x_ => iI (pt x_))))]) := by
  refine tu_met (by decide +kernel) (Nat.le_of_ble_eq_true rfl) ?_
  intro p0 e0 s0 m0 below meth c0 A ls args Q hag hQ C hK hX hY hP hD hA hAe hl
  obtain ⟨kx, kb, hml, hown, hts, -⟩ := id C
  have hS : va_S A s0.heap s0.heap [] := va_S.rf
  have hl : lv_has ls 2 [(0, .ref o)] := hl
  have hwg := wg_le hw hg
  have hfl := fb_ct_le ik (w * g)
  have hrl := rnA_le w g ik g
  have hgw : g * w ≤ 1024 := by rw [Nat.mul_comm]; exact hwg
  refine lv_aload_n kx kb dX3_meanRun_0 rfl (lv_at hl 0 rfl) ?_
  refine lv_iconst (v := iI 0) kx kb dX3_meanRun_1 rfl ?_
  refine va_put (D := D.1) (ci := 0) (v := .int (iI 0)) (ty := .int) (C := RX3) (T := TX3) (N := 9) kx kb hts in_X3 tyX3 tyX3_ok nmX3 hown hK hP hD hS 0 rfl rfl 0 (by decide) (hts _ q1370) (fun _ h9 => h9) rfl (by decide +kernel) rfl rfl (Nat.le_of_ble_eq_true rfl) dX3_meanRun_2 (fun H locs hP hD hS => ?_)
  have hP : va_P D.1 clAll [(o, .inr (0, [.int (iI 0), .ref b1, .ref b2, .ref b3, .ref b4, .ref b5, .ref b6, .int (iI (w : Int)), .int (iI (g : Int))])), (b1, .inl (D.2 0, 1024, .inl (fun x_ => zI (ik x_)))), (b2, .inl (D.2 0, 1024, .inl (fun x_ => zI (st x_)))), (b3, .inl (D.2 0, 1024, .inl (fun x_ => zI (kp x_)))), (b4, .inl (D.2 0, 1024, .inl (fun x_ => zI (go x_)))), (b5, .inl (D.2 1, 1024, .inl (fun x_ => iI (dp x_)))), (b6, .inl (D.2 1, 1024, .inl (fun x_ => iI (pt x_))))] H := hP
  have hD : va_D A [(o, .inr (0, [.int (iI 0), .ref b1, .ref b2, .ref b3, .ref b4, .ref b5, .ref b6, .int (iI (w : Int)), .int (iI (g : Int))])), (b1, .inl (D.2 0, 1024, .inl (fun x_ => zI (ik x_)))), (b2, .inl (D.2 0, 1024, .inl (fun x_ => zI (st x_)))), (b3, .inl (D.2 0, 1024, .inl (fun x_ => zI (kp x_)))), (b4, .inl (D.2 0, 1024, .inl (fun x_ => zI (go x_)))), (b5, .inl (D.2 1, 1024, .inl (fun x_ => iI (dp x_)))), (b6, .inl (D.2 1, 1024, .inl (fun x_ => iI (pt x_))))] := hD
  refine lv_aload_n kx kb dX3_meanRun_5 rfl (lv_at hl 0 rfl) ?_
  refine t_callRV C (met_X3_runsInAll l D E o b1 b2 b3 b4 b5 b6 0 w g ik st kp go dp pt (by first | assumption | omega) (by first | assumption | omega)) (cwV 0 hts (lw_V q1594 q1596 qs49 q62 q1597) rfl rfl rfl (by decide +kernel) ⟨Nat.le_of_ble_eq_true rfl, Nat.le_of_ble_eq_true rfl⟩) (va_recv hK hP (ci := 0) (q0 := 0) rfl rfl) hK hX hP hD hS hA [0, 1, 2, 3, 4, 5, 6] rfl (by decide) tYb_0 (fun _ _ _ => trivial) rfl hl.1 rfl (Nat.le_of_ble_eq_true rfl) dX3_meanRun_6 ⟨(show 0 ≤ 0 from by omega), (show 0 ≤ 0 from by omega)⟩ ?_
  refine W.eq (g2 := F0 m0 9 ls [.int (iI ((rnA w g ik g : Nat) : Int))]) rfl ?_
  refine lv_istore_n (lv' := [(1, .int (iI ((rnA w g ik g : Nat) : Int))), (0, .ref o)]) kx kb dX3_meanRun_9 rfl hl (by decide) rfl (fun ls hl => ?_)
  refine lv_iload_n kx kb dX3_meanRun_10 rfl (lv_at hl 0 rfl) ?_
  refine ti_if_ne (tgt := 18) kx kb (by omega) dX3_meanRun_11 (by decide) (fun h11 => ?_) (fun h11 => ?_)
  · refine lv_aload_n kx kb dX3_meanRun_18 rfl (lv_at hl 1 rfl) ?_
    refine t_callRV C (met_X3_count l D E o b1 b2 b3 b4 b5 b6 0 w g ik st kp go dp pt (by first | assumption | omega) (by first | assumption | omega)) (cwV 0 hts (lw_V q1485 q1487 qs35 q62 q1488) rfl rfl rfl (by decide +kernel) ⟨Nat.le_of_ble_eq_true rfl, Nat.le_of_ble_eq_true rfl⟩) (va_recv hK hP (ci := 0) (q0 := 0) rfl rfl) hK hX hP hD hS hA [0, 1, 2, 3, 4, 5, 6] rfl (by decide) tYb_0 (fun _ _ _ => trivial) rfl hl.1 rfl (Nat.le_of_ble_eq_true rfl) dX3_meanRun_19 ⟨(show 0 ≤ 0 from by omega), (show 0 ≤ 0 from by omega)⟩ ?_
    refine W.eq (g2 := F0 m0 22 ls [.int (iI ((fb_ct ik (w * g) : Nat) : Int))]) rfl ?_
    refine lv_i2f kx kb dX3_meanRun_22 ?_
    refine lv_iload_n kx kb dX3_meanRun_23 rfl (lv_at hl 0 rfl) ?_
    refine lv_i2f kx kb dX3_meanRun_24 ?_
    refine lv_fdiv kx kb dX3_meanRun_25 ((fdiv_ok (by omega) ⟨by omega, by omega⟩).1) ?_
    subst hQ
    exact tm_fret C () trivial hP hD hS (show 0 ≤ 0 from by omega) (show 0 ≤ 0 from by omega) (by unfold mrF; rw [if_neg (by omega)]) rfl dX3_meanRun_26
  · refine lv_fconst0 kx kb dX3_meanRun_14 ?_
    refine lv_goto (tgt := 26) kx kb dX3_meanRun_15 (by decide) ?_
    subst hQ
    exact tm_fret C () trivial hP hD hS (show 0 ≤ 0 from by omega) (show 0 ≤ 0 from by omega) (by unfold mrF; rw [if_pos (by omega)]) rfl dX3_meanRun_26
