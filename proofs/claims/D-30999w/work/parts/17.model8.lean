set_option maxRecDepth 100000
set_option maxHeartbeats 4000000 in
set_option maxRecDepth 100000 in
theorem met_X3_tufaErrors (l : Launch) (D : TG) (E : TE) (o : Nat) (b1 : Nat) (b2 : Nat) (b3 : Nat) (b4 : Nat) (b5 : Nat) (b6 : Nat) (thr : Int) (w : Nat) (g : Nat) (ik : Nat → Bool) (st : Nat → Bool) (kp : Nat → Bool) (go : Nat → Bool) (dp : Nat → Int) (pt : Nat → Int) (hw : 1 ≤ w ∧ w ≤ 32) (hg : 1 ≤ g ∧ g ≤ 32) : tMet l yX3_tufaErrors cX3_tufaErrors 5 (some .int) 5 113 (0) (0) [.ref o] D E [(o, .inr (0, [.int (iI thr), .ref b1, .ref b2, .ref b3, .ref b4, .ref b5, .ref b6, .int (iI (w : Int)), .int (iI (g : Int))])), (b1, .inl (D.2 0, 1024, .inl (fun x_ => zI (ik x_)))), (b2, .inl (D.2 0, 1024, .inl (fun x_ => zI (st x_)))), (b3, .inl (D.2 0, 1024, .inl (fun x_ => zI (kp x_)))), (b4, .inl (D.2 0, 1024, .inl (fun x_ => zI (go x_)))), (b5, .inl (D.2 1, 1024, .inl (fun x_ => iI (dp x_)))), (b6, .inl (D.2 1, 1024, .inl (fun x_ => iI (pt x_))))] tY0 (S := (Nat → Bool) × (Nat → Int)) (fun u_ => True) (fun u_ => some (.int (iI (errN w g ik)))) (fun u_ => [(o, .inr (0, [.int (iI 0), .ref b1, .ref b2, .ref b3, .ref b4, .ref b5, .ref b6, .int (iI (w : Int)), .int (iI (g : Int))])), (b1, .inl (D.2 0, 1024, .inl (fun x_ => zI (ik x_)))), (b2, .inl (D.2 0, 1024, .inl (fun x_ => zI (st x_)))), (b3, .inl (D.2 0, 1024, .inl (fun x_ => zI (kp x_)))), (b4, .inl (D.2 0, 1024, .inl (fun x_ => zI (u_.1 x_)))), (b5, .inl (D.2 1, 1024, .inl (fun x_ => iI (u_.2 x_)))), (b6, .inl (D.2 1, 1024, .inl (fun x_ => iI (pt x_))))]) := by
  refine tu_met (by decide +kernel) (Nat.le_of_ble_eq_true rfl) ?_
  intro p0 e0 s0 m0 below meth c0 A ls args Q hag hQ C hK hX hY hP hD hA hAe hl
  obtain ⟨kx, kb, hml, hown, hts, -⟩ := id C
  have hS : va_S A s0.heap s0.heap [] := va_S.rf
  have hl : lv_has ls 5 [(0, .ref o)] := hl
  have hwg := wg_le hw hg
  have hfl := fb_ct_le ik (w * g)
  refine lv_aload_n kx kb dX3_tufaErrors_0 rfl (lv_at hl 0 rfl) ?_
  refine lv_iconst (v := iI 0) kx kb dX3_tufaErrors_1 rfl ?_
  refine va_put (D := D.1) (ci := 0) (v := .int (iI 0)) (ty := .int) (C := RX3) (T := TX3) (N := 9) kx kb hts in_X3 tyX3 tyX3_ok nmX3 hown hK hP hD hS 0 rfl rfl 0 (by decide) (hts _ q1370) (fun _ h9 => h9) rfl (by decide +kernel) rfl rfl (Nat.le_of_ble_eq_true rfl) dX3_tufaErrors_2 (fun H locs hP hD hS => ?_)
  have hP : va_P D.1 clAll [(o, .inr (0, [.int (iI 0), .ref b1, .ref b2, .ref b3, .ref b4, .ref b5, .ref b6, .int (iI (w : Int)), .int (iI (g : Int))])), (b1, .inl (D.2 0, 1024, .inl (fun x_ => zI (ik x_)))), (b2, .inl (D.2 0, 1024, .inl (fun x_ => zI (st x_)))), (b3, .inl (D.2 0, 1024, .inl (fun x_ => zI (kp x_)))), (b4, .inl (D.2 0, 1024, .inl (fun x_ => zI (go x_)))), (b5, .inl (D.2 1, 1024, .inl (fun x_ => iI (dp x_)))), (b6, .inl (D.2 1, 1024, .inl (fun x_ => iI (pt x_))))] H := hP
  have hD : va_D A [(o, .inr (0, [.int (iI 0), .ref b1, .ref b2, .ref b3, .ref b4, .ref b5, .ref b6, .int (iI (w : Int)), .int (iI (g : Int))])), (b1, .inl (D.2 0, 1024, .inl (fun x_ => zI (ik x_)))), (b2, .inl (D.2 0, 1024, .inl (fun x_ => zI (st x_)))), (b3, .inl (D.2 0, 1024, .inl (fun x_ => zI (kp x_)))), (b4, .inl (D.2 0, 1024, .inl (fun x_ => zI (go x_)))), (b5, .inl (D.2 1, 1024, .inl (fun x_ => iI (dp x_)))), (b6, .inl (D.2 1, 1024, .inl (fun x_ => iI (pt x_))))] := hD
  refine lv_iconst (v := iI 0) kx kb dX3_tufaErrors_5 rfl ?_
  refine lv_istore_n (lv' := [(1, .int (iI 0)), (0, .ref o)]) kx kb dX3_tufaErrors_6 rfl hl (by decide) rfl (fun ls hl => ?_)
  refine lv_iconst (v := iI 0) kx kb dX3_tufaErrors_7 rfl ?_
  refine lv_istore_n (lv' := [(2, .int (iI 0)), (1, .int (iI 0)), (0, .ref o)]) kx kb dX3_tufaErrors_8 rfl hl (by decide) rfl (fun ls hl => ?_)
  refine lv_iconst (v := iI 0) kx kb dX3_tufaErrors_9 rfl ?_
  refine lv_istore_n (lv' := [(3, .int (iI 0)), (2, .int (iI 0)), (1, .int (iI 0)), (0, .ref o)]) kx kb dX3_tufaErrors_10 rfl hl (by decide) rfl (fun ls hl => ?_)
  have cut11 : ∀ (fuel : Nat) (i : Nat) (g1 : Nat → Bool), (i ≤ w * g) → (∀ j, j < i → g1 j = false) → (w * g - i) < fuel → ∀ (H : Heap) (locs : List Loc), va_P D.1 clAll [(o, .inr (0, [.int (iI 0), .ref b1, .ref b2, .ref b3, .ref b4, .ref b5, .ref b6, .int (iI (w : Int)), .int (iI (g : Int))])), (b1, .inl (D.2 0, 1024, .inl (fun x_ => zI (ik x_)))), (b2, .inl (D.2 0, 1024, .inl (fun x_ => zI (st x_)))), (b3, .inl (D.2 0, 1024, .inl (fun x_ => zI (kp x_)))), (b4, .inl (D.2 0, 1024, .inl (fun x_ => zI (g1 x_)))), (b5, .inl (D.2 1, 1024, .inl (fun x_ => iI (dp x_)))), (b6, .inl (D.2 1, 1024, .inl (fun x_ => iI (pt x_))))] H → va_D A [(o, .inr (0, [.int (iI 0), .ref b1, .ref b2, .ref b3, .ref b4, .ref b5, .ref b6, .int (iI (w : Int)), .int (iI (g : Int))])), (b1, .inl (D.2 0, 1024, .inl (fun x_ => zI (ik x_)))), (b2, .inl (D.2 0, 1024, .inl (fun x_ => zI (st x_)))), (b3, .inl (D.2 0, 1024, .inl (fun x_ => zI (kp x_)))), (b4, .inl (D.2 0, 1024, .inl (fun x_ => zI (g1 x_)))), (b5, .inl (D.2 1, 1024, .inl (fun x_ => iI (dp x_)))), (b6, .inl (D.2 1, 1024, .inl (fun x_ => iI (pt x_))))] → va_S A s0.heap H locs → ∀ ls : Array Slot, lv_has ls 5 [(3, .int (iI (i : Int))), (2, .int (iI 0)), (1, .int (iI 0)), (0, .ref o)] → W p0 l e0 ({ frames := 5, cells := 0, slots := 0, locals := 113 } : Room) s0 m0 args below meth c0 H locs (0) (0) Q (F0 m0 11 ls []) := by
    intro fuel
    induction fuel with
    | zero =>
      intro i g1 hi hg1 hfuel11
      exact absurd hfuel11 (Nat.not_lt_zero _)
    | succ fuel ih11 =>
      intro i g1 hi hg1 hfuel11 H locs hP hD hS ls hl
      refine lv_iload_n kx kb dX3_tufaErrors_11 rfl (lv_at hl 0 rfl) ?_
      refine lv_aload_n kx kb dX3_tufaErrors_12 rfl (lv_at hl 3 rfl) ?_
      refine t_callRV C (met_X3_cells l D E o b1 b2 b3 b4 b5 b6 0 w g ik st kp g1 dp pt (by first | assumption | omega) (by first | assumption | omega)) (cwV 0 hts (lw_V q1467 q1469 qs33 q62 q1470) rfl rfl rfl (by decide +kernel) ⟨Nat.le_of_ble_eq_true rfl, Nat.le_of_ble_eq_true rfl⟩) (va_recv hK hP (ci := 0) (q0 := 0) rfl rfl) hK hX hP hD hS hA [0, 1, 2, 3, 4, 5, 6] rfl (by decide) tYb_0 (fun _ _ _ => trivial) rfl hl.1 rfl (Nat.le_of_ble_eq_true rfl) dX3_tufaErrors_13 ⟨(show 0 ≤ 0 from by omega), (show 0 ≤ 0 from by omega)⟩ ?_
      refine W.eq (g2 := F0 m0 16 ls [.int (iI ((w * g : Nat) : Int)), .int (iI (i : Int))]) rfl ?_
      refine ti_icmp_ge (tgt := 32) kx kb (by omega) dX3_tufaErrors_16 (by decide) (fun h16 => ?_) (fun h16 => ?_)
      · refine lv_aload_n kx kb dX3_tufaErrors_32 rfl (lv_at hl 3 rfl) ?_
        refine lv_iconst (v := iI 0) kx kb dX3_tufaErrors_33 rfl ?_
        refine t_callV (wr := []) C (met_X3_depths l D E o b1 b2 b3 b4 b5 b6 0 w g ik st kp g1 dp pt false (by first | assumption | omega) (by first | assumption | omega)) (cwV 1 hts (lw_V q1553 q1555 qs44 q62 q1556) rfl rfl rfl (by decide +kernel) ⟨Nat.le_of_ble_eq_true rfl, Nat.le_of_ble_eq_true rfl⟩) (va_recv hK hP (ci := 0) (q0 := 0) rfl rfl) hK hX hP hD hS hA [0, 1, 2, 3, 4, 5, 6] [] rfl rfl (by decide) (by decide) (by decide) tYb_0 (fun _ _ _ => trivial) rfl hl.1 rfl (Nat.le_of_ble_eq_true rfl) dX3_tufaErrors_34 ⟨(show 0 ≤ 0 from by omega), (show 0 ≤ 0 from by omega)⟩ (fun u_ H locs hp hP hD hS => ?_)
        obtain ⟨dp2_1, rfl⟩ : ∃ z, z = u_ := ⟨_, rfl⟩
        have hc34_1 : isDep w g ik false dp2_1 := hp
        have hP : va_P D.1 clAll [(o, .inr (0, [.int (iI 0), .ref b1, .ref b2, .ref b3, .ref b4, .ref b5, .ref b6, .int (iI (w : Int)), .int (iI (g : Int))])), (b1, .inl (D.2 0, 1024, .inl (fun x_ => zI (ik x_)))), (b2, .inl (D.2 0, 1024, .inl (fun x_ => zI (st x_)))), (b3, .inl (D.2 0, 1024, .inl (fun x_ => zI (kp x_)))), (b4, .inl (D.2 0, 1024, .inl (fun x_ => zI (g1 x_)))), (b5, .inl (D.2 1, 1024, .inl (fun x_ => iI (dp2_1 x_)))), (b6, .inl (D.2 1, 1024, .inl (fun x_ => iI (pt x_))))] H := hP
        have hD : va_D A [(o, .inr (0, [.int (iI 0), .ref b1, .ref b2, .ref b3, .ref b4, .ref b5, .ref b6, .int (iI (w : Int)), .int (iI (g : Int))])), (b1, .inl (D.2 0, 1024, .inl (fun x_ => zI (ik x_)))), (b2, .inl (D.2 0, 1024, .inl (fun x_ => zI (st x_)))), (b3, .inl (D.2 0, 1024, .inl (fun x_ => zI (kp x_)))), (b4, .inl (D.2 0, 1024, .inl (fun x_ => zI (g1 x_)))), (b5, .inl (D.2 1, 1024, .inl (fun x_ => iI (dp2_1 x_)))), (b6, .inl (D.2 1, 1024, .inl (fun x_ => iI (pt x_))))] := hD
        refine W.eq (g2 := F0 m0 37 ls []) rfl ?_
        refine lv_iconst (v := iI 0) kx kb dX3_tufaErrors_37 rfl ?_
        refine lv_istore_n (lv' := [(3, .int (iI 0)), (2, .int (iI 0)), (1, .int (iI 0)), (0, .ref o)]) kx kb dX3_tufaErrors_38 rfl hl (by decide) rfl (fun ls hl => ?_)
        have cut39 : ∀ (fuel : Nat) (i : Nat) (g2 : Nat → Bool), (i ≤ w * g) → (∀ j, j < w * g → g2 j = (decide (j < i) && decide (depF w g ik false j ≠ lkd w g ik false j))) → (w * g - i) < fuel → ∀ (H : Heap) (locs : List Loc), va_P D.1 clAll [(o, .inr (0, [.int (iI 0), .ref b1, .ref b2, .ref b3, .ref b4, .ref b5, .ref b6, .int (iI (w : Int)), .int (iI (g : Int))])), (b1, .inl (D.2 0, 1024, .inl (fun x_ => zI (ik x_)))), (b2, .inl (D.2 0, 1024, .inl (fun x_ => zI (st x_)))), (b3, .inl (D.2 0, 1024, .inl (fun x_ => zI (kp x_)))), (b4, .inl (D.2 0, 1024, .inl (fun x_ => zI (g2 x_)))), (b5, .inl (D.2 1, 1024, .inl (fun x_ => iI (dp2_1 x_)))), (b6, .inl (D.2 1, 1024, .inl (fun x_ => iI (pt x_))))] H → va_D A [(o, .inr (0, [.int (iI 0), .ref b1, .ref b2, .ref b3, .ref b4, .ref b5, .ref b6, .int (iI (w : Int)), .int (iI (g : Int))])), (b1, .inl (D.2 0, 1024, .inl (fun x_ => zI (ik x_)))), (b2, .inl (D.2 0, 1024, .inl (fun x_ => zI (st x_)))), (b3, .inl (D.2 0, 1024, .inl (fun x_ => zI (kp x_)))), (b4, .inl (D.2 0, 1024, .inl (fun x_ => zI (g2 x_)))), (b5, .inl (D.2 1, 1024, .inl (fun x_ => iI (dp2_1 x_)))), (b6, .inl (D.2 1, 1024, .inl (fun x_ => iI (pt x_))))] → va_S A s0.heap H locs → ∀ ls : Array Slot, lv_has ls 5 [(3, .int (iI (i : Int))), (2, .int (iI 0)), (1, .int (iI 0)), (0, .ref o)] → W p0 l e0 ({ frames := 5, cells := 0, slots := 0, locals := 113 } : Room) s0 m0 args below meth c0 H locs (0) (0) Q (F0 m0 39 ls []) := by
          intro fuel
          induction fuel with
          | zero =>
            intro i g2 hi hg2 hfuel39
            exact absurd hfuel39 (Nat.not_lt_zero _)
          | succ fuel ih39 =>
            intro i g2 hi hg2 hfuel39 H locs hP hD hS ls hl
            refine lv_iload_n kx kb dX3_tufaErrors_39 rfl (lv_at hl 0 rfl) ?_
            refine lv_aload_n kx kb dX3_tufaErrors_40 rfl (lv_at hl 3 rfl) ?_
            refine t_callRV C (met_X3_cells l D E o b1 b2 b3 b4 b5 b6 0 w g ik st kp g2 dp2_1 pt (by first | assumption | omega) (by first | assumption | omega)) (cwV 0 hts (lw_V q1467 q1469 qs33 q62 q1470) rfl rfl rfl (by decide +kernel) ⟨Nat.le_of_ble_eq_true rfl, Nat.le_of_ble_eq_true rfl⟩) (va_recv hK hP (ci := 0) (q0 := 0) rfl rfl) hK hX hP hD hS hA [0, 1, 2, 3, 4, 5, 6] rfl (by decide) tYb_0 (fun _ _ _ => trivial) rfl hl.1 rfl (Nat.le_of_ble_eq_true rfl) dX3_tufaErrors_41 ⟨(show 0 ≤ 0 from by omega), (show 0 ≤ 0 from by omega)⟩ ?_
            refine W.eq (g2 := F0 m0 44 ls [.int (iI ((w * g : Nat) : Int)), .int (iI (i : Int))]) rfl ?_
            refine ti_icmp_ge (tgt := 82) kx kb (by omega) dX3_tufaErrors_44 (by decide) (fun h44 => ?_) (fun h44 => ?_)
            · refine lv_aload_n kx kb dX3_tufaErrors_82 rfl (lv_at hl 3 rfl) ?_
              refine lv_iconst (v := iI 1) kx kb dX3_tufaErrors_83 rfl ?_
              refine t_callV (wr := []) C (met_X3_depths l D E o b1 b2 b3 b4 b5 b6 0 w g ik st kp g2 dp2_1 pt true (by first | assumption | omega) (by first | assumption | omega)) (cwV 1 hts (lw_V q1553 q1555 qs44 q62 q1556) rfl rfl rfl (by decide +kernel) ⟨Nat.le_of_ble_eq_true rfl, Nat.le_of_ble_eq_true rfl⟩) (va_recv hK hP (ci := 0) (q0 := 0) rfl rfl) hK hX hP hD hS hA [0, 1, 2, 3, 4, 5, 6] [] rfl rfl (by decide) (by decide) (by decide) tYb_0 (fun _ _ _ => trivial) rfl hl.1 rfl (Nat.le_of_ble_eq_true rfl) dX3_tufaErrors_84 ⟨(show 0 ≤ 0 from by omega), (show 0 ≤ 0 from by omega)⟩ (fun u_ H locs hp hP hD hS => ?_)
              obtain ⟨dp2_2, rfl⟩ : ∃ z, z = u_ := ⟨_, rfl⟩
              have hc84_1 : isDep w g ik true dp2_2 := hp
              have hP : va_P D.1 clAll [(o, .inr (0, [.int (iI 0), .ref b1, .ref b2, .ref b3, .ref b4, .ref b5, .ref b6, .int (iI (w : Int)), .int (iI (g : Int))])), (b1, .inl (D.2 0, 1024, .inl (fun x_ => zI (ik x_)))), (b2, .inl (D.2 0, 1024, .inl (fun x_ => zI (st x_)))), (b3, .inl (D.2 0, 1024, .inl (fun x_ => zI (kp x_)))), (b4, .inl (D.2 0, 1024, .inl (fun x_ => zI (g2 x_)))), (b5, .inl (D.2 1, 1024, .inl (fun x_ => iI (dp2_2 x_)))), (b6, .inl (D.2 1, 1024, .inl (fun x_ => iI (pt x_))))] H := hP
              have hD : va_D A [(o, .inr (0, [.int (iI 0), .ref b1, .ref b2, .ref b3, .ref b4, .ref b5, .ref b6, .int (iI (w : Int)), .int (iI (g : Int))])), (b1, .inl (D.2 0, 1024, .inl (fun x_ => zI (ik x_)))), (b2, .inl (D.2 0, 1024, .inl (fun x_ => zI (st x_)))), (b3, .inl (D.2 0, 1024, .inl (fun x_ => zI (kp x_)))), (b4, .inl (D.2 0, 1024, .inl (fun x_ => zI (g2 x_)))), (b5, .inl (D.2 1, 1024, .inl (fun x_ => iI (dp2_2 x_)))), (b6, .inl (D.2 1, 1024, .inl (fun x_ => iI (pt x_))))] := hD
              refine W.eq (g2 := F0 m0 87 ls []) rfl ?_
              refine lv_iconst (v := iI 0) kx kb dX3_tufaErrors_87 rfl ?_
              refine lv_istore_n (lv' := [(3, .int (iI 0)), (2, .int (iI 0)), (1, .int (iI 0)), (0, .ref o)]) kx kb dX3_tufaErrors_88 rfl hl (by decide) rfl (fun ls hl => ?_)
              have cut89 : ∀ (fuel : Nat) (i : Nat) (n : Int), (i ≤ w * g) → (n = ((fb_ct (errB w g ik) i : Nat) : Int)) → (w * g - i) < fuel → ∀ ls : Array Slot, lv_has ls 5 [(3, .int (iI (i : Int))), (2, .int (iI 0)), (1, .int (iI n)), (0, .ref o)] → W p0 l e0 ({ frames := 5, cells := 0, slots := 0, locals := 113 } : Room) s0 m0 args below meth c0 H locs (0) (0) Q (F0 m0 89 ls []) := by
                intro fuel
                induction fuel with
                | zero =>
                  intro i n hi hn hfuel89
                  exact absurd hfuel89 (Nat.not_lt_zero _)
                | succ fuel ih89 =>
                  intro i n hi hn hfuel89  ls hl
                  have hke := fb_ct_le (errB w g ik) i
                  refine lv_iload_n kx kb dX3_tufaErrors_89 rfl (lv_at hl 0 rfl) ?_
                  refine lv_aload_n kx kb dX3_tufaErrors_90 rfl (lv_at hl 3 rfl) ?_
                  refine t_callRV C (met_X3_cells l D E o b1 b2 b3 b4 b5 b6 0 w g ik st kp g2 dp2_2 pt (by first | assumption | omega) (by first | assumption | omega)) (cwV 0 hts (lw_V q1467 q1469 qs33 q62 q1470) rfl rfl rfl (by decide +kernel) ⟨Nat.le_of_ble_eq_true rfl, Nat.le_of_ble_eq_true rfl⟩) (va_recv hK hP (ci := 0) (q0 := 0) rfl rfl) hK hX hP hD hS hA [0, 1, 2, 3, 4, 5, 6] rfl (by decide) tYb_0 (fun _ _ _ => trivial) rfl hl.1 rfl (Nat.le_of_ble_eq_true rfl) dX3_tufaErrors_91 ⟨(show 0 ≤ 0 from by omega), (show 0 ≤ 0 from by omega)⟩ ?_
                  refine W.eq (g2 := F0 m0 94 ls [.int (iI ((w * g : Nat) : Int)), .int (iI (i : Int))]) rfl ?_
                  refine ti_icmp_ge (tgt := 135) kx kb (by omega) dX3_tufaErrors_94 (by decide) (fun h94 => ?_) (fun h94 => ?_)
                  · refine lv_iconst (v := iI 0) kx kb dX3_tufaErrors_135 rfl ?_
                    refine lv_istore_n (lv' := [(3, .int (iI 0)), (2, .int (iI 0)), (1, .int (iI n)), (0, .ref o)]) kx kb dX3_tufaErrors_136 rfl hl (by decide) rfl (fun ls hl => ?_)
                    have cut137 : ∀ (fuel : Nat) (y : Nat) (q : Int), (y ≤ g) → (q = ((rsA w g ik y : Nat) : Int)) → (g - y) < fuel → ∀ ls : Array Slot, lv_has ls 5 [(3, .int (iI (y : Int))), (2, .int (iI q)), (1, .int (iI n)), (0, .ref o)] → W p0 l e0 ({ frames := 5, cells := 0, slots := 0, locals := 113 } : Room) s0 m0 args below meth c0 H locs (0) (0) Q (F0 m0 137 ls []) := by
                      intro fuel
                      induction fuel with
                      | zero =>
                        intro y q hy hq hfuel137
                        exact absurd hfuel137 (Nat.not_lt_zero _)
                      | succ fuel ih137 =>
                        intro y q hy hq hfuel137  ls hl
                        have hro := rnO_le w g ik (y : Int)
                        have hra := rsA_le g ik hw.2 y
                        refine lv_iload_n kx kb dX3_tufaErrors_137 rfl (lv_at hl 0 rfl) ?_
                        refine lv_aload_n kx kb dX3_tufaErrors_138 rfl (lv_at hl 3 rfl) ?_
                        refine va_get (D := D.1) (ci := 0) (v := .int (iI (g : Int))) (C := RX3) (T := TX3) (N := 9) kx kb hts in_X3 hown hK hP 0 rfl rfl 8 (by decide) (hts _ q1378) (fun _ h9 => h9) rfl dX3_tufaErrors_139 ?_
                        refine ti_icmp_ge (tgt := 183) kx kb (by omega) dX3_tufaErrors_142 (by decide) (fun h142 => ?_) (fun h142 => ?_)
                        · refine lv_iload_n kx kb dX3_tufaErrors_183 rfl (lv_at hl 2 rfl) ?_
                          refine lv_iload_n kx kb dX3_tufaErrors_184 rfl (lv_at hl 1 rfl) ?_
                          refine lv_aload_n kx kb dX3_tufaErrors_185 rfl (lv_at hl 3 rfl) ?_
                          refine t_callRV C (met_X3_count l D E o b1 b2 b3 b4 b5 b6 0 w g ik st kp g2 dp2_2 pt (by first | assumption | omega) (by first | assumption | omega)) (cwV 0 hts (lw_V q1485 q1487 qs35 q62 q1488) rfl rfl rfl (by decide +kernel) ⟨Nat.le_of_ble_eq_true rfl, Nat.le_of_ble_eq_true rfl⟩) (va_recv hK hP (ci := 0) (q0 := 0) rfl rfl) hK hX hP hD hS hA [0, 1, 2, 3, 4, 5, 6] rfl (by decide) tYb_0 (fun _ _ _ => trivial) rfl hl.1 rfl (Nat.le_of_ble_eq_true rfl) dX3_tufaErrors_186 ⟨(show 0 ≤ 0 from by omega), (show 0 ≤ 0 from by omega)⟩ ?_
                          refine W.eq (g2 := F0 m0 189 ls [.int (iI ((fb_ct ik (w * g) : Nat) : Int)), .int (iI q), .int (iI n)]) rfl ?_
                          refine ti_isub kx kb dX3_tufaErrors_189 ?_
                          refine ti_mabs kx kb (hml.trans hl.1.symm) hown (hts _ q1441) (hts _ q996) (hts _ q74) (hts _ q997) (Nat.le_of_ble_eq_true rfl) (Nat.le_of_ble_eq_true rfl) (show 0 ≤ 0 from by omega) (show 0 ≤ 0 from by omega) (by omega) dX3_tufaErrors_190 ?_
                          refine ti_iadd kx kb dX3_tufaErrors_193 ?_
                          subst hQ
                          exact tm_iret C (g2, dp2_2) trivial hP hD hS (show 0 ≤ 0 from by omega) (show 0 ≤ 0 from by omega) (by unfold errN; rw [hn, hq, show y = g from by omega, show i = w * g from by omega]) rfl dX3_tufaErrors_194
                        · refine lv_iconst (v := iI 0) kx kb dX3_tufaErrors_145 rfl ?_
                          refine lv_istore (lv' := [(4, .int (iI 0)), (3, .int (iI (y : Int))), (2, .int (iI q)), (1, .int (iI n)), (0, .ref o)]) kx kb dX3_tufaErrors_146 hl (by decide) rfl (fun ls hl => ?_)
                          have cut148 : ∀ (fuel : Nat) (k : Nat) (q2 : Int), (k ≤ rnO w g ik (y : Int)) → (q2 = q + ((rsR (rowP w g ik (y : Int)) w k : Nat) : Int)) → (rnO w g ik (y : Int) - k) < fuel → ∀ ls : Array Slot, lv_has ls 5 [(4, .int (iI (k : Int))), (3, .int (iI (y : Int))), (2, .int (iI q2)), (1, .int (iI n)), (0, .ref o)] → W p0 l e0 ({ frames := 5, cells := 0, slots := 0, locals := 113 } : Room) s0 m0 args below meth c0 H locs (0) (0) Q (F0 m0 148 ls []) := by
                            intro fuel
                            induction fuel with
                            | zero =>
                              intro k q2 hk hq2 hfuel148
                              exact absurd hfuel148 (Nat.not_lt_zero _)
                            | succ fuel ih148 =>
                              intro k q2 hk hq2 hfuel148  ls hl
                              refine lv_iload kx kb dX3_tufaErrors_148 (lv_at hl 0 rfl) ?_
                              refine lv_aload_n kx kb dX3_tufaErrors_150 rfl (lv_at hl 4 rfl) ?_
                              refine lv_iload_n kx kb dX3_tufaErrors_151 rfl (lv_at hl 1 rfl) ?_
                              refine t_callRV C (met_X3_runsOf l D E o b1 b2 b3 b4 b5 b6 0 w g ik st kp g2 dp2_2 pt (y : Int) (by first | assumption | omega) (by first | assumption | omega) (by first | assumption | omega)) (cwV 1 hts (lw_V q1574 q1576 qs46 q62 q1577) rfl rfl rfl (by decide +kernel) ⟨Nat.le_of_ble_eq_true rfl, Nat.le_of_ble_eq_true rfl⟩) (va_recv hK hP (ci := 0) (q0 := 0) rfl rfl) hK hX hP hD hS hA [0, 1, 2, 3, 4, 5, 6] rfl (by decide) tYb_0 (fun _ _ _ => trivial) rfl hl.1 rfl (Nat.le_of_ble_eq_true rfl) dX3_tufaErrors_152 ⟨(show 0 ≤ 0 from by omega), (show 0 ≤ 0 from by omega)⟩ ?_
                              refine W.eq (g2 := F0 m0 155 ls [.int (iI ((rnO w g ik (y : Int) : Nat) : Int)), .int (iI (k : Int))]) rfl ?_
                              refine ti_icmp_ge (tgt := 177) kx kb (by omega) dX3_tufaErrors_155 (by decide) (fun h155 => ?_) (fun h155 => ?_)
                              · refine ti_iinc (a := (y : Int)) (lv' := [(3, .int (iI ((y : Int) + 1))), (4, .int (iI (k : Int))), (2, .int (iI q2)), (1, .int (iI n)), (0, .ref o)]) kx kb dX3_tufaErrors_177 hl (k := 1) rfl (by decide) rfl (fun ls hl => ?_)
                                refine lv_goto (tgt := 137) kx kb dX3_tufaErrors_180 (by decide) ?_
                                exact ih137 (y + 1) q2 (by omega) (by simp only [rsA, Int.natCast_add]; rw [← hq, ← show k = rnO w g ik (y : Int) from by omega]; exact hq2) (by omega) ls (lv_sub hl [0, 2, 3, 4] rfl)
                              · refine lv_iload_n kx kb dX3_tufaErrors_158 rfl (lv_at hl 2 rfl) ?_
                                refine lv_aload_n kx kb dX3_tufaErrors_159 rfl (lv_at hl 4 rfl) ?_
                                refine lv_iload_n kx kb dX3_tufaErrors_160 rfl (lv_at hl 1 rfl) ?_
                                refine lv_iload kx kb dX3_tufaErrors_161 (lv_at hl 0 rfl) ?_
                                refine t_callRV C (met_X3_run l D E o b1 b2 b3 b4 b5 b6 0 w g ik st kp g2 dp2_2 pt (y : Int) k (by first | assumption | omega) (by first | assumption | omega) (by first | assumption | omega) (by first | assumption | omega)) (cwV 2 hts (lw_V q1586 q1588 qs48 q62 q1589) rfl rfl rfl (by decide +kernel) ⟨Nat.le_of_ble_eq_true rfl, Nat.le_of_ble_eq_true rfl⟩) (va_recv hK hP (ci := 0) (q0 := 0) rfl rfl) hK hX hP hD hS hA [0, 1, 2, 3, 4, 5, 6] rfl (by decide) tYb_0 (fun _ _ _ => trivial) rfl hl.1 rfl (Nat.le_of_ble_eq_true rfl) dX3_tufaErrors_163 ⟨(show 0 ≤ 0 from by omega), (show 0 ≤ 0 from by omega)⟩ ?_
                                refine W.eq (g2 := F0 m0 166 ls [.int (iI (100 * ((rnX (rowP w g ik (y : Int)) k w : Nat) : Int) + ((rlen (rowP w g ik (y : Int)) (rnX (rowP w g ik (y : Int)) k w) w : Nat) : Int))), .int (iI q2)]) rfl ?_
                                have hx1 := rlen_le (rowP w g ik (y : Int)) (rnX (rowP w g ik (y : Int)) k w) w
                                have hx2 := rnX_le (rowP w g ik (y : Int)) k w
                                refine lv_bipush (v := iI 100) kx kb dX3_tufaErrors_166 rfl ?_
                                refine ti_irem kx kb (by omega) dX3_tufaErrors_168 ?_
                                have hmod : (100 * ((rnX (rowP w g ik (y : Int)) k w : Nat) : Int) + ((rlen (rowP w g ik (y : Int)) (rnX (rowP w g ik (y : Int)) k w) w : Nat) : Int)) % 100 = ((rlen (rowP w g ik (y : Int)) (rnX (rowP w g ik (y : Int)) k w) w : Nat) : Int) := by omega
                                refine ti_iadd kx kb dX3_tufaErrors_169 ?_
                                refine lv_istore_n (lv' := [(2, .int (iI (q2 + ((100 * ((rnX (rowP w g ik (y : Int)) k w : Nat) : Int) + ((rlen (rowP w g ik (y : Int)) (rnX (rowP w g ik (y : Int)) k w) w : Nat) : Int)) % 100)))), (4, .int (iI (k : Int))), (3, .int (iI (y : Int))), (1, .int (iI n)), (0, .ref o)]) kx kb dX3_tufaErrors_170 rfl hl (by decide) rfl (fun ls hl => ?_)
                                refine ti_iinc (a := (k : Int)) (lv' := [(4, .int (iI ((k : Int) + 1))), (2, .int (iI (q2 + ((100 * ((rnX (rowP w g ik (y : Int)) k w : Nat) : Int) + ((rlen (rowP w g ik (y : Int)) (rnX (rowP w g ik (y : Int)) k w) w : Nat) : Int)) % 100)))), (3, .int (iI (y : Int))), (1, .int (iI n)), (0, .ref o)]) kx kb dX3_tufaErrors_171 hl (k := 1) rfl (by decide) rfl (fun ls hl => ?_)
                                refine lv_goto (tgt := 148) kx kb dX3_tufaErrors_174 (by decide) ?_
                                exact ih148 (k + 1) (q2 + ((100 * ((rnX (rowP w g ik (y : Int)) k w : Nat) : Int) + ((rlen (rowP w g ik (y : Int)) (rnX (rowP w g ik (y : Int)) k w) w : Nat) : Int)) % 100)) (by omega) (by simp only [rsR, Int.natCast_add]; rw [hmod, hq2]; omega) (by omega) ls (lv_sub hl [0, 2, 1, 3, 4] rfl)
                          exact cut148 ((rnO w g ik (y : Int) - 0) + 1) 0 q (by omega) (by simp [rsR]) (Nat.lt_succ_self _) ls hl
                    exact cut137 ((g - 0) + 1) 0 0 (by omega) (by rfl) (Nat.lt_succ_self _) ls hl
                  · refine lv_iload_n kx kb dX3_tufaErrors_97 rfl (lv_at hl 2 rfl) ?_
                    refine lv_aload_n kx kb dX3_tufaErrors_98 rfl (lv_at hl 3 rfl) ?_
                    refine va_get (D := D.1) (ci := 0) (v := .ref b4) (C := RX3) (T := TX3) (N := 9) kx kb hts in_X3 hown hK hP 0 rfl rfl 4 (by decide) (hts _ q1374) (fun _ h9 => h9) rfl dX3_tufaErrors_99 ?_
                    refine lv_iload_n kx kb dX3_tufaErrors_102 rfl (lv_at hl 0 rfl) ?_
                    refine ta_zald C hK hP 4 rfl i (by omega) dX3_tufaErrors_103 ?_
                    refine tz_if_ne (tgt := 122) kx kb dX3_tufaErrors_104 (by decide) (fun h104 => ?_) (fun h104 => ?_)
                    · rw [hg2 i (by omega), decide_eq_true (by omega), Bool.true_and] at h104
                      have herr : errB w g ik i = true := errB_1 h104
                      refine lv_iconst (v := iI 1) kx kb dX3_tufaErrors_122 rfl ?_
                      refine lv_goto (tgt := 127) kx kb dX3_tufaErrors_123 (by decide) ?_
                      refine ti_iadd kx kb dX3_tufaErrors_127 ?_
                      refine lv_istore_n (lv' := [(1, .int (iI (n + 1))), (3, .int (iI (i : Int))), (2, .int (iI 0)), (0, .ref o)]) kx kb dX3_tufaErrors_128 rfl hl (by decide) rfl (fun ls hl => ?_)
                      refine ti_iinc (a := (i : Int)) (lv' := [(3, .int (iI ((i : Int) + 1))), (1, .int (iI (n + 1))), (2, .int (iI 0)), (0, .ref o)]) kx kb dX3_tufaErrors_129 hl (k := 1) rfl (by decide) rfl (fun ls hl => ?_)
                      refine lv_goto (tgt := 89) kx kb dX3_tufaErrors_132 (by decide) ?_
                      exact ih89 (i + 1) (n + 1) (by omega) (by rw [fb_ct_succ, hn, herr]; simp) (by omega) ls (lv_sub hl [0, 2, 1, 3] rfl)
                    · refine lv_aload_n kx kb dX3_tufaErrors_107 rfl (lv_at hl 3 rfl) ?_
                      refine va_get (D := D.1) (ci := 0) (v := .ref b5) (C := RX3) (T := TX3) (N := 9) kx kb hts in_X3 hown hK hP 0 rfl rfl 5 (by decide) (hts _ q1375) (fun _ h9 => h9) rfl dX3_tufaErrors_108 ?_
                      refine lv_iload_n kx kb dX3_tufaErrors_111 rfl (lv_at hl 0 rfl) ?_
                      refine ta_iald C hK hP 5 rfl i (by omega) dX3_tufaErrors_112 ?_
                      have hdi := isDep_rng hw hc84_1 i (by omega)
                      have hli := lkd_rng w g ik true i
                      refine lv_aload_n kx kb dX3_tufaErrors_113 rfl (lv_at hl 3 rfl) ?_
                      refine lv_iload_n kx kb dX3_tufaErrors_114 rfl (lv_at hl 0 rfl) ?_
                      refine lv_iconst (v := iI 1) kx kb dX3_tufaErrors_115 rfl ?_
                      refine t_callRV C (met_X3_looked l D E o b1 b2 b3 b4 b5 b6 0 w g ik st kp g2 dp2_2 pt i true (by first | assumption | omega) (by first | assumption | omega) (by first | assumption | omega)) (cwV 2 hts (lw_V q1666 q1668 qs57 q62 q1669) rfl rfl rfl (by decide +kernel) ⟨Nat.le_of_ble_eq_true rfl, Nat.le_of_ble_eq_true rfl⟩) (va_recv hK hP (ci := 0) (q0 := 0) rfl rfl) hK hX hP hD hS hA [0, 1, 2, 3, 4, 5, 6] rfl (by decide) tYb_0 (fun _ _ _ => trivial) rfl hl.1 rfl (Nat.le_of_ble_eq_true rfl) dX3_tufaErrors_116 ⟨(show 0 ≤ 0 from by omega), (show 0 ≤ 0 from by omega)⟩ ?_
                      refine W.eq (g2 := F0 m0 119 ls [.int (iI (lkd w g ik true i)), .int (iI (dp2_2 i)), .int (iI n)]) rfl ?_
                      refine ti_icmp_eq (tgt := 126) kx kb (by omega) dX3_tufaErrors_119 (by decide) (fun h119 => ?_) (fun h119 => ?_)
                      · rw [hg2 i (by omega), decide_eq_true (by omega), Bool.true_and] at h104
                        have herr : errB w g ik i = false := errB_3 h104 (isDep_F hc84_1 i (by omega)) h119
                        refine lv_iconst (v := iI 0) kx kb dX3_tufaErrors_126 rfl ?_
                        refine ti_iadd kx kb dX3_tufaErrors_127 ?_
                        refine lv_istore_n (lv' := [(1, .int (iI (n + 0))), (3, .int (iI (i : Int))), (2, .int (iI 0)), (0, .ref o)]) kx kb dX3_tufaErrors_128 rfl hl (by decide) rfl (fun ls hl => ?_)
                        refine ti_iinc (a := (i : Int)) (lv' := [(3, .int (iI ((i : Int) + 1))), (1, .int (iI (n + 0))), (2, .int (iI 0)), (0, .ref o)]) kx kb dX3_tufaErrors_129 hl (k := 1) rfl (by decide) rfl (fun ls hl => ?_)
                        refine lv_goto (tgt := 89) kx kb dX3_tufaErrors_132 (by decide) ?_
                        exact ih89 (i + 1) (n + 0) (by omega) (by rw [fb_ct_succ, hn, herr]; simp) (by omega) ls (lv_sub hl [0, 2, 1, 3] rfl)
                      · rw [hg2 i (by omega), decide_eq_true (by omega), Bool.true_and] at h104
                        have herr : errB w g ik i = true := errB_2 (isDep_F hc84_1 i (by omega)) h119
                        refine lv_iconst (v := iI 1) kx kb dX3_tufaErrors_122 rfl ?_
                        refine lv_goto (tgt := 127) kx kb dX3_tufaErrors_123 (by decide) ?_
                        refine ti_iadd kx kb dX3_tufaErrors_127 ?_
                        refine lv_istore_n (lv' := [(1, .int (iI (n + 1))), (3, .int (iI (i : Int))), (2, .int (iI 0)), (0, .ref o)]) kx kb dX3_tufaErrors_128 rfl hl (by decide) rfl (fun ls hl => ?_)
                        refine ti_iinc (a := (i : Int)) (lv' := [(3, .int (iI ((i : Int) + 1))), (1, .int (iI (n + 1))), (2, .int (iI 0)), (0, .ref o)]) kx kb dX3_tufaErrors_129 hl (k := 1) rfl (by decide) rfl (fun ls hl => ?_)
                        refine lv_goto (tgt := 89) kx kb dX3_tufaErrors_132 (by decide) ?_
                        exact ih89 (i + 1) (n + 1) (by omega) (by rw [fb_ct_succ, hn, herr]; simp) (by omega) ls (lv_sub hl [0, 2, 1, 3] rfl)
              exact cut89 ((w * g - 0) + 1) 0 0 (by omega) (by rfl) (Nat.lt_succ_self _) ls hl
            · refine lv_aload_n kx kb dX3_tufaErrors_47 rfl (lv_at hl 3 rfl) ?_
              refine va_get (D := D.1) (ci := 0) (v := .ref b4) (C := RX3) (T := TX3) (N := 9) kx kb hts in_X3 hown hK hP 0 rfl rfl 4 (by decide) (hts _ q1374) (fun _ h9 => h9) rfl dX3_tufaErrors_48 ?_
              refine lv_iload_n kx kb dX3_tufaErrors_51 rfl (lv_at hl 0 rfl) ?_
              refine lv_dup2_11 kx kb dX3_tufaErrors_52 rfl rfl ?_
              refine ta_zald C hK hP 4 rfl i (by omega) dX3_tufaErrors_53 ?_
              refine lv_aload_n kx kb dX3_tufaErrors_54 rfl (lv_at hl 3 rfl) ?_
              refine va_get (D := D.1) (ci := 0) (v := .ref b5) (C := RX3) (T := TX3) (N := 9) kx kb hts in_X3 hown hK hP 0 rfl rfl 5 (by decide) (hts _ q1375) (fun _ h9 => h9) rfl dX3_tufaErrors_55 ?_
              refine lv_iload_n kx kb dX3_tufaErrors_58 rfl (lv_at hl 0 rfl) ?_
              refine ta_iald C hK hP 5 rfl i (by omega) dX3_tufaErrors_59 ?_
              have hdi := isDep_rng hw hc34_1 i (by omega)
              have hli := lkd_rng w g ik false i
              refine lv_aload_n kx kb dX3_tufaErrors_60 rfl (lv_at hl 3 rfl) ?_
              refine lv_iload_n kx kb dX3_tufaErrors_61 rfl (lv_at hl 0 rfl) ?_
              refine lv_iconst (v := iI 0) kx kb dX3_tufaErrors_62 rfl ?_
              refine t_callRV C (met_X3_looked l D E o b1 b2 b3 b4 b5 b6 0 w g ik st kp g2 dp2_1 pt i false (by first | assumption | omega) (by first | assumption | omega) (by first | assumption | omega)) (cwV 2 hts (lw_V q1666 q1668 qs57 q62 q1669) rfl rfl rfl (by decide +kernel) ⟨Nat.le_of_ble_eq_true rfl, Nat.le_of_ble_eq_true rfl⟩) (va_recv hK hP (ci := 0) (q0 := 0) rfl rfl) hK hX hP hD hS hA [0, 1, 2, 3, 4, 5, 6] rfl (by decide) tYb_0 (fun _ _ _ => trivial) rfl hl.1 rfl (Nat.le_of_ble_eq_true rfl) dX3_tufaErrors_63 ⟨(show 0 ≤ 0 from by omega), (show 0 ≤ 0 from by omega)⟩ ?_
              refine W.eq (g2 := F0 m0 66 ls [.int (iI (lkd w g ik false i)), .int (iI (dp2_1 i)), .int (zI (g2 i)), .int (iI (i : Int)), .ref b4]) rfl ?_
              refine ti_icmp_eq (tgt := 73) kx kb (by omega) dX3_tufaErrors_66 (by decide) (fun h66 => ?_) (fun h66 => ?_)
              · refine lv_iconst (v := iI 0) kx kb dX3_tufaErrors_73 rfl ?_
                refine W.eq (g2 := F0 m0 74 ls [.int (zI false), .int (zI (g2 i)), .int (iI (i : Int)), .ref b4]) rfl ?_
                refine tz_ior kx kb dX3_tufaErrors_74 ?_
                refine ta_zast C hK hP hD hS 4 rfl i (by omega) dX3_tufaErrors_75 (fun H locs hP hD hS => ?_)
                have hP : va_P D.1 clAll [(o, .inr (0, [.int (iI 0), .ref b1, .ref b2, .ref b3, .ref b4, .ref b5, .ref b6, .int (iI (w : Int)), .int (iI (g : Int))])), (b1, .inl (D.2 0, 1024, .inl (fun x_ => zI (ik x_)))), (b2, .inl (D.2 0, 1024, .inl (fun x_ => zI (st x_)))), (b3, .inl (D.2 0, 1024, .inl (fun x_ => zI (kp x_)))), (b4, .inl (D.2 0, 1024, .inl (fun x_ => zI ((va_up g2 i ((g2 i) || false)) x_)))), (b5, .inl (D.2 1, 1024, .inl (fun x_ => iI (dp2_1 x_)))), (b6, .inl (D.2 1, 1024, .inl (fun x_ => iI (pt x_))))] H := hP
                have hD : va_D A [(o, .inr (0, [.int (iI 0), .ref b1, .ref b2, .ref b3, .ref b4, .ref b5, .ref b6, .int (iI (w : Int)), .int (iI (g : Int))])), (b1, .inl (D.2 0, 1024, .inl (fun x_ => zI (ik x_)))), (b2, .inl (D.2 0, 1024, .inl (fun x_ => zI (st x_)))), (b3, .inl (D.2 0, 1024, .inl (fun x_ => zI (kp x_)))), (b4, .inl (D.2 0, 1024, .inl (fun x_ => zI ((va_up g2 i ((g2 i) || false)) x_)))), (b5, .inl (D.2 1, 1024, .inl (fun x_ => iI (dp2_1 x_)))), (b6, .inl (D.2 1, 1024, .inl (fun x_ => iI (pt x_))))] := hD
                refine ti_iinc (a := (i : Int)) (lv' := [(3, .int (iI ((i : Int) + 1))), (2, .int (iI 0)), (1, .int (iI 0)), (0, .ref o)]) kx kb dX3_tufaErrors_76 hl (k := 0) rfl (by decide) rfl (fun ls hl => ?_)
                refine lv_goto (tgt := 39) kx kb dX3_tufaErrors_79 (by decide) ?_
                exact ih39 (i + 1) (va_up g2 i ((g2 i) || false)) (by omega) (fun j hj => errs_step hg2 (isDep_F hc34_1 i (by omega)) (decide_eq_false (fun z => z h66)).symm j hj) (by omega) H locs hP hD hS ls hl
              · refine lv_iconst (v := iI 1) kx kb dX3_tufaErrors_69 rfl ?_
                refine lv_goto (tgt := 74) kx kb dX3_tufaErrors_70 (by decide) ?_
                refine W.eq (g2 := F0 m0 74 ls [.int (zI true), .int (zI (g2 i)), .int (iI (i : Int)), .ref b4]) rfl ?_
                refine tz_ior kx kb dX3_tufaErrors_74 ?_
                refine ta_zast C hK hP hD hS 4 rfl i (by omega) dX3_tufaErrors_75 (fun H locs hP hD hS => ?_)
                have hP : va_P D.1 clAll [(o, .inr (0, [.int (iI 0), .ref b1, .ref b2, .ref b3, .ref b4, .ref b5, .ref b6, .int (iI (w : Int)), .int (iI (g : Int))])), (b1, .inl (D.2 0, 1024, .inl (fun x_ => zI (ik x_)))), (b2, .inl (D.2 0, 1024, .inl (fun x_ => zI (st x_)))), (b3, .inl (D.2 0, 1024, .inl (fun x_ => zI (kp x_)))), (b4, .inl (D.2 0, 1024, .inl (fun x_ => zI ((va_up g2 i ((g2 i) || true)) x_)))), (b5, .inl (D.2 1, 1024, .inl (fun x_ => iI (dp2_1 x_)))), (b6, .inl (D.2 1, 1024, .inl (fun x_ => iI (pt x_))))] H := hP
                have hD : va_D A [(o, .inr (0, [.int (iI 0), .ref b1, .ref b2, .ref b3, .ref b4, .ref b5, .ref b6, .int (iI (w : Int)), .int (iI (g : Int))])), (b1, .inl (D.2 0, 1024, .inl (fun x_ => zI (ik x_)))), (b2, .inl (D.2 0, 1024, .inl (fun x_ => zI (st x_)))), (b3, .inl (D.2 0, 1024, .inl (fun x_ => zI (kp x_)))), (b4, .inl (D.2 0, 1024, .inl (fun x_ => zI ((va_up g2 i ((g2 i) || true)) x_)))), (b5, .inl (D.2 1, 1024, .inl (fun x_ => iI (dp2_1 x_)))), (b6, .inl (D.2 1, 1024, .inl (fun x_ => iI (pt x_))))] := hD
                refine ti_iinc (a := (i : Int)) (lv' := [(3, .int (iI ((i : Int) + 1))), (2, .int (iI 0)), (1, .int (iI 0)), (0, .ref o)]) kx kb dX3_tufaErrors_76 hl (k := 0) rfl (by decide) rfl (fun ls hl => ?_)
                refine lv_goto (tgt := 39) kx kb dX3_tufaErrors_79 (by decide) ?_
                exact ih39 (i + 1) (va_up g2 i ((g2 i) || true)) (by omega) (fun j hj => errs_step hg2 (isDep_F hc34_1 i (by omega)) (decide_eq_true h66).symm j hj) (by omega) H locs hP hD hS ls hl
        exact cut39 ((w * g - 0) + 1) 0 g1 (by omega) (by intro j hj; simp; exact hg1 j (by omega)) (Nat.lt_succ_self _) H locs hP hD hS ls hl
      · refine lv_aload_n kx kb dX3_tufaErrors_19 rfl (lv_at hl 3 rfl) ?_
        refine va_get (D := D.1) (ci := 0) (v := .ref b4) (C := RX3) (T := TX3) (N := 9) kx kb hts in_X3 hown hK hP 0 rfl rfl 4 (by decide) (hts _ q1374) (fun _ h9 => h9) rfl dX3_tufaErrors_20 ?_
        refine lv_iload_n kx kb dX3_tufaErrors_23 rfl (lv_at hl 0 rfl) ?_
        refine lv_iconst (v := iI 0) kx kb dX3_tufaErrors_24 rfl ?_
        refine W.eq (g2 := F0 m0 25 ls [.int (zI false), .int (iI (i : Int)), .ref b4]) rfl ?_
        refine ta_zast C hK hP hD hS 4 rfl i (by omega) dX3_tufaErrors_25 (fun H locs hP hD hS => ?_)
        have hP : va_P D.1 clAll [(o, .inr (0, [.int (iI 0), .ref b1, .ref b2, .ref b3, .ref b4, .ref b5, .ref b6, .int (iI (w : Int)), .int (iI (g : Int))])), (b1, .inl (D.2 0, 1024, .inl (fun x_ => zI (ik x_)))), (b2, .inl (D.2 0, 1024, .inl (fun x_ => zI (st x_)))), (b3, .inl (D.2 0, 1024, .inl (fun x_ => zI (kp x_)))), (b4, .inl (D.2 0, 1024, .inl (fun x_ => zI ((va_up g1 i false) x_)))), (b5, .inl (D.2 1, 1024, .inl (fun x_ => iI (dp x_)))), (b6, .inl (D.2 1, 1024, .inl (fun x_ => iI (pt x_))))] H := hP
        have hD : va_D A [(o, .inr (0, [.int (iI 0), .ref b1, .ref b2, .ref b3, .ref b4, .ref b5, .ref b6, .int (iI (w : Int)), .int (iI (g : Int))])), (b1, .inl (D.2 0, 1024, .inl (fun x_ => zI (ik x_)))), (b2, .inl (D.2 0, 1024, .inl (fun x_ => zI (st x_)))), (b3, .inl (D.2 0, 1024, .inl (fun x_ => zI (kp x_)))), (b4, .inl (D.2 0, 1024, .inl (fun x_ => zI ((va_up g1 i false) x_)))), (b5, .inl (D.2 1, 1024, .inl (fun x_ => iI (dp x_)))), (b6, .inl (D.2 1, 1024, .inl (fun x_ => iI (pt x_))))] := hD
        refine ti_iinc (a := (i : Int)) (lv' := [(3, .int (iI ((i : Int) + 1))), (2, .int (iI 0)), (1, .int (iI 0)), (0, .ref o)]) kx kb dX3_tufaErrors_26 hl (k := 0) rfl (by decide) rfl (fun ls hl => ?_)
        refine lv_goto (tgt := 11) kx kb dX3_tufaErrors_29 (by decide) ?_
        exact ih11 (i + 1) (va_up g1 i false) (by omega) (by intro j hj; unfold va_up; split; rfl; exact hg1 j (by omega)) (by omega) H locs hP hD hS ls hl
  exact cut11 ((w * g - 0) + 1) 0 go (by omega) (by intro j hj; omega) (Nat.lt_succ_self _) H locs hP hD hS ls hl
set_option maxHeartbeats 4000000 in
set_option maxRecDepth 100000 in
theorem met_X3_checksum (l : Launch) (D : TG) (E : TE) (o : Nat) (b1 : Nat) (b2 : Nat) (b3 : Nat) (b4 : Nat) (b5 : Nat) (b6 : Nat) (thr : Int) (w : Nat) (g : Nat) (ik : Nat → Bool) (st : Nat → Bool) (kp : Nat → Bool) (go : Nat → Bool) (dp : Nat → Int) (pt : Nat → Int) (hw : 1 ≤ w ∧ w ≤ 32) (hg : 1 ≤ g ∧ g ≤ 32) : tMet l yX3_checksum cX3_checksum 4 (some .long) 4 93 (0) (0) [.ref o] D E [(o, .inr (0, [.int (iI thr), .ref b1, .ref b2, .ref b3, .ref b4, .ref b5, .ref b6, .int (iI (w : Int)), .int (iI (g : Int))])), (b1, .inl (D.2 0, 1024, .inl (fun x_ => zI (ik x_)))), (b2, .inl (D.2 0, 1024, .inl (fun x_ => zI (st x_)))), (b3, .inl (D.2 0, 1024, .inl (fun x_ => zI (kp x_)))), (b4, .inl (D.2 0, 1024, .inl (fun x_ => zI (go x_)))), (b5, .inl (D.2 1, 1024, .inl (fun x_ => iI (dp x_)))), (b6, .inl (D.2 1, 1024, .inl (fun x_ => iI (pt x_))))] tY0 (S := (Nat → Int) × (Nat → Int)) (fun u_ => True) (fun u_ => some (.long (ckF w g ik st))) (fun u_ => [(o, .inr (0, [.int (iI 0), .ref b1, .ref b2, .ref b3, .ref b4, .ref b5, .ref b6, .int (iI (w : Int)), .int (iI (g : Int))])), (b1, .inl (D.2 0, 1024, .inl (fun x_ => zI (ik x_)))), (b2, .inl (D.2 0, 1024, .inl (fun x_ => zI (st x_)))), (b3, .inl (D.2 0, 1024, .inl (fun x_ => zI (kp x_)))), (b4, .inl (D.2 0, 1024, .inl (fun x_ => zI (go x_)))), (b5, .inl (D.2 1, 1024, .inl (fun x_ => iI (u_.1 x_)))), (b6, .inl (D.2 1, 1024, .inl (fun x_ => iI (u_.2 x_))))]) := by
  refine tu_met (by decide +kernel) (Nat.le_of_ble_eq_true rfl) ?_
  intro p0 e0 s0 m0 below meth c0 A ls args Q hag hQ C hK hX hY hP hD hA hAe hl
  obtain ⟨kx, kb, hml, hown, hts, -⟩ := id C
  have hS : va_S A s0.heap s0.heap [] := va_S.rf
  have hl : lv_has ls 4 [(0, .ref o)] := hl
  have hwg := wg_le hw hg
  refine lv_aload_n kx kb dX3_checksum_0 rfl (lv_at hl 0 rfl) ?_
  refine lv_iconst (v := iI 0) kx kb dX3_checksum_1 rfl ?_
  refine va_put (D := D.1) (ci := 0) (v := .int (iI 0)) (ty := .int) (C := RX3) (T := TX3) (N := 9) kx kb hts in_X3 tyX3 tyX3_ok nmX3 hown hK hP hD hS 0 rfl rfl 0 (by decide) (hts _ q1370) (fun _ h9 => h9) rfl (by decide +kernel) rfl rfl (Nat.le_of_ble_eq_true rfl) dX3_checksum_2 (fun H locs hP hD hS => ?_)
  have hP : va_P D.1 clAll [(o, .inr (0, [.int (iI 0), .ref b1, .ref b2, .ref b3, .ref b4, .ref b5, .ref b6, .int (iI (w : Int)), .int (iI (g : Int))])), (b1, .inl (D.2 0, 1024, .inl (fun x_ => zI (ik x_)))), (b2, .inl (D.2 0, 1024, .inl (fun x_ => zI (st x_)))), (b3, .inl (D.2 0, 1024, .inl (fun x_ => zI (kp x_)))), (b4, .inl (D.2 0, 1024, .inl (fun x_ => zI (go x_)))), (b5, .inl (D.2 1, 1024, .inl (fun x_ => iI (dp x_)))), (b6, .inl (D.2 1, 1024, .inl (fun x_ => iI (pt x_))))] H := hP
  have hD : va_D A [(o, .inr (0, [.int (iI 0), .ref b1, .ref b2, .ref b3, .ref b4, .ref b5, .ref b6, .int (iI (w : Int)), .int (iI (g : Int))])), (b1, .inl (D.2 0, 1024, .inl (fun x_ => zI (ik x_)))), (b2, .inl (D.2 0, 1024, .inl (fun x_ => zI (st x_)))), (b3, .inl (D.2 0, 1024, .inl (fun x_ => zI (kp x_)))), (b4, .inl (D.2 0, 1024, .inl (fun x_ => zI (go x_)))), (b5, .inl (D.2 1, 1024, .inl (fun x_ => iI (dp x_)))), (b6, .inl (D.2 1, 1024, .inl (fun x_ => iI (pt x_))))] := hD
  refine lv_lconst (v := 0) kx kb dX3_checksum_5 rfl ?_
  refine lv_aload_n kx kb dX3_checksum_6 rfl (lv_at hl 0 rfl) ?_
  refine va_get (D := D.1) (ci := 0) (v := .int (iI (w : Int))) (C := RX3) (T := TX3) (N := 9) kx kb hts in_X3 hown hK hP 0 rfl rfl 7 (by decide) (hts _ q1377) (fun _ h9 => h9) rfl dX3_checksum_7 ?_
  refine lv_i2l kx kb dX3_checksum_10 rfl ?_
  refine t_callRS C (met_X3_mixes l D E 0 ((iI (w : Int)).toInt64)) (va_cwS 2 hts (lw_S q1675 q1676 q62 q1677) rfl rfl rfl (by decide +kernel) ⟨Nat.le_of_ble_eq_true rfl, Nat.le_of_ble_eq_true rfl⟩) hK hX hP hD hS hA [] rfl (by decide) tYb_0 (fun _ _ _ => trivial) rfl hl.1 rfl (Nat.le_of_ble_eq_true rfl) dX3_checksum_11 ⟨(show 0 ≤ 0 from by omega), (show 0 ≤ 0 from by omega)⟩ ?_
  refine W.eq (g2 := F0 m0 14 ls [.long (31 * 0 + ((iI (w : Int)).toInt64))]) rfl ?_
  refine lv_aload_n kx kb dX3_checksum_14 rfl (lv_at hl 0 rfl) ?_
  refine va_get (D := D.1) (ci := 0) (v := .int (iI (g : Int))) (C := RX3) (T := TX3) (N := 9) kx kb hts in_X3 hown hK hP 0 rfl rfl 8 (by decide) (hts _ q1378) (fun _ h9 => h9) rfl dX3_checksum_15 ?_
  refine lv_i2l kx kb dX3_checksum_18 rfl ?_
  refine t_callRS C (met_X3_mixes l D E (31 * 0 + ((iI (w : Int)).toInt64)) ((iI (g : Int)).toInt64)) (va_cwS 2 hts (lw_S q1675 q1676 q62 q1677) rfl rfl rfl (by decide +kernel) ⟨Nat.le_of_ble_eq_true rfl, Nat.le_of_ble_eq_true rfl⟩) hK hX hP hD hS hA [] rfl (by decide) tYb_0 (fun _ _ _ => trivial) rfl hl.1 rfl (Nat.le_of_ble_eq_true rfl) dX3_checksum_19 ⟨(show 0 ≤ 0 from by omega), (show 0 ≤ 0 from by omega)⟩ ?_
  refine W.eq (g2 := F0 m0 22 ls [.long (31 * (31 * 0 + ((iI (w : Int)).toInt64)) + ((iI (g : Int)).toInt64))]) rfl ?_
  refine lv_aload_n kx kb dX3_checksum_22 rfl (lv_at hl 0 rfl) ?_
  refine t_callV (wr := []) C (met_X3_allParts l D E o b1 b2 b3 b4 b5 b6 0 w g ik st kp go dp pt (by first | assumption | omega) (by first | assumption | omega)) (cwV 0 hts (lw_V q1602 q1604 qs50 q62 q1605) rfl rfl rfl (by decide +kernel) ⟨Nat.le_of_ble_eq_true rfl, Nat.le_of_ble_eq_true rfl⟩) (va_recv hK hP (ci := 0) (q0 := 0) rfl rfl) hK hX hP hD hS hA [0, 1, 2, 3, 4, 5, 6] [] rfl rfl (by decide) (by decide) (by decide) tYb_0 (fun _ _ _ => trivial) rfl hl.1 rfl (Nat.le_of_ble_eq_true rfl) dX3_checksum_23 ⟨(show 0 ≤ 0 from by omega), (show 0 ≤ 0 from by omega)⟩ (fun u_ H locs hp hP hD hS => ?_)
  obtain ⟨pt2_1, rfl⟩ : ∃ z, z = u_ := ⟨_, rfl⟩
  have hc23_1 : ∀ j_, j_ < w * g → pt2_1 j_ = lbI w g ik true j_ := hp
  have hP : va_P D.1 clAll [(o, .inr (0, [.int (iI 0), .ref b1, .ref b2, .ref b3, .ref b4, .ref b5, .ref b6, .int (iI (w : Int)), .int (iI (g : Int))])), (b1, .inl (D.2 0, 1024, .inl (fun x_ => zI (ik x_)))), (b2, .inl (D.2 0, 1024, .inl (fun x_ => zI (st x_)))), (b3, .inl (D.2 0, 1024, .inl (fun x_ => zI (kp x_)))), (b4, .inl (D.2 0, 1024, .inl (fun x_ => zI (go x_)))), (b5, .inl (D.2 1, 1024, .inl (fun x_ => iI (dp x_)))), (b6, .inl (D.2 1, 1024, .inl (fun x_ => iI (pt2_1 x_))))] H := hP
  have hD : va_D A [(o, .inr (0, [.int (iI 0), .ref b1, .ref b2, .ref b3, .ref b4, .ref b5, .ref b6, .int (iI (w : Int)), .int (iI (g : Int))])), (b1, .inl (D.2 0, 1024, .inl (fun x_ => zI (ik x_)))), (b2, .inl (D.2 0, 1024, .inl (fun x_ => zI (st x_)))), (b3, .inl (D.2 0, 1024, .inl (fun x_ => zI (kp x_)))), (b4, .inl (D.2 0, 1024, .inl (fun x_ => zI (go x_)))), (b5, .inl (D.2 1, 1024, .inl (fun x_ => iI (dp x_)))), (b6, .inl (D.2 1, 1024, .inl (fun x_ => iI (pt2_1 x_))))] := hD
  refine W.eq (g2 := F0 m0 26 ls [.int (iI ((prtN w g ik : Nat) : Int)), .long (31 * (31 * 0 + ((iI (w : Int)).toInt64)) + ((iI (g : Int)).toInt64))]) rfl ?_
  refine lv_i2l kx kb dX3_checksum_26 rfl ?_
  refine t_callRS C (met_X3_mixes l D E (31 * (31 * 0 + ((iI (w : Int)).toInt64)) + ((iI (g : Int)).toInt64)) ((iI ((prtN w g ik : Nat) : Int)).toInt64)) (va_cwS 2 hts (lw_S q1675 q1676 q62 q1677) rfl rfl rfl (by decide +kernel) ⟨Nat.le_of_ble_eq_true rfl, Nat.le_of_ble_eq_true rfl⟩) hK hX hP hD hS hA [] rfl (by decide) tYb_0 (fun _ _ _ => trivial) rfl hl.1 rfl (Nat.le_of_ble_eq_true rfl) dX3_checksum_27 ⟨(show 0 ≤ 0 from by omega), (show 0 ≤ 0 from by omega)⟩ ?_
  refine W.eq (g2 := F0 m0 30 ls [.long (31 * (31 * (31 * 0 + ((iI (w : Int)).toInt64)) + ((iI (g : Int)).toInt64)) + ((iI ((prtN w g ik : Nat) : Int)).toInt64))]) rfl ?_
  refine lv_aload_n kx kb dX3_checksum_30 rfl (lv_at hl 0 rfl) ?_
  refine t_callV (wr := []) C (met_X3_allHoles l D E o b1 b2 b3 b4 b5 b6 0 w g ik st kp go dp pt2_1 (by first | assumption | omega) (by first | assumption | omega)) (cwV 0 hts (lw_V q1626 q1628 qs53 q62 q1629) rfl rfl rfl (by decide +kernel) ⟨Nat.le_of_ble_eq_true rfl, Nat.le_of_ble_eq_true rfl⟩) (va_recv hK hP (ci := 0) (q0 := 0) rfl rfl) hK hX hP hD hS hA [0, 1, 2, 3, 4, 5, 6] [] rfl rfl (by decide) (by decide) (by decide) tYb_0 (fun _ _ _ => trivial) rfl hl.1 rfl (Nat.le_of_ble_eq_true rfl) dX3_checksum_31 ⟨(show 0 ≤ 0 from by omega), (show 0 ≤ 0 from by omega)⟩ (fun u_ H locs hp hP hD hS => ?_)
  obtain ⟨pt2_2, rfl⟩ : ∃ z, z = u_ := ⟨_, rfl⟩
  have hP : va_P D.1 clAll [(o, .inr (0, [.int (iI 0), .ref b1, .ref b2, .ref b3, .ref b4, .ref b5, .ref b6, .int (iI (w : Int)), .int (iI (g : Int))])), (b1, .inl (D.2 0, 1024, .inl (fun x_ => zI (ik x_)))), (b2, .inl (D.2 0, 1024, .inl (fun x_ => zI (st x_)))), (b3, .inl (D.2 0, 1024, .inl (fun x_ => zI (kp x_)))), (b4, .inl (D.2 0, 1024, .inl (fun x_ => zI (go x_)))), (b5, .inl (D.2 1, 1024, .inl (fun x_ => iI (dp x_)))), (b6, .inl (D.2 1, 1024, .inl (fun x_ => iI (pt2_2 x_))))] H := hP
  have hD : va_D A [(o, .inr (0, [.int (iI 0), .ref b1, .ref b2, .ref b3, .ref b4, .ref b5, .ref b6, .int (iI (w : Int)), .int (iI (g : Int))])), (b1, .inl (D.2 0, 1024, .inl (fun x_ => zI (ik x_)))), (b2, .inl (D.2 0, 1024, .inl (fun x_ => zI (st x_)))), (b3, .inl (D.2 0, 1024, .inl (fun x_ => zI (kp x_)))), (b4, .inl (D.2 0, 1024, .inl (fun x_ => zI (go x_)))), (b5, .inl (D.2 1, 1024, .inl (fun x_ => iI (dp x_)))), (b6, .inl (D.2 1, 1024, .inl (fun x_ => iI (pt2_2 x_))))] := hD
  refine W.eq (g2 := F0 m0 34 ls [.int (iI ((holN w g ik : Nat) : Int)), .long (31 * (31 * (31 * 0 + ((iI (w : Int)).toInt64)) + ((iI (g : Int)).toInt64)) + ((iI ((prtN w g ik : Nat) : Int)).toInt64))]) rfl ?_
  refine lv_i2l kx kb dX3_checksum_34 rfl ?_
  refine t_callRS C (met_X3_mixes l D E (31 * (31 * (31 * 0 + ((iI (w : Int)).toInt64)) + ((iI (g : Int)).toInt64)) + ((iI ((prtN w g ik : Nat) : Int)).toInt64)) ((iI ((holN w g ik : Nat) : Int)).toInt64)) (va_cwS 2 hts (lw_S q1675 q1676 q62 q1677) rfl rfl rfl (by decide +kernel) ⟨Nat.le_of_ble_eq_true rfl, Nat.le_of_ble_eq_true rfl⟩) hK hX hP hD hS hA [] rfl (by decide) tYb_0 (fun _ _ _ => trivial) rfl hl.1 rfl (Nat.le_of_ble_eq_true rfl) dX3_checksum_35 ⟨(show 0 ≤ 0 from by omega), (show 0 ≤ 0 from by omega)⟩ ?_
  refine W.eq (g2 := F0 m0 38 ls [.long (31 * (31 * (31 * (31 * 0 + ((iI (w : Int)).toInt64)) + ((iI (g : Int)).toInt64)) + ((iI ((prtN w g ik : Nat) : Int)).toInt64)) + ((iI ((holN w g ik : Nat) : Int)).toInt64))]) rfl ?_
  refine lv_lstore_n (lv' := [(1, .long (31 * (31 * (31 * (31 * 0 + ((iI (w : Int)).toInt64)) + ((iI (g : Int)).toInt64)) + ((iI ((prtN w g ik : Nat) : Int)).toInt64)) + ((iI ((holN w g ik : Nat) : Int)).toInt64))), (0, .ref o)]) kx kb dX3_checksum_38 rfl hl (by decide) rfl (fun ls hl => ?_)
  refine lv_aload_n kx kb dX3_checksum_39 rfl (lv_at hl 1 rfl) ?_
  refine lv_iconst (v := iI 0) kx kb dX3_checksum_40 rfl ?_
  refine t_callV (wr := []) C (met_X3_depths l D E o b1 b2 b3 b4 b5 b6 0 w g ik st kp go dp pt2_2 false (by first | assumption | omega) (by first | assumption | omega)) (cwV 1 hts (lw_V q1553 q1555 qs44 q62 q1556) rfl rfl rfl (by decide +kernel) ⟨Nat.le_of_ble_eq_true rfl, Nat.le_of_ble_eq_true rfl⟩) (va_recv hK hP (ci := 0) (q0 := 0) rfl rfl) hK hX hP hD hS hA [0, 1, 2, 3, 4, 5, 6] [] rfl rfl (by decide) (by decide) (by decide) tYb_0 (fun _ _ _ => trivial) rfl hl.1 rfl (Nat.le_of_ble_eq_true rfl) dX3_checksum_41 ⟨(show 0 ≤ 0 from by omega), (show 0 ≤ 0 from by omega)⟩ (fun u_ H locs hp hP hD hS => ?_)
  obtain ⟨dp2_3, rfl⟩ : ∃ z, z = u_ := ⟨_, rfl⟩
  have hc41_1 : isDep w g ik false dp2_3 := hp
  have hP : va_P D.1 clAll [(o, .inr (0, [.int (iI 0), .ref b1, .ref b2, .ref b3, .ref b4, .ref b5, .ref b6, .int (iI (w : Int)), .int (iI (g : Int))])), (b1, .inl (D.2 0, 1024, .inl (fun x_ => zI (ik x_)))), (b2, .inl (D.2 0, 1024, .inl (fun x_ => zI (st x_)))), (b3, .inl (D.2 0, 1024, .inl (fun x_ => zI (kp x_)))), (b4, .inl (D.2 0, 1024, .inl (fun x_ => zI (go x_)))), (b5, .inl (D.2 1, 1024, .inl (fun x_ => iI (dp2_3 x_)))), (b6, .inl (D.2 1, 1024, .inl (fun x_ => iI (pt2_2 x_))))] H := hP
  have hD : va_D A [(o, .inr (0, [.int (iI 0), .ref b1, .ref b2, .ref b3, .ref b4, .ref b5, .ref b6, .int (iI (w : Int)), .int (iI (g : Int))])), (b1, .inl (D.2 0, 1024, .inl (fun x_ => zI (ik x_)))), (b2, .inl (D.2 0, 1024, .inl (fun x_ => zI (st x_)))), (b3, .inl (D.2 0, 1024, .inl (fun x_ => zI (kp x_)))), (b4, .inl (D.2 0, 1024, .inl (fun x_ => zI (go x_)))), (b5, .inl (D.2 1, 1024, .inl (fun x_ => iI (dp2_3 x_)))), (b6, .inl (D.2 1, 1024, .inl (fun x_ => iI (pt2_2 x_))))] := hD
  refine W.eq (g2 := F0 m0 44 ls []) rfl ?_
  refine lv_iconst (v := iI 0) kx kb dX3_checksum_44 rfl ?_
  refine lv_istore_n (lv' := [(3, .int (iI 0)), (1, .long (31 * (31 * (31 * (31 * 0 + ((iI (w : Int)).toInt64)) + ((iI (g : Int)).toInt64)) + ((iI ((prtN w g ik : Nat) : Int)).toInt64)) + ((iI ((holN w g ik : Nat) : Int)).toInt64))), (0, .ref o)]) kx kb dX3_checksum_45 rfl hl (by decide) rfl (fun ls hl => ?_)
  have cut46 : ∀ (fuel : Nat) (i : Nat) (p1 : Nat → Int), (i ≤ w * g) → (∀ j, j < i → p1 j = depF w g ik false j) → (w * g - i) < fuel → ∀ (H : Heap) (locs : List Loc), va_P D.1 clAll [(o, .inr (0, [.int (iI 0), .ref b1, .ref b2, .ref b3, .ref b4, .ref b5, .ref b6, .int (iI (w : Int)), .int (iI (g : Int))])), (b1, .inl (D.2 0, 1024, .inl (fun x_ => zI (ik x_)))), (b2, .inl (D.2 0, 1024, .inl (fun x_ => zI (st x_)))), (b3, .inl (D.2 0, 1024, .inl (fun x_ => zI (kp x_)))), (b4, .inl (D.2 0, 1024, .inl (fun x_ => zI (go x_)))), (b5, .inl (D.2 1, 1024, .inl (fun x_ => iI (dp2_3 x_)))), (b6, .inl (D.2 1, 1024, .inl (fun x_ => iI (p1 x_))))] H → va_D A [(o, .inr (0, [.int (iI 0), .ref b1, .ref b2, .ref b3, .ref b4, .ref b5, .ref b6, .int (iI (w : Int)), .int (iI (g : Int))])), (b1, .inl (D.2 0, 1024, .inl (fun x_ => zI (ik x_)))), (b2, .inl (D.2 0, 1024, .inl (fun x_ => zI (st x_)))), (b3, .inl (D.2 0, 1024, .inl (fun x_ => zI (kp x_)))), (b4, .inl (D.2 0, 1024, .inl (fun x_ => zI (go x_)))), (b5, .inl (D.2 1, 1024, .inl (fun x_ => iI (dp2_3 x_)))), (b6, .inl (D.2 1, 1024, .inl (fun x_ => iI (p1 x_))))] → va_S A s0.heap H locs → ∀ ls : Array Slot, lv_has ls 4 [(3, .int (iI (i : Int))), (1, .long (31 * (31 * (31 * (31 * 0 + ((iI (w : Int)).toInt64)) + ((iI (g : Int)).toInt64)) + ((iI ((prtN w g ik : Nat) : Int)).toInt64)) + ((iI ((holN w g ik : Nat) : Int)).toInt64))), (0, .ref o)] → W p0 l e0 ({ frames := 4, cells := 0, slots := 0, locals := 93 } : Room) s0 m0 args below meth c0 H locs (0) (0) Q (F0 m0 46 ls []) := by
    intro fuel
    induction fuel with
    | zero =>
      intro i p1 hi hp1 hfuel46
      exact absurd hfuel46 (Nat.not_lt_zero _)
    | succ fuel ih46 =>
      intro i p1 hi hp1 hfuel46 H locs hP hD hS ls hl
      refine lv_iload_n kx kb dX3_checksum_46 rfl (lv_at hl 0 rfl) ?_
      refine lv_aload_n kx kb dX3_checksum_47 rfl (lv_at hl 2 rfl) ?_
      refine t_callRV C (met_X3_cells l D E o b1 b2 b3 b4 b5 b6 0 w g ik st kp go dp2_3 p1 (by first | assumption | omega) (by first | assumption | omega)) (cwV 0 hts (lw_V q1467 q1469 qs33 q62 q1470) rfl rfl rfl (by decide +kernel) ⟨Nat.le_of_ble_eq_true rfl, Nat.le_of_ble_eq_true rfl⟩) (va_recv hK hP (ci := 0) (q0 := 0) rfl rfl) hK hX hP hD hS hA [0, 1, 2, 3, 4, 5, 6] rfl (by decide) tYb_0 (fun _ _ _ => trivial) rfl hl.1 rfl (Nat.le_of_ble_eq_true rfl) dX3_checksum_48 ⟨(show 0 ≤ 0 from by omega), (show 0 ≤ 0 from by omega)⟩ ?_
      refine W.eq (g2 := F0 m0 51 ls [.int (iI ((w * g : Nat) : Int)), .int (iI (i : Int))]) rfl ?_
      refine ti_icmp_ge (tgt := 72) kx kb (by omega) dX3_checksum_51 (by decide) (fun h51 => ?_) (fun h51 => ?_)
      · refine lv_aload_n kx kb dX3_checksum_72 rfl (lv_at hl 2 rfl) ?_
        refine lv_iconst (v := iI 1) kx kb dX3_checksum_73 rfl ?_
        refine t_callV (wr := []) C (met_X3_depths l D E o b1 b2 b3 b4 b5 b6 0 w g ik st kp go dp2_3 p1 true (by first | assumption | omega) (by first | assumption | omega)) (cwV 1 hts (lw_V q1553 q1555 qs44 q62 q1556) rfl rfl rfl (by decide +kernel) ⟨Nat.le_of_ble_eq_true rfl, Nat.le_of_ble_eq_true rfl⟩) (va_recv hK hP (ci := 0) (q0 := 0) rfl rfl) hK hX hP hD hS hA [0, 1, 2, 3, 4, 5, 6] [] rfl rfl (by decide) (by decide) (by decide) tYb_0 (fun _ _ _ => trivial) rfl hl.1 rfl (Nat.le_of_ble_eq_true rfl) dX3_checksum_74 ⟨(show 0 ≤ 0 from by omega), (show 0 ≤ 0 from by omega)⟩ (fun u_ H locs hp hP hD hS => ?_)
        obtain ⟨dp2_4, rfl⟩ : ∃ z, z = u_ := ⟨_, rfl⟩
        have hc74_1 : isDep w g ik true dp2_4 := hp
        have hP : va_P D.1 clAll [(o, .inr (0, [.int (iI 0), .ref b1, .ref b2, .ref b3, .ref b4, .ref b5, .ref b6, .int (iI (w : Int)), .int (iI (g : Int))])), (b1, .inl (D.2 0, 1024, .inl (fun x_ => zI (ik x_)))), (b2, .inl (D.2 0, 1024, .inl (fun x_ => zI (st x_)))), (b3, .inl (D.2 0, 1024, .inl (fun x_ => zI (kp x_)))), (b4, .inl (D.2 0, 1024, .inl (fun x_ => zI (go x_)))), (b5, .inl (D.2 1, 1024, .inl (fun x_ => iI (dp2_4 x_)))), (b6, .inl (D.2 1, 1024, .inl (fun x_ => iI (p1 x_))))] H := hP
        have hD : va_D A [(o, .inr (0, [.int (iI 0), .ref b1, .ref b2, .ref b3, .ref b4, .ref b5, .ref b6, .int (iI (w : Int)), .int (iI (g : Int))])), (b1, .inl (D.2 0, 1024, .inl (fun x_ => zI (ik x_)))), (b2, .inl (D.2 0, 1024, .inl (fun x_ => zI (st x_)))), (b3, .inl (D.2 0, 1024, .inl (fun x_ => zI (kp x_)))), (b4, .inl (D.2 0, 1024, .inl (fun x_ => zI (go x_)))), (b5, .inl (D.2 1, 1024, .inl (fun x_ => iI (dp2_4 x_)))), (b6, .inl (D.2 1, 1024, .inl (fun x_ => iI (p1 x_))))] := hD
        refine W.eq (g2 := F0 m0 77 ls []) rfl ?_
        refine lv_iconst (v := iI 0) kx kb dX3_checksum_77 rfl ?_
        refine lv_istore_n (lv' := [(3, .int (iI 0)), (1, .long (31 * (31 * (31 * (31 * 0 + ((iI (w : Int)).toInt64)) + ((iI (g : Int)).toInt64)) + ((iI ((prtN w g ik : Nat) : Int)).toInt64)) + ((iI ((holN w g ik : Nat) : Int)).toInt64))), (0, .ref o)]) kx kb dX3_checksum_78 rfl hl (by decide) rfl (fun ls hl => ?_)
        have cut79 : ∀ (fuel : Nat) (i : Nat) (s : Int64), (i ≤ w * g) → (s = ckS w g ik st (31 * (31 * (31 * (iI (w : Int)).toInt64 + (iI (g : Int)).toInt64) + (iI ((prtN w g ik : Nat) : Int)).toInt64) + (iI ((holN w g ik : Nat) : Int)).toInt64) i) → (w * g - i) < fuel → ∀ ls : Array Slot, lv_has ls 4 [(3, .int (iI (i : Int))), (1, .long s), (0, .ref o)] → W p0 l e0 ({ frames := 4, cells := 0, slots := 0, locals := 93 } : Room) s0 m0 args below meth c0 H locs (0) (0) Q (F0 m0 79 ls []) := by
          intro fuel
          induction fuel with
          | zero =>
            intro i s hi hs hfuel79
            exact absurd hfuel79 (Nat.not_lt_zero _)
          | succ fuel ih79 =>
            intro i s hi hs hfuel79  ls hl
            refine lv_iload_n kx kb dX3_checksum_79 rfl (lv_at hl 0 rfl) ?_
            refine lv_aload_n kx kb dX3_checksum_80 rfl (lv_at hl 2 rfl) ?_
            refine t_callRV C (met_X3_cells l D E o b1 b2 b3 b4 b5 b6 0 w g ik st kp go dp2_4 p1 (by first | assumption | omega) (by first | assumption | omega)) (cwV 0 hts (lw_V q1467 q1469 qs33 q62 q1470) rfl rfl rfl (by decide +kernel) ⟨Nat.le_of_ble_eq_true rfl, Nat.le_of_ble_eq_true rfl⟩) (va_recv hK hP (ci := 0) (q0 := 0) rfl rfl) hK hX hP hD hS hA [0, 1, 2, 3, 4, 5, 6] rfl (by decide) tYb_0 (fun _ _ _ => trivial) rfl hl.1 rfl (Nat.le_of_ble_eq_true rfl) dX3_checksum_81 ⟨(show 0 ≤ 0 from by omega), (show 0 ≤ 0 from by omega)⟩ ?_
            refine W.eq (g2 := F0 m0 84 ls [.int (iI ((w * g : Nat) : Int)), .int (iI (i : Int))]) rfl ?_
            refine ti_icmp_ge (tgt := 149) kx kb (by omega) dX3_checksum_84 (by decide) (fun h84 => ?_) (fun h84 => ?_)
            · refine lv_lload_n kx kb dX3_checksum_149 rfl (lv_at hl 1 rfl) ?_
              subst hQ
              exact tm_lret C (dp2_4, p1) trivial hP hD hS (show 0 ≤ 0 from by omega) (show 0 ≤ 0 from by omega) (by unfold ckF; rw [hs, show i = w * g from by omega]) rfl dX3_checksum_150
            · refine lv_lload_n kx kb dX3_checksum_87 rfl (lv_at hl 1 rfl) ?_
              refine lv_aload_n kx kb dX3_checksum_88 rfl (lv_at hl 2 rfl) ?_
              refine va_get (D := D.1) (ci := 0) (v := .ref b1) (C := RX3) (T := TX3) (N := 9) kx kb hts in_X3 hown hK hP 0 rfl rfl 1 (by decide) (hts _ q1371) (fun _ h9 => h9) rfl dX3_checksum_89 ?_
              refine lv_iload_n kx kb dX3_checksum_92 rfl (lv_at hl 0 rfl) ?_
              refine ta_zald C hK hP 1 rfl i (by omega) dX3_checksum_93 ?_
              refine tz_if_eq (tgt := 101) kx kb dX3_checksum_94 (by decide) (fun h94 => ?_) (fun h94 => ?_)
              · refine lv_lconst (v := 0) kx kb dX3_checksum_101 rfl ?_
                refine t_callRS C (met_X3_mixes l D E s 0) (va_cwS 2 hts (lw_S q1675 q1676 q62 q1677) rfl rfl rfl (by decide +kernel) ⟨Nat.le_of_ble_eq_true rfl, Nat.le_of_ble_eq_true rfl⟩) hK hX hP hD hS hA [] rfl (by decide) tYb_0 (fun _ _ _ => trivial) rfl hl.1 rfl (Nat.le_of_ble_eq_true rfl) dX3_checksum_102 ⟨(show 0 ≤ 0 from by omega), (show 0 ≤ 0 from by omega)⟩ ?_
                refine W.eq (g2 := F0 m0 105 ls [.long (31 * s + 0)]) rfl ?_
                refine lv_aload_n kx kb dX3_checksum_105 rfl (lv_at hl 2 rfl) ?_
                refine va_get (D := D.1) (ci := 0) (v := .ref b6) (C := RX3) (T := TX3) (N := 9) kx kb hts in_X3 hown hK hP 0 rfl rfl 6 (by decide) (hts _ q1376) (fun _ h9 => h9) rfl dX3_checksum_106 ?_
                refine lv_iload_n kx kb dX3_checksum_109 rfl (lv_at hl 0 rfl) ?_
                refine ta_iald C hK hP 6 rfl i (by omega) dX3_checksum_110 ?_
                refine lv_i2l kx kb dX3_checksum_111 rfl ?_
                refine t_callRS C (met_X3_mixes l D E (31 * s + 0) ((iI (p1 i)).toInt64)) (va_cwS 2 hts (lw_S q1675 q1676 q62 q1677) rfl rfl rfl (by decide +kernel) ⟨Nat.le_of_ble_eq_true rfl, Nat.le_of_ble_eq_true rfl⟩) hK hX hP hD hS hA [] rfl (by decide) tYb_0 (fun _ _ _ => trivial) rfl hl.1 rfl (Nat.le_of_ble_eq_true rfl) dX3_checksum_112 ⟨(show 0 ≤ 0 from by omega), (show 0 ≤ 0 from by omega)⟩ ?_
                refine W.eq (g2 := F0 m0 115 ls [.long (31 * (31 * s + 0) + ((iI (p1 i)).toInt64))]) rfl ?_
                refine lv_aload_n kx kb dX3_checksum_115 rfl (lv_at hl 2 rfl) ?_
                refine va_get (D := D.1) (ci := 0) (v := .ref b5) (C := RX3) (T := TX3) (N := 9) kx kb hts in_X3 hown hK hP 0 rfl rfl 5 (by decide) (hts _ q1375) (fun _ h9 => h9) rfl dX3_checksum_116 ?_
                refine lv_iload_n kx kb dX3_checksum_119 rfl (lv_at hl 0 rfl) ?_
                refine ta_iald C hK hP 5 rfl i (by omega) dX3_checksum_120 ?_
                refine lv_i2l kx kb dX3_checksum_121 rfl ?_
                refine t_callRS C (met_X3_mixes l D E (31 * (31 * s + 0) + ((iI (p1 i)).toInt64)) ((iI (dp2_4 i)).toInt64)) (va_cwS 2 hts (lw_S q1675 q1676 q62 q1677) rfl rfl rfl (by decide +kernel) ⟨Nat.le_of_ble_eq_true rfl, Nat.le_of_ble_eq_true rfl⟩) hK hX hP hD hS hA [] rfl (by decide) tYb_0 (fun _ _ _ => trivial) rfl hl.1 rfl (Nat.le_of_ble_eq_true rfl) dX3_checksum_122 ⟨(show 0 ≤ 0 from by omega), (show 0 ≤ 0 from by omega)⟩ ?_
                refine W.eq (g2 := F0 m0 125 ls [.long (31 * (31 * (31 * s + 0) + ((iI (p1 i)).toInt64)) + ((iI (dp2_4 i)).toInt64))]) rfl ?_
                refine lv_aload_n kx kb dX3_checksum_125 rfl (lv_at hl 2 rfl) ?_
                refine va_get (D := D.1) (ci := 0) (v := .ref b2) (C := RX3) (T := TX3) (N := 9) kx kb hts in_X3 hown hK hP 0 rfl rfl 2 (by decide) (hts _ q1372) (fun _ h9 => h9) rfl dX3_checksum_126 ?_
                refine lv_iload_n kx kb dX3_checksum_129 rfl (lv_at hl 0 rfl) ?_
                refine ta_zald C hK hP 2 rfl i (by omega) dX3_checksum_130 ?_
                refine tz_if_eq (tgt := 138) kx kb dX3_checksum_131 (by decide) (fun h131 => ?_) (fun h131 => ?_)
                · refine lv_lconst (v := 0) kx kb dX3_checksum_138 rfl ?_
                  refine t_callRS C (met_X3_mixes l D E (31 * (31 * (31 * s + 0) + ((iI (p1 i)).toInt64)) + ((iI (dp2_4 i)).toInt64)) 0) (va_cwS 2 hts (lw_S q1675 q1676 q62 q1677) rfl rfl rfl (by decide +kernel) ⟨Nat.le_of_ble_eq_true rfl, Nat.le_of_ble_eq_true rfl⟩) hK hX hP hD hS hA [] rfl (by decide) tYb_0 (fun _ _ _ => trivial) rfl hl.1 rfl (Nat.le_of_ble_eq_true rfl) dX3_checksum_139 ⟨(show 0 ≤ 0 from by omega), (show 0 ≤ 0 from by omega)⟩ ?_
                  refine W.eq (g2 := F0 m0 142 ls [.long (31 * (31 * (31 * (31 * s + 0) + ((iI (p1 i)).toInt64)) + ((iI (dp2_4 i)).toInt64)) + 0)]) rfl ?_
                  refine lv_lstore_n (lv' := [(1, .long (31 * (31 * (31 * (31 * s + 0) + ((iI (p1 i)).toInt64)) + ((iI (dp2_4 i)).toInt64)) + 0)), (3, .int (iI (i : Int))), (0, .ref o)]) kx kb dX3_checksum_142 rfl hl (by decide) rfl (fun ls hl => ?_)
                  refine ti_iinc (a := (i : Int)) (lv' := [(3, .int (iI ((i : Int) + 1))), (1, .long (31 * (31 * (31 * (31 * s + 0) + ((iI (p1 i)).toInt64)) + ((iI (dp2_4 i)).toInt64)) + 0)), (0, .ref o)]) kx kb dX3_checksum_143 hl (k := 1) rfl (by decide) rfl (fun ls hl => ?_)
                  refine lv_goto (tgt := 79) kx kb dX3_checksum_146 (by decide) ?_
                  exact ih79 (i + 1) (31 * (31 * (31 * (31 * s + 0) + ((iI (p1 i)).toInt64)) + ((iI (dp2_4 i)).toInt64)) + 0) (by omega) (by simp only [ckS]; rw [← hs, ← hp1 i (by omega), ← isDep_F hc74_1 i (by omega)]; simp [h94, h131]) (by omega) ls hl
                · refine lv_lconst (v := 1) kx kb dX3_checksum_134 rfl ?_
                  refine lv_goto (tgt := 139) kx kb dX3_checksum_135 (by decide) ?_
                  refine t_callRS C (met_X3_mixes l D E (31 * (31 * (31 * s + 0) + ((iI (p1 i)).toInt64)) + ((iI (dp2_4 i)).toInt64)) 1) (va_cwS 2 hts (lw_S q1675 q1676 q62 q1677) rfl rfl rfl (by decide +kernel) ⟨Nat.le_of_ble_eq_true rfl, Nat.le_of_ble_eq_true rfl⟩) hK hX hP hD hS hA [] rfl (by decide) tYb_0 (fun _ _ _ => trivial) rfl hl.1 rfl (Nat.le_of_ble_eq_true rfl) dX3_checksum_139 ⟨(show 0 ≤ 0 from by omega), (show 0 ≤ 0 from by omega)⟩ ?_
                  refine W.eq (g2 := F0 m0 142 ls [.long (31 * (31 * (31 * (31 * s + 0) + ((iI (p1 i)).toInt64)) + ((iI (dp2_4 i)).toInt64)) + 1)]) rfl ?_
                  refine lv_lstore_n (lv' := [(1, .long (31 * (31 * (31 * (31 * s + 0) + ((iI (p1 i)).toInt64)) + ((iI (dp2_4 i)).toInt64)) + 1)), (3, .int (iI (i : Int))), (0, .ref o)]) kx kb dX3_checksum_142 rfl hl (by decide) rfl (fun ls hl => ?_)
                  refine ti_iinc (a := (i : Int)) (lv' := [(3, .int (iI ((i : Int) + 1))), (1, .long (31 * (31 * (31 * (31 * s + 0) + ((iI (p1 i)).toInt64)) + ((iI (dp2_4 i)).toInt64)) + 1)), (0, .ref o)]) kx kb dX3_checksum_143 hl (k := 1) rfl (by decide) rfl (fun ls hl => ?_)
                  refine lv_goto (tgt := 79) kx kb dX3_checksum_146 (by decide) ?_
                  exact ih79 (i + 1) (31 * (31 * (31 * (31 * s + 0) + ((iI (p1 i)).toInt64)) + ((iI (dp2_4 i)).toInt64)) + 1) (by omega) (by simp only [ckS]; rw [← hs, ← hp1 i (by omega), ← isDep_F hc74_1 i (by omega)]; simp [h94, h131]) (by omega) ls hl
              · refine lv_lconst (v := 1) kx kb dX3_checksum_97 rfl ?_
                refine lv_goto (tgt := 102) kx kb dX3_checksum_98 (by decide) ?_
                refine t_callRS C (met_X3_mixes l D E s 1) (va_cwS 2 hts (lw_S q1675 q1676 q62 q1677) rfl rfl rfl (by decide +kernel) ⟨Nat.le_of_ble_eq_true rfl, Nat.le_of_ble_eq_true rfl⟩) hK hX hP hD hS hA [] rfl (by decide) tYb_0 (fun _ _ _ => trivial) rfl hl.1 rfl (Nat.le_of_ble_eq_true rfl) dX3_checksum_102 ⟨(show 0 ≤ 0 from by omega), (show 0 ≤ 0 from by omega)⟩ ?_
                refine W.eq (g2 := F0 m0 105 ls [.long (31 * s + 1)]) rfl ?_
                refine lv_aload_n kx kb dX3_checksum_105 rfl (lv_at hl 2 rfl) ?_
                refine va_get (D := D.1) (ci := 0) (v := .ref b6) (C := RX3) (T := TX3) (N := 9) kx kb hts in_X3 hown hK hP 0 rfl rfl 6 (by decide) (hts _ q1376) (fun _ h9 => h9) rfl dX3_checksum_106 ?_
                refine lv_iload_n kx kb dX3_checksum_109 rfl (lv_at hl 0 rfl) ?_
                refine ta_iald C hK hP 6 rfl i (by omega) dX3_checksum_110 ?_
                refine lv_i2l kx kb dX3_checksum_111 rfl ?_
                refine t_callRS C (met_X3_mixes l D E (31 * s + 1) ((iI (p1 i)).toInt64)) (va_cwS 2 hts (lw_S q1675 q1676 q62 q1677) rfl rfl rfl (by decide +kernel) ⟨Nat.le_of_ble_eq_true rfl, Nat.le_of_ble_eq_true rfl⟩) hK hX hP hD hS hA [] rfl (by decide) tYb_0 (fun _ _ _ => trivial) rfl hl.1 rfl (Nat.le_of_ble_eq_true rfl) dX3_checksum_112 ⟨(show 0 ≤ 0 from by omega), (show 0 ≤ 0 from by omega)⟩ ?_
                refine W.eq (g2 := F0 m0 115 ls [.long (31 * (31 * s + 1) + ((iI (p1 i)).toInt64))]) rfl ?_
                refine lv_aload_n kx kb dX3_checksum_115 rfl (lv_at hl 2 rfl) ?_
                refine va_get (D := D.1) (ci := 0) (v := .ref b5) (C := RX3) (T := TX3) (N := 9) kx kb hts in_X3 hown hK hP 0 rfl rfl 5 (by decide) (hts _ q1375) (fun _ h9 => h9) rfl dX3_checksum_116 ?_
                refine lv_iload_n kx kb dX3_checksum_119 rfl (lv_at hl 0 rfl) ?_
                refine ta_iald C hK hP 5 rfl i (by omega) dX3_checksum_120 ?_
                refine lv_i2l kx kb dX3_checksum_121 rfl ?_
                refine t_callRS C (met_X3_mixes l D E (31 * (31 * s + 1) + ((iI (p1 i)).toInt64)) ((iI (dp2_4 i)).toInt64)) (va_cwS 2 hts (lw_S q1675 q1676 q62 q1677) rfl rfl rfl (by decide +kernel) ⟨Nat.le_of_ble_eq_true rfl, Nat.le_of_ble_eq_true rfl⟩) hK hX hP hD hS hA [] rfl (by decide) tYb_0 (fun _ _ _ => trivial) rfl hl.1 rfl (Nat.le_of_ble_eq_true rfl) dX3_checksum_122 ⟨(show 0 ≤ 0 from by omega), (show 0 ≤ 0 from by omega)⟩ ?_
                refine W.eq (g2 := F0 m0 125 ls [.long (31 * (31 * (31 * s + 1) + ((iI (p1 i)).toInt64)) + ((iI (dp2_4 i)).toInt64))]) rfl ?_
                refine lv_aload_n kx kb dX3_checksum_125 rfl (lv_at hl 2 rfl) ?_
                refine va_get (D := D.1) (ci := 0) (v := .ref b2) (C := RX3) (T := TX3) (N := 9) kx kb hts in_X3 hown hK hP 0 rfl rfl 2 (by decide) (hts _ q1372) (fun _ h9 => h9) rfl dX3_checksum_126 ?_
                refine lv_iload_n kx kb dX3_checksum_129 rfl (lv_at hl 0 rfl) ?_
                refine ta_zald C hK hP 2 rfl i (by omega) dX3_checksum_130 ?_
                refine tz_if_eq (tgt := 138) kx kb dX3_checksum_131 (by decide) (fun h131 => ?_) (fun h131 => ?_)
                · refine lv_lconst (v := 0) kx kb dX3_checksum_138 rfl ?_
                  refine t_callRS C (met_X3_mixes l D E (31 * (31 * (31 * s + 1) + ((iI (p1 i)).toInt64)) + ((iI (dp2_4 i)).toInt64)) 0) (va_cwS 2 hts (lw_S q1675 q1676 q62 q1677) rfl rfl rfl (by decide +kernel) ⟨Nat.le_of_ble_eq_true rfl, Nat.le_of_ble_eq_true rfl⟩) hK hX hP hD hS hA [] rfl (by decide) tYb_0 (fun _ _ _ => trivial) rfl hl.1 rfl (Nat.le_of_ble_eq_true rfl) dX3_checksum_139 ⟨(show 0 ≤ 0 from by omega), (show 0 ≤ 0 from by omega)⟩ ?_
                  refine W.eq (g2 := F0 m0 142 ls [.long (31 * (31 * (31 * (31 * s + 1) + ((iI (p1 i)).toInt64)) + ((iI (dp2_4 i)).toInt64)) + 0)]) rfl ?_
                  refine lv_lstore_n (lv' := [(1, .long (31 * (31 * (31 * (31 * s + 1) + ((iI (p1 i)).toInt64)) + ((iI (dp2_4 i)).toInt64)) + 0)), (3, .int (iI (i : Int))), (0, .ref o)]) kx kb dX3_checksum_142 rfl hl (by decide) rfl (fun ls hl => ?_)
                  refine ti_iinc (a := (i : Int)) (lv' := [(3, .int (iI ((i : Int) + 1))), (1, .long (31 * (31 * (31 * (31 * s + 1) + ((iI (p1 i)).toInt64)) + ((iI (dp2_4 i)).toInt64)) + 0)), (0, .ref o)]) kx kb dX3_checksum_143 hl (k := 1) rfl (by decide) rfl (fun ls hl => ?_)
                  refine lv_goto (tgt := 79) kx kb dX3_checksum_146 (by decide) ?_
                  exact ih79 (i + 1) (31 * (31 * (31 * (31 * s + 1) + ((iI (p1 i)).toInt64)) + ((iI (dp2_4 i)).toInt64)) + 0) (by omega) (by simp only [ckS]; rw [← hs, ← hp1 i (by omega), ← isDep_F hc74_1 i (by omega)]; simp [h94, h131]) (by omega) ls hl
                · refine lv_lconst (v := 1) kx kb dX3_checksum_134 rfl ?_
                  refine lv_goto (tgt := 139) kx kb dX3_checksum_135 (by decide) ?_
                  refine t_callRS C (met_X3_mixes l D E (31 * (31 * (31 * s + 1) + ((iI (p1 i)).toInt64)) + ((iI (dp2_4 i)).toInt64)) 1) (va_cwS 2 hts (lw_S q1675 q1676 q62 q1677) rfl rfl rfl (by decide +kernel) ⟨Nat.le_of_ble_eq_true rfl, Nat.le_of_ble_eq_true rfl⟩) hK hX hP hD hS hA [] rfl (by decide) tYb_0 (fun _ _ _ => trivial) rfl hl.1 rfl (Nat.le_of_ble_eq_true rfl) dX3_checksum_139 ⟨(show 0 ≤ 0 from by omega), (show 0 ≤ 0 from by omega)⟩ ?_
                  refine W.eq (g2 := F0 m0 142 ls [.long (31 * (31 * (31 * (31 * s + 1) + ((iI (p1 i)).toInt64)) + ((iI (dp2_4 i)).toInt64)) + 1)]) rfl ?_
                  refine lv_lstore_n (lv' := [(1, .long (31 * (31 * (31 * (31 * s + 1) + ((iI (p1 i)).toInt64)) + ((iI (dp2_4 i)).toInt64)) + 1)), (3, .int (iI (i : Int))), (0, .ref o)]) kx kb dX3_checksum_142 rfl hl (by decide) rfl (fun ls hl => ?_)
                  refine ti_iinc (a := (i : Int)) (lv' := [(3, .int (iI ((i : Int) + 1))), (1, .long (31 * (31 * (31 * (31 * s + 1) + ((iI (p1 i)).toInt64)) + ((iI (dp2_4 i)).toInt64)) + 1)), (0, .ref o)]) kx kb dX3_checksum_143 hl (k := 1) rfl (by decide) rfl (fun ls hl => ?_)
                  refine lv_goto (tgt := 79) kx kb dX3_checksum_146 (by decide) ?_
                  exact ih79 (i + 1) (31 * (31 * (31 * (31 * s + 1) + ((iI (p1 i)).toInt64)) + ((iI (dp2_4 i)).toInt64)) + 1) (by omega) (by simp only [ckS]; rw [← hs, ← hp1 i (by omega), ← isDep_F hc74_1 i (by omega)]; simp [h94, h131]) (by omega) ls hl
        exact cut79 ((w * g - 0) + 1) 0 (31 * (31 * (31 * (31 * 0 + ((iI (w : Int)).toInt64)) + ((iI (g : Int)).toInt64)) + ((iI ((prtN w g ik : Nat) : Int)).toInt64)) + ((iI ((holN w g ik : Nat) : Int)).toInt64)) (by omega) (by simp only [ckS]; congr 4; simp) (Nat.lt_succ_self _) ls hl
      · refine lv_aload_n kx kb dX3_checksum_54 rfl (lv_at hl 2 rfl) ?_
        refine va_get (D := D.1) (ci := 0) (v := .ref b6) (C := RX3) (T := TX3) (N := 9) kx kb hts in_X3 hown hK hP 0 rfl rfl 6 (by decide) (hts _ q1376) (fun _ h9 => h9) rfl dX3_checksum_55 ?_
        refine lv_iload_n kx kb dX3_checksum_58 rfl (lv_at hl 0 rfl) ?_
        refine lv_aload_n kx kb dX3_checksum_59 rfl (lv_at hl 2 rfl) ?_
        refine va_get (D := D.1) (ci := 0) (v := .ref b5) (C := RX3) (T := TX3) (N := 9) kx kb hts in_X3 hown hK hP 0 rfl rfl 5 (by decide) (hts _ q1375) (fun _ h9 => h9) rfl dX3_checksum_60 ?_
        refine lv_iload_n kx kb dX3_checksum_63 rfl (lv_at hl 0 rfl) ?_
        refine ta_iald C hK hP 5 rfl i (by omega) dX3_checksum_64 ?_
        refine ta_iast C hK hP hD hS 6 rfl i (by omega) dX3_checksum_65 (fun H locs hP hD hS => ?_)
        have hP : va_P D.1 clAll [(o, .inr (0, [.int (iI 0), .ref b1, .ref b2, .ref b3, .ref b4, .ref b5, .ref b6, .int (iI (w : Int)), .int (iI (g : Int))])), (b1, .inl (D.2 0, 1024, .inl (fun x_ => zI (ik x_)))), (b2, .inl (D.2 0, 1024, .inl (fun x_ => zI (st x_)))), (b3, .inl (D.2 0, 1024, .inl (fun x_ => zI (kp x_)))), (b4, .inl (D.2 0, 1024, .inl (fun x_ => zI (go x_)))), (b5, .inl (D.2 1, 1024, .inl (fun x_ => iI (dp2_3 x_)))), (b6, .inl (D.2 1, 1024, .inl (fun x_ => iI ((va_up p1 i (dp2_3 i)) x_))))] H := hP
        have hD : va_D A [(o, .inr (0, [.int (iI 0), .ref b1, .ref b2, .ref b3, .ref b4, .ref b5, .ref b6, .int (iI (w : Int)), .int (iI (g : Int))])), (b1, .inl (D.2 0, 1024, .inl (fun x_ => zI (ik x_)))), (b2, .inl (D.2 0, 1024, .inl (fun x_ => zI (st x_)))), (b3, .inl (D.2 0, 1024, .inl (fun x_ => zI (kp x_)))), (b4, .inl (D.2 0, 1024, .inl (fun x_ => zI (go x_)))), (b5, .inl (D.2 1, 1024, .inl (fun x_ => iI (dp2_3 x_)))), (b6, .inl (D.2 1, 1024, .inl (fun x_ => iI ((va_up p1 i (dp2_3 i)) x_))))] := hD
        refine ti_iinc (a := (i : Int)) (lv' := [(3, .int (iI ((i : Int) + 1))), (1, .long (31 * (31 * (31 * (31 * 0 + ((iI (w : Int)).toInt64)) + ((iI (g : Int)).toInt64)) + ((iI ((prtN w g ik : Nat) : Int)).toInt64)) + ((iI ((holN w g ik : Nat) : Int)).toInt64))), (0, .ref o)]) kx kb dX3_checksum_66 hl (k := 0) rfl (by decide) rfl (fun ls hl => ?_)
        refine lv_goto (tgt := 46) kx kb dX3_checksum_69 (by decide) ?_
        exact ih46 (i + 1) (va_up p1 i (dp2_3 i)) (by omega) (fun j hj => by unfold va_up; split; (rename_i q; subst q; exact isDep_F hc41_1 j (by omega)); exact hp1 j (by omega)) (by omega) H locs hP hD hS ls hl
  exact cut46 ((w * g - 0) + 1) 0 pt2_2 (by omega) (by intro j hj; omega) (Nat.lt_succ_self _) H locs hP hD hS ls hl
set_option maxHeartbeats 4000000 in
set_option maxRecDepth 100000 in
theorem met_X3_init (l : Launch) (D : TG) (E : TE) (o : Nat) : tMet l yX3_init cX3_init 1 none 1 40 (6) (6144) [.ref o] D E [(o, .inr (0, [.int (iI 0), .null, .null, .null, .null, .null, .null, .int (iI 0), .int (iI 0)]))] tY0 (S := Nat × Nat × Nat × Nat × Nat × Nat) (fun u_ => True) (fun u_ => none) (fun u_ => [(o, .inr (0, [.int (iI 0), .ref u_.1, .ref u_.2.1, .ref u_.2.2.1, .ref u_.2.2.2.1, .ref u_.2.2.2.2.1, .ref u_.2.2.2.2.2, .int (iI (8 : Int)), .int (iI (8 : Int))])), (u_.1, .inl (D.2 0, 1024, .inl (fun x_ => zI ((fun _ => false) x_)))), (u_.2.1, .inl (D.2 0, 1024, .inl (fun x_ => zI ((fun _ => false) x_)))), (u_.2.2.1, .inl (D.2 0, 1024, .inl (fun x_ => zI ((fun _ => false) x_)))), (u_.2.2.2.1, .inl (D.2 0, 1024, .inl (fun x_ => zI ((fun _ => false) x_)))), (u_.2.2.2.2.1, .inl (D.2 1, 1024, .inl (fun x_ => iI ((fun _ => 0) x_)))), (u_.2.2.2.2.2, .inl (D.2 1, 1024, .inl (fun x_ => iI ((fun _ => 0) x_))))]) := by
  refine tu_met (by decide +kernel) (Nat.le_of_ble_eq_true rfl) ?_
  intro p0 e0 s0 m0 below meth c0 A ls args Q hag hQ C hK hX hY hP hD hA hAe hl
  obtain ⟨kx, kb, hml, hown, hts, -⟩ := id C
  have hS : va_S A s0.heap s0.heap [] := va_S.rf
  have hl : lv_has ls 1 [(0, .ref o)] := hl
  refine lv_aload_n kx kb dX3_init_0 rfl (lv_at hl 0 rfl) ?_
  refine W.objInit kx kb hown (hts _ q1365) (hts _ q102) (hts _ q103) rfl (by rw [hml]; exact hl.1) rfl dX3_init_1 (Nat.le_of_ble_eq_true rfl) (Nat.le_of_ble_eq_true rfl) ?_
  refine W.eq (g2 := F0 m0 4 ls []) rfl ?_
  refine lv_aload_n kx kb dX3_init_4 rfl (lv_at hl 0 rfl) ?_
  refine lv_sipush (v := iI 1024) kx kb dX3_init_5 rfl ?_
  refine ta_newZ C (hts _ q1398) hK hP hD hS hA 1024 (by omega) ⟨(show 1 ≤ 6 from by omega), (show 1024 ≤ 6144 from by omega)⟩ dX3_init_8 (fun q_1 H hP hD hS => ?_)
  have hP : va_P D.1 clAll [(o, .inr (0, [.int (iI 0), .null, .null, .null, .null, .null, .null, .int (iI 0), .int (iI 0)])), (q_1, .inl (D.2 0, 1024, .inl (fun x_ => zI ((fun _ => false) x_))))] H := hP
  have hD : va_D A [(o, .inr (0, [.int (iI 0), .null, .null, .null, .null, .null, .null, .int (iI 0), .int (iI 0)])), (q_1, .inl (D.2 0, 1024, .inl (fun x_ => zI ((fun _ => false) x_))))] := hD
  refine va_putF (D := D.1) (ci := 0) (v := .ref q_1) (ty := (.array .boolean)) (C := RX3) (T := TX3) (N := 9) kx kb hts in_X3 tyX3 tyX3_ok nmX3 hown hK hP hD hS 0 rfl rfl 1 (by decide) (hts _ q1371) (fun _ h9 => h9) rfl C.2.2.2.2.2.2.2 rfl (by decide +kernel) rfl rfl (Nat.le_of_ble_eq_true rfl) dX3_init_10 (fun H locs hP hD hS => ?_)
  have hP : va_P D.1 clAll [(o, .inr (0, [.int (iI 0), .ref q_1, .null, .null, .null, .null, .null, .int (iI 0), .int (iI 0)])), (q_1, .inl (D.2 0, 1024, .inl (fun x_ => zI ((fun _ => false) x_))))] H := hP
  have hD : va_D A [(o, .inr (0, [.int (iI 0), .ref q_1, .null, .null, .null, .null, .null, .int (iI 0), .int (iI 0)])), (q_1, .inl (D.2 0, 1024, .inl (fun x_ => zI ((fun _ => false) x_))))] := hD
  refine lv_aload_n kx kb dX3_init_13 rfl (lv_at hl 0 rfl) ?_
  refine lv_sipush (v := iI 1024) kx kb dX3_init_14 rfl ?_
  refine ta_newZ C (hts _ q1398) hK hP hD hS hA 1024 (by omega) ⟨(show 2 ≤ 6 from by omega), (show 2048 ≤ 6144 from by omega)⟩ dX3_init_17 (fun q_2 H hP hD hS => ?_)
  have hP : va_P D.1 clAll [(o, .inr (0, [.int (iI 0), .ref q_1, .null, .null, .null, .null, .null, .int (iI 0), .int (iI 0)])), (q_1, .inl (D.2 0, 1024, .inl (fun x_ => zI ((fun _ => false) x_)))), (q_2, .inl (D.2 0, 1024, .inl (fun x_ => zI ((fun _ => false) x_))))] H := hP
  have hD : va_D A [(o, .inr (0, [.int (iI 0), .ref q_1, .null, .null, .null, .null, .null, .int (iI 0), .int (iI 0)])), (q_1, .inl (D.2 0, 1024, .inl (fun x_ => zI ((fun _ => false) x_)))), (q_2, .inl (D.2 0, 1024, .inl (fun x_ => zI ((fun _ => false) x_))))] := hD
  refine va_putF (D := D.1) (ci := 0) (v := .ref q_2) (ty := (.array .boolean)) (C := RX3) (T := TX3) (N := 9) kx kb hts in_X3 tyX3 tyX3_ok nmX3 hown hK hP hD hS 0 rfl rfl 2 (by decide) (hts _ q1372) (fun _ h9 => h9) rfl C.2.2.2.2.2.2.2 rfl (by decide +kernel) rfl rfl (Nat.le_of_ble_eq_true rfl) dX3_init_19 (fun H locs hP hD hS => ?_)
  have hP : va_P D.1 clAll [(o, .inr (0, [.int (iI 0), .ref q_1, .ref q_2, .null, .null, .null, .null, .int (iI 0), .int (iI 0)])), (q_1, .inl (D.2 0, 1024, .inl (fun x_ => zI ((fun _ => false) x_)))), (q_2, .inl (D.2 0, 1024, .inl (fun x_ => zI ((fun _ => false) x_))))] H := hP
  have hD : va_D A [(o, .inr (0, [.int (iI 0), .ref q_1, .ref q_2, .null, .null, .null, .null, .int (iI 0), .int (iI 0)])), (q_1, .inl (D.2 0, 1024, .inl (fun x_ => zI ((fun _ => false) x_)))), (q_2, .inl (D.2 0, 1024, .inl (fun x_ => zI ((fun _ => false) x_))))] := hD
  refine lv_aload_n kx kb dX3_init_22 rfl (lv_at hl 0 rfl) ?_
  refine lv_sipush (v := iI 1024) kx kb dX3_init_23 rfl ?_
  refine ta_newZ C (hts _ q1398) hK hP hD hS hA 1024 (by omega) ⟨(show 3 ≤ 6 from by omega), (show 3072 ≤ 6144 from by omega)⟩ dX3_init_26 (fun q_3 H hP hD hS => ?_)
  have hP : va_P D.1 clAll [(o, .inr (0, [.int (iI 0), .ref q_1, .ref q_2, .null, .null, .null, .null, .int (iI 0), .int (iI 0)])), (q_1, .inl (D.2 0, 1024, .inl (fun x_ => zI ((fun _ => false) x_)))), (q_2, .inl (D.2 0, 1024, .inl (fun x_ => zI ((fun _ => false) x_)))), (q_3, .inl (D.2 0, 1024, .inl (fun x_ => zI ((fun _ => false) x_))))] H := hP
  have hD : va_D A [(o, .inr (0, [.int (iI 0), .ref q_1, .ref q_2, .null, .null, .null, .null, .int (iI 0), .int (iI 0)])), (q_1, .inl (D.2 0, 1024, .inl (fun x_ => zI ((fun _ => false) x_)))), (q_2, .inl (D.2 0, 1024, .inl (fun x_ => zI ((fun _ => false) x_)))), (q_3, .inl (D.2 0, 1024, .inl (fun x_ => zI ((fun _ => false) x_))))] := hD
  refine va_putF (D := D.1) (ci := 0) (v := .ref q_3) (ty := (.array .boolean)) (C := RX3) (T := TX3) (N := 9) kx kb hts in_X3 tyX3 tyX3_ok nmX3 hown hK hP hD hS 0 rfl rfl 3 (by decide) (hts _ q1373) (fun _ h9 => h9) rfl C.2.2.2.2.2.2.2 rfl (by decide +kernel) rfl rfl (Nat.le_of_ble_eq_true rfl) dX3_init_28 (fun H locs hP hD hS => ?_)
  have hP : va_P D.1 clAll [(o, .inr (0, [.int (iI 0), .ref q_1, .ref q_2, .ref q_3, .null, .null, .null, .int (iI 0), .int (iI 0)])), (q_1, .inl (D.2 0, 1024, .inl (fun x_ => zI ((fun _ => false) x_)))), (q_2, .inl (D.2 0, 1024, .inl (fun x_ => zI ((fun _ => false) x_)))), (q_3, .inl (D.2 0, 1024, .inl (fun x_ => zI ((fun _ => false) x_))))] H := hP
  have hD : va_D A [(o, .inr (0, [.int (iI 0), .ref q_1, .ref q_2, .ref q_3, .null, .null, .null, .int (iI 0), .int (iI 0)])), (q_1, .inl (D.2 0, 1024, .inl (fun x_ => zI ((fun _ => false) x_)))), (q_2, .inl (D.2 0, 1024, .inl (fun x_ => zI ((fun _ => false) x_)))), (q_3, .inl (D.2 0, 1024, .inl (fun x_ => zI ((fun _ => false) x_))))] := hD
  refine lv_aload_n kx kb dX3_init_31 rfl (lv_at hl 0 rfl) ?_
  refine lv_sipush (v := iI 1024) kx kb dX3_init_32 rfl ?_
  refine ta_newZ C (hts _ q1398) hK hP hD hS hA 1024 (by omega) ⟨(show 4 ≤ 6 from by omega), (show 4096 ≤ 6144 from by omega)⟩ dX3_init_35 (fun q_4 H hP hD hS => ?_)
  have hP : va_P D.1 clAll [(o, .inr (0, [.int (iI 0), .ref q_1, .ref q_2, .ref q_3, .null, .null, .null, .int (iI 0), .int (iI 0)])), (q_1, .inl (D.2 0, 1024, .inl (fun x_ => zI ((fun _ => false) x_)))), (q_2, .inl (D.2 0, 1024, .inl (fun x_ => zI ((fun _ => false) x_)))), (q_3, .inl (D.2 0, 1024, .inl (fun x_ => zI ((fun _ => false) x_)))), (q_4, .inl (D.2 0, 1024, .inl (fun x_ => zI ((fun _ => false) x_))))] H := hP
  have hD : va_D A [(o, .inr (0, [.int (iI 0), .ref q_1, .ref q_2, .ref q_3, .null, .null, .null, .int (iI 0), .int (iI 0)])), (q_1, .inl (D.2 0, 1024, .inl (fun x_ => zI ((fun _ => false) x_)))), (q_2, .inl (D.2 0, 1024, .inl (fun x_ => zI ((fun _ => false) x_)))), (q_3, .inl (D.2 0, 1024, .inl (fun x_ => zI ((fun _ => false) x_)))), (q_4, .inl (D.2 0, 1024, .inl (fun x_ => zI ((fun _ => false) x_))))] := hD
  refine va_putF (D := D.1) (ci := 0) (v := .ref q_4) (ty := (.array .boolean)) (C := RX3) (T := TX3) (N := 9) kx kb hts in_X3 tyX3 tyX3_ok nmX3 hown hK hP hD hS 0 rfl rfl 4 (by decide) (hts _ q1374) (fun _ h9 => h9) rfl C.2.2.2.2.2.2.2 rfl (by decide +kernel) rfl rfl (Nat.le_of_ble_eq_true rfl) dX3_init_37 (fun H locs hP hD hS => ?_)
  have hP : va_P D.1 clAll [(o, .inr (0, [.int (iI 0), .ref q_1, .ref q_2, .ref q_3, .ref q_4, .null, .null, .int (iI 0), .int (iI 0)])), (q_1, .inl (D.2 0, 1024, .inl (fun x_ => zI ((fun _ => false) x_)))), (q_2, .inl (D.2 0, 1024, .inl (fun x_ => zI ((fun _ => false) x_)))), (q_3, .inl (D.2 0, 1024, .inl (fun x_ => zI ((fun _ => false) x_)))), (q_4, .inl (D.2 0, 1024, .inl (fun x_ => zI ((fun _ => false) x_))))] H := hP
  have hD : va_D A [(o, .inr (0, [.int (iI 0), .ref q_1, .ref q_2, .ref q_3, .ref q_4, .null, .null, .int (iI 0), .int (iI 0)])), (q_1, .inl (D.2 0, 1024, .inl (fun x_ => zI ((fun _ => false) x_)))), (q_2, .inl (D.2 0, 1024, .inl (fun x_ => zI ((fun _ => false) x_)))), (q_3, .inl (D.2 0, 1024, .inl (fun x_ => zI ((fun _ => false) x_)))), (q_4, .inl (D.2 0, 1024, .inl (fun x_ => zI ((fun _ => false) x_))))] := hD
  refine lv_aload_n kx kb dX3_init_40 rfl (lv_at hl 0 rfl) ?_
  refine lv_sipush (v := iI 1024) kx kb dX3_init_41 rfl ?_
  refine ta_newI C (hts _ q1252) hK hP hD hS hA 1024 (by omega) ⟨(show 5 ≤ 6 from by omega), (show 5120 ≤ 6144 from by omega)⟩ dX3_init_44 (fun q_5 H hP hD hS => ?_)
  have hP : va_P D.1 clAll [(o, .inr (0, [.int (iI 0), .ref q_1, .ref q_2, .ref q_3, .ref q_4, .null, .null, .int (iI 0), .int (iI 0)])), (q_1, .inl (D.2 0, 1024, .inl (fun x_ => zI ((fun _ => false) x_)))), (q_2, .inl (D.2 0, 1024, .inl (fun x_ => zI ((fun _ => false) x_)))), (q_3, .inl (D.2 0, 1024, .inl (fun x_ => zI ((fun _ => false) x_)))), (q_4, .inl (D.2 0, 1024, .inl (fun x_ => zI ((fun _ => false) x_)))), (q_5, .inl (D.2 1, 1024, .inl (fun x_ => iI ((fun _ => 0) x_))))] H := hP
  have hD : va_D A [(o, .inr (0, [.int (iI 0), .ref q_1, .ref q_2, .ref q_3, .ref q_4, .null, .null, .int (iI 0), .int (iI 0)])), (q_1, .inl (D.2 0, 1024, .inl (fun x_ => zI ((fun _ => false) x_)))), (q_2, .inl (D.2 0, 1024, .inl (fun x_ => zI ((fun _ => false) x_)))), (q_3, .inl (D.2 0, 1024, .inl (fun x_ => zI ((fun _ => false) x_)))), (q_4, .inl (D.2 0, 1024, .inl (fun x_ => zI ((fun _ => false) x_)))), (q_5, .inl (D.2 1, 1024, .inl (fun x_ => iI ((fun _ => 0) x_))))] := hD
  refine va_putF (D := D.1) (ci := 0) (v := .ref q_5) (ty := (.array .int)) (C := RX3) (T := TX3) (N := 9) kx kb hts in_X3 tyX3 tyX3_ok nmX3 hown hK hP hD hS 0 rfl rfl 5 (by decide) (hts _ q1375) (fun _ h9 => h9) rfl C.2.2.2.2.2.2.2 rfl (by decide +kernel) rfl rfl (Nat.le_of_ble_eq_true rfl) dX3_init_46 (fun H locs hP hD hS => ?_)
  have hP : va_P D.1 clAll [(o, .inr (0, [.int (iI 0), .ref q_1, .ref q_2, .ref q_3, .ref q_4, .ref q_5, .null, .int (iI 0), .int (iI 0)])), (q_1, .inl (D.2 0, 1024, .inl (fun x_ => zI ((fun _ => false) x_)))), (q_2, .inl (D.2 0, 1024, .inl (fun x_ => zI ((fun _ => false) x_)))), (q_3, .inl (D.2 0, 1024, .inl (fun x_ => zI ((fun _ => false) x_)))), (q_4, .inl (D.2 0, 1024, .inl (fun x_ => zI ((fun _ => false) x_)))), (q_5, .inl (D.2 1, 1024, .inl (fun x_ => iI ((fun _ => 0) x_))))] H := hP
  have hD : va_D A [(o, .inr (0, [.int (iI 0), .ref q_1, .ref q_2, .ref q_3, .ref q_4, .ref q_5, .null, .int (iI 0), .int (iI 0)])), (q_1, .inl (D.2 0, 1024, .inl (fun x_ => zI ((fun _ => false) x_)))), (q_2, .inl (D.2 0, 1024, .inl (fun x_ => zI ((fun _ => false) x_)))), (q_3, .inl (D.2 0, 1024, .inl (fun x_ => zI ((fun _ => false) x_)))), (q_4, .inl (D.2 0, 1024, .inl (fun x_ => zI ((fun _ => false) x_)))), (q_5, .inl (D.2 1, 1024, .inl (fun x_ => iI ((fun _ => 0) x_))))] := hD
  refine lv_aload_n kx kb dX3_init_49 rfl (lv_at hl 0 rfl) ?_
  refine lv_sipush (v := iI 1024) kx kb dX3_init_50 rfl ?_
  refine ta_newI C (hts _ q1252) hK hP hD hS hA 1024 (by omega) ⟨(show 6 ≤ 6 from by omega), (show 6144 ≤ 6144 from by omega)⟩ dX3_init_53 (fun q_6 H hP hD hS => ?_)
  have hP : va_P D.1 clAll [(o, .inr (0, [.int (iI 0), .ref q_1, .ref q_2, .ref q_3, .ref q_4, .ref q_5, .null, .int (iI 0), .int (iI 0)])), (q_1, .inl (D.2 0, 1024, .inl (fun x_ => zI ((fun _ => false) x_)))), (q_2, .inl (D.2 0, 1024, .inl (fun x_ => zI ((fun _ => false) x_)))), (q_3, .inl (D.2 0, 1024, .inl (fun x_ => zI ((fun _ => false) x_)))), (q_4, .inl (D.2 0, 1024, .inl (fun x_ => zI ((fun _ => false) x_)))), (q_5, .inl (D.2 1, 1024, .inl (fun x_ => iI ((fun _ => 0) x_)))), (q_6, .inl (D.2 1, 1024, .inl (fun x_ => iI ((fun _ => 0) x_))))] H := hP
  have hD : va_D A [(o, .inr (0, [.int (iI 0), .ref q_1, .ref q_2, .ref q_3, .ref q_4, .ref q_5, .null, .int (iI 0), .int (iI 0)])), (q_1, .inl (D.2 0, 1024, .inl (fun x_ => zI ((fun _ => false) x_)))), (q_2, .inl (D.2 0, 1024, .inl (fun x_ => zI ((fun _ => false) x_)))), (q_3, .inl (D.2 0, 1024, .inl (fun x_ => zI ((fun _ => false) x_)))), (q_4, .inl (D.2 0, 1024, .inl (fun x_ => zI ((fun _ => false) x_)))), (q_5, .inl (D.2 1, 1024, .inl (fun x_ => iI ((fun _ => 0) x_)))), (q_6, .inl (D.2 1, 1024, .inl (fun x_ => iI ((fun _ => 0) x_))))] := hD
  refine va_putF (D := D.1) (ci := 0) (v := .ref q_6) (ty := (.array .int)) (C := RX3) (T := TX3) (N := 9) kx kb hts in_X3 tyX3 tyX3_ok nmX3 hown hK hP hD hS 0 rfl rfl 6 (by decide) (hts _ q1376) (fun _ h9 => h9) rfl C.2.2.2.2.2.2.2 rfl (by decide +kernel) rfl rfl (Nat.le_of_ble_eq_true rfl) dX3_init_55 (fun H locs hP hD hS => ?_)
  have hP : va_P D.1 clAll [(o, .inr (0, [.int (iI 0), .ref q_1, .ref q_2, .ref q_3, .ref q_4, .ref q_5, .ref q_6, .int (iI 0), .int (iI 0)])), (q_1, .inl (D.2 0, 1024, .inl (fun x_ => zI ((fun _ => false) x_)))), (q_2, .inl (D.2 0, 1024, .inl (fun x_ => zI ((fun _ => false) x_)))), (q_3, .inl (D.2 0, 1024, .inl (fun x_ => zI ((fun _ => false) x_)))), (q_4, .inl (D.2 0, 1024, .inl (fun x_ => zI ((fun _ => false) x_)))), (q_5, .inl (D.2 1, 1024, .inl (fun x_ => iI ((fun _ => 0) x_)))), (q_6, .inl (D.2 1, 1024, .inl (fun x_ => iI ((fun _ => 0) x_))))] H := hP
  have hD : va_D A [(o, .inr (0, [.int (iI 0), .ref q_1, .ref q_2, .ref q_3, .ref q_4, .ref q_5, .ref q_6, .int (iI 0), .int (iI 0)])), (q_1, .inl (D.2 0, 1024, .inl (fun x_ => zI ((fun _ => false) x_)))), (q_2, .inl (D.2 0, 1024, .inl (fun x_ => zI ((fun _ => false) x_)))), (q_3, .inl (D.2 0, 1024, .inl (fun x_ => zI ((fun _ => false) x_)))), (q_4, .inl (D.2 0, 1024, .inl (fun x_ => zI ((fun _ => false) x_)))), (q_5, .inl (D.2 1, 1024, .inl (fun x_ => iI ((fun _ => 0) x_)))), (q_6, .inl (D.2 1, 1024, .inl (fun x_ => iI ((fun _ => 0) x_))))] := hD
  refine lv_aload_n kx kb dX3_init_58 rfl (lv_at hl 0 rfl) ?_
  refine lv_bipush (v := iI 8) kx kb dX3_init_59 rfl ?_
  refine lv_bipush (v := iI 8) kx kb dX3_init_61 rfl ?_
  refine t_callV (wr := []) C (met_X3_begins l D E o q_1 q_2 q_3 q_4 q_5 q_6 0 0 0 (fun _ => false) (fun _ => false) (fun _ => false) (fun _ => false) (fun _ => 0) (fun _ => 0) 8 8) (cwV 2 hts (lw_V q1366 q1368 qs23 q62 q1369) rfl rfl rfl (by decide +kernel) ⟨Nat.le_of_ble_eq_true rfl, Nat.le_of_ble_eq_true rfl⟩) (va_recv hK hP (ci := 0) (q0 := 0) rfl rfl) hK hX hP hD hS hA [0, 1, 2, 3, 4, 5, 6] [] rfl rfl (by decide) (by decide) (by decide) tYb_0 (fun _ _ _ => trivial) rfl hl.1 rfl (Nat.le_of_ble_eq_true rfl) dX3_init_63 ⟨(show 6 ≤ 6 from by omega), (show 6144 ≤ 6144 from by omega)⟩ (fun u_ H locs hp hP hD hS => ?_)
  have hP : va_P D.1 clAll [(o, .inr (0, [.int (iI 0), .ref q_1, .ref q_2, .ref q_3, .ref q_4, .ref q_5, .ref q_6, .int (iI (8 : Int)), .int (iI (8 : Int))])), (q_1, .inl (D.2 0, 1024, .inl (fun x_ => zI ((fun _ => false) x_)))), (q_2, .inl (D.2 0, 1024, .inl (fun x_ => zI ((fun _ => false) x_)))), (q_3, .inl (D.2 0, 1024, .inl (fun x_ => zI ((fun _ => false) x_)))), (q_4, .inl (D.2 0, 1024, .inl (fun x_ => zI ((fun _ => false) x_)))), (q_5, .inl (D.2 1, 1024, .inl (fun x_ => iI ((fun _ => 0) x_)))), (q_6, .inl (D.2 1, 1024, .inl (fun x_ => iI ((fun _ => 0) x_))))] H := hP
  have hD : va_D A [(o, .inr (0, [.int (iI 0), .ref q_1, .ref q_2, .ref q_3, .ref q_4, .ref q_5, .ref q_6, .int (iI (8 : Int)), .int (iI (8 : Int))])), (q_1, .inl (D.2 0, 1024, .inl (fun x_ => zI ((fun _ => false) x_)))), (q_2, .inl (D.2 0, 1024, .inl (fun x_ => zI ((fun _ => false) x_)))), (q_3, .inl (D.2 0, 1024, .inl (fun x_ => zI ((fun _ => false) x_)))), (q_4, .inl (D.2 0, 1024, .inl (fun x_ => zI ((fun _ => false) x_)))), (q_5, .inl (D.2 1, 1024, .inl (fun x_ => iI ((fun _ => 0) x_)))), (q_6, .inl (D.2 1, 1024, .inl (fun x_ => iI ((fun _ => 0) x_))))] := hD
  refine W.eq (g2 := F0 m0 66 ls []) rfl ?_
  subst hQ
  exact tm_vret C (q_1, q_2, q_3, q_4, q_5, q_6) trivial hP hD hS (show 6 ≤ 6 from by omega) (show 6144 ≤ 6144 from by omega) rfl rfl dX3_init_66
