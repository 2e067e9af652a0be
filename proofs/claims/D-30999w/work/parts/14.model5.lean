set_option maxRecDepth 100000
set_option maxHeartbeats 4000000 in
set_option maxRecDepth 100000 in
theorem met_X3_depths (l : Launch) (D : TG) (E : TE) (o : Nat) (b1 : Nat) (b2 : Nat) (b3 : Nat) (b4 : Nat) (b5 : Nat) (b6 : Nat) (thr : Int) (w : Nat) (g : Nat) (ik : Nat → Bool) (st : Nat → Bool) (kp : Nat → Bool) (go : Nat → Bool) (dp : Nat → Int) (pt : Nat → Int) (ch : Bool) (hw : 1 ≤ w ∧ w ≤ 32) (hg : 1 ≤ g ∧ g ≤ 32) : tMet l yX3_depths cX3_depths 7 none 2 44 (0) (0) [.ref o, .int (zI ch)] D E [(o, .inr (0, [.int (iI thr), .ref b1, .ref b2, .ref b3, .ref b4, .ref b5, .ref b6, .int (iI (w : Int)), .int (iI (g : Int))])), (b1, .inl (D.2 0, 1024, .inl (fun x_ => zI (ik x_)))), (b2, .inl (D.2 0, 1024, .inl (fun x_ => zI (st x_)))), (b3, .inl (D.2 0, 1024, .inl (fun x_ => zI (kp x_)))), (b4, .inl (D.2 0, 1024, .inl (fun x_ => zI (go x_)))), (b5, .inl (D.2 1, 1024, .inl (fun x_ => iI (dp x_)))), (b6, .inl (D.2 1, 1024, .inl (fun x_ => iI (pt x_))))] tY0 (S := (Nat → Int)) (fun u_ => isDep w g ik ch u_) (fun u_ => none) (fun u_ => [(o, .inr (0, [.int (iI thr), .ref b1, .ref b2, .ref b3, .ref b4, .ref b5, .ref b6, .int (iI (w : Int)), .int (iI (g : Int))])), (b1, .inl (D.2 0, 1024, .inl (fun x_ => zI (ik x_)))), (b2, .inl (D.2 0, 1024, .inl (fun x_ => zI (st x_)))), (b3, .inl (D.2 0, 1024, .inl (fun x_ => zI (kp x_)))), (b4, .inl (D.2 0, 1024, .inl (fun x_ => zI (go x_)))), (b5, .inl (D.2 1, 1024, .inl (fun x_ => iI (u_ x_)))), (b6, .inl (D.2 1, 1024, .inl (fun x_ => iI (pt x_))))]) := by
  refine tu_met (by decide +kernel) (Nat.le_of_ble_eq_true rfl) ?_
  intro p0 e0 s0 m0 below meth c0 A ls args Q hag hQ C hK hX hY hP hD hA hAe hl
  obtain ⟨kx, kb, hml, hown, hts, -⟩ := id C
  have hS : va_S A s0.heap s0.heap [] := va_S.rf
  have hl : lv_has ls 7 [(0, .ref o), (1, .int (zI ch))] := hl
  have hwg := wg_le hw hg
  refine lv_iconst (v := iI 0) kx kb dX3_depths_0 rfl ?_
  refine lv_istore_n (lv' := [(2, .int (iI 0)), (0, .ref o), (1, .int (zI ch))]) kx kb dX3_depths_1 rfl hl (by decide) rfl (fun ls hl => ?_)
  have cut2 : ∀ (fuel : Nat) (i : Nat) (d1 : Nat → Int), (i ≤ w * g) → (d1 = flw (fun j => if ik j then 32 else 0) dp i) → (w * g - i) < fuel → ∀ (H : Heap) (locs : List Loc), va_P D.1 clAll [(o, .inr (0, [.int (iI thr), .ref b1, .ref b2, .ref b3, .ref b4, .ref b5, .ref b6, .int (iI (w : Int)), .int (iI (g : Int))])), (b1, .inl (D.2 0, 1024, .inl (fun x_ => zI (ik x_)))), (b2, .inl (D.2 0, 1024, .inl (fun x_ => zI (st x_)))), (b3, .inl (D.2 0, 1024, .inl (fun x_ => zI (kp x_)))), (b4, .inl (D.2 0, 1024, .inl (fun x_ => zI (go x_)))), (b5, .inl (D.2 1, 1024, .inl (fun x_ => iI (d1 x_)))), (b6, .inl (D.2 1, 1024, .inl (fun x_ => iI (pt x_))))] H → va_D A [(o, .inr (0, [.int (iI thr), .ref b1, .ref b2, .ref b3, .ref b4, .ref b5, .ref b6, .int (iI (w : Int)), .int (iI (g : Int))])), (b1, .inl (D.2 0, 1024, .inl (fun x_ => zI (ik x_)))), (b2, .inl (D.2 0, 1024, .inl (fun x_ => zI (st x_)))), (b3, .inl (D.2 0, 1024, .inl (fun x_ => zI (kp x_)))), (b4, .inl (D.2 0, 1024, .inl (fun x_ => zI (go x_)))), (b5, .inl (D.2 1, 1024, .inl (fun x_ => iI (d1 x_)))), (b6, .inl (D.2 1, 1024, .inl (fun x_ => iI (pt x_))))] → va_S A s0.heap H locs → ∀ ls : Array Slot, lv_has ls 7 [(2, .int (iI (i : Int))), (0, .ref o), (1, .int (zI ch))] → W p0 l e0 ({ frames := 2, cells := 0, slots := 0, locals := 44 } : Room) s0 m0 args below meth c0 H locs (0) (0) Q (F0 m0 2 ls []) := by
    intro fuel
    induction fuel with
    | zero =>
      intro i d1 hi hd1 hfuel2
      exact absurd hfuel2 (Nat.not_lt_zero _)
    | succ fuel ih2 =>
      intro i d1 hi hd1 hfuel2 H locs hP hD hS ls hl
      refine lv_iload_n kx kb dX3_depths_2 rfl (lv_at hl 0 rfl) ?_
      refine lv_aload_n kx kb dX3_depths_3 rfl (lv_at hl 1 rfl) ?_
      refine t_callRV C (met_X3_cells l D E o b1 b2 b3 b4 b5 b6 thr w g ik st kp go d1 pt (by first | assumption | omega) (by first | assumption | omega)) (cwV 0 hts (lw_V q1467 q1469 qs33 q62 q1470) rfl rfl rfl (by decide +kernel) ⟨Nat.le_of_ble_eq_true rfl, Nat.le_of_ble_eq_true rfl⟩) (va_recv hK hP (ci := 0) (q0 := 0) rfl rfl) hK hX hP hD hS hA [0, 1, 2, 3, 4, 5, 6] rfl (by decide) tYb_0 (fun _ _ _ => trivial) rfl hl.1 rfl (Nat.le_of_ble_eq_true rfl) dX3_depths_4 ⟨(show 0 ≤ 0 from by omega), (show 0 ≤ 0 from by omega)⟩ ?_
      refine W.eq (g2 := F0 m0 7 ls [.int (iI ((w * g : Nat) : Int)), .int (iI (i : Int))]) rfl ?_
      refine ti_icmp_ge (tgt := 37) kx kb (by omega) dX3_depths_7 (by decide) (fun h7 => ?_) (fun h7 => ?_)
      · refine lv_iconst (v := iI 1) kx kb dX3_depths_37 rfl ?_
        refine lv_istore_n (lv' := [(2, .int (iI 1)), (0, .ref o), (1, .int (zI ch))]) kx kb dX3_depths_38 rfl hl (by decide) rfl (fun ls hl => ?_)
        have cut39 : ∀ (fuel : Nat) (d : Int) (d2 : Nat → Int), (1 ≤ d ∧ d ≤ 32) → (Lay w g ik ch d 0 0 d2) → (((32 : Int) - d).toNat) < fuel → ∀ (H : Heap) (locs : List Loc), va_P D.1 clAll [(o, .inr (0, [.int (iI thr), .ref b1, .ref b2, .ref b3, .ref b4, .ref b5, .ref b6, .int (iI (w : Int)), .int (iI (g : Int))])), (b1, .inl (D.2 0, 1024, .inl (fun x_ => zI (ik x_)))), (b2, .inl (D.2 0, 1024, .inl (fun x_ => zI (st x_)))), (b3, .inl (D.2 0, 1024, .inl (fun x_ => zI (kp x_)))), (b4, .inl (D.2 0, 1024, .inl (fun x_ => zI (go x_)))), (b5, .inl (D.2 1, 1024, .inl (fun x_ => iI (d2 x_)))), (b6, .inl (D.2 1, 1024, .inl (fun x_ => iI (pt x_))))] H → va_D A [(o, .inr (0, [.int (iI thr), .ref b1, .ref b2, .ref b3, .ref b4, .ref b5, .ref b6, .int (iI (w : Int)), .int (iI (g : Int))])), (b1, .inl (D.2 0, 1024, .inl (fun x_ => zI (ik x_)))), (b2, .inl (D.2 0, 1024, .inl (fun x_ => zI (st x_)))), (b3, .inl (D.2 0, 1024, .inl (fun x_ => zI (kp x_)))), (b4, .inl (D.2 0, 1024, .inl (fun x_ => zI (go x_)))), (b5, .inl (D.2 1, 1024, .inl (fun x_ => iI (d2 x_)))), (b6, .inl (D.2 1, 1024, .inl (fun x_ => iI (pt x_))))] → va_S A s0.heap H locs → ∀ ls : Array Slot, lv_has ls 7 [(2, .int (iI d)), (0, .ref o), (1, .int (zI ch))] → W p0 l e0 ({ frames := 2, cells := 0, slots := 0, locals := 44 } : Room) s0 m0 args below meth c0 H locs (0) (0) Q (F0 m0 39 ls []) := by
          intro fuel
          induction fuel with
          | zero =>
            intro d d2 hd hL hfuel39
            exact absurd hfuel39 (Nat.not_lt_zero _)
          | succ fuel ih39 =>
            intro d d2 hd hL hfuel39 H locs hP hD hS ls hl
            refine lv_iload_n kx kb dX3_depths_39 rfl (lv_at hl 0 rfl) ?_
            refine lv_bipush (v := iI 32) kx kb dX3_depths_40 rfl ?_
            refine ti_icmp_ge (tgt := 190) kx kb (by omega) dX3_depths_42 (by decide) (fun h42 => ?_) (fun h42 => ?_)
            · subst hQ
              exact tm_vret C d2 (Lay_end hw (by rw [← show d = 32 from by omega]; exact hL)) hP hD hS (show 0 ≤ 0 from by omega) (show 0 ≤ 0 from by omega) rfl rfl dX3_depths_190
            · refine lv_iconst (v := iI 0) kx kb dX3_depths_45 rfl ?_
              refine lv_istore_n (lv' := [(3, .int (iI 0)), (2, .int (iI d)), (0, .ref o), (1, .int (zI ch))]) kx kb dX3_depths_46 rfl hl (by decide) rfl (fun ls hl => ?_)
              have cut47 : ∀ (fuel : Nat) (i : Nat) (d4 : Nat → Int), (i ≤ w * g) → (Lay w g ik ch d i 0 d4) → (w * g - i) < fuel → ∀ (H : Heap) (locs : List Loc), va_P D.1 clAll [(o, .inr (0, [.int (iI thr), .ref b1, .ref b2, .ref b3, .ref b4, .ref b5, .ref b6, .int (iI (w : Int)), .int (iI (g : Int))])), (b1, .inl (D.2 0, 1024, .inl (fun x_ => zI (ik x_)))), (b2, .inl (D.2 0, 1024, .inl (fun x_ => zI (st x_)))), (b3, .inl (D.2 0, 1024, .inl (fun x_ => zI (kp x_)))), (b4, .inl (D.2 0, 1024, .inl (fun x_ => zI (go x_)))), (b5, .inl (D.2 1, 1024, .inl (fun x_ => iI (d4 x_)))), (b6, .inl (D.2 1, 1024, .inl (fun x_ => iI (pt x_))))] H → va_D A [(o, .inr (0, [.int (iI thr), .ref b1, .ref b2, .ref b3, .ref b4, .ref b5, .ref b6, .int (iI (w : Int)), .int (iI (g : Int))])), (b1, .inl (D.2 0, 1024, .inl (fun x_ => zI (ik x_)))), (b2, .inl (D.2 0, 1024, .inl (fun x_ => zI (st x_)))), (b3, .inl (D.2 0, 1024, .inl (fun x_ => zI (kp x_)))), (b4, .inl (D.2 0, 1024, .inl (fun x_ => zI (go x_)))), (b5, .inl (D.2 1, 1024, .inl (fun x_ => iI (d4 x_)))), (b6, .inl (D.2 1, 1024, .inl (fun x_ => iI (pt x_))))] → va_S A s0.heap H locs → ∀ ls : Array Slot, lv_has ls 7 [(3, .int (iI (i : Int))), (2, .int (iI d)), (0, .ref o), (1, .int (zI ch))] → W p0 l e0 ({ frames := 2, cells := 0, slots := 0, locals := 44 } : Room) s0 m0 args below meth c0 H locs (0) (0) Q (F0 m0 47 ls []) := by
                intro fuel
                induction fuel with
                | zero =>
                  intro i d4 hi hL2 hfuel47
                  exact absurd hfuel47 (Nat.not_lt_zero _)
                | succ fuel ih47 =>
                  intro i d4 hi hL2 hfuel47 H locs hP hD hS ls hl
                  refine lv_iload_n kx kb dX3_depths_47 rfl (lv_at hl 0 rfl) ?_
                  refine lv_aload_n kx kb dX3_depths_48 rfl (lv_at hl 2 rfl) ?_
                  refine t_callRV C (met_X3_cells l D E o b1 b2 b3 b4 b5 b6 thr w g ik st kp go d4 pt (by first | assumption | omega) (by first | assumption | omega)) (cwV 0 hts (lw_V q1467 q1469 qs33 q62 q1470) rfl rfl rfl (by decide +kernel) ⟨Nat.le_of_ble_eq_true rfl, Nat.le_of_ble_eq_true rfl⟩) (va_recv hK hP (ci := 0) (q0 := 0) rfl rfl) hK hX hP hD hS hA [0, 1, 2, 3, 4, 5, 6] rfl (by decide) tYb_0 (fun _ _ _ => trivial) rfl hl.1 rfl (Nat.le_of_ble_eq_true rfl) dX3_depths_49 ⟨(show 0 ≤ 0 from by omega), (show 0 ≤ 0 from by omega)⟩ ?_
                  refine W.eq (g2 := F0 m0 52 ls [.int (iI ((w * g : Nat) : Int)), .int (iI (i : Int))]) rfl ?_
                  refine ti_icmp_ge (tgt := 184) kx kb (by omega) dX3_depths_52 (by decide) (fun h52 => ?_) (fun h52 => ?_)
                  · refine ti_iinc (a := d) (lv' := [(2, .int (iI (d + 1))), (3, .int (iI (i : Int))), (0, .ref o), (1, .int (zI ch))]) kx kb dX3_depths_184 hl (k := 1) rfl (by decide) rfl (fun ls hl => ?_)
                    refine lv_goto (tgt := 39) kx kb dX3_depths_187 (by decide) ?_
                    exact ih39 (d + 1) d4 (by omega) (Lay_d (by rw [← show i = w * g from by omega]; exact hL2)) (by omega) H locs hP hD hS ls (lv_sub hl [0, 2, 3] rfl)
                  · refine lv_aload_n kx kb dX3_depths_55 rfl (lv_at hl 2 rfl) ?_
                    refine va_get (D := D.1) (ci := 0) (v := .ref b5) (C := RX3) (T := TX3) (N := 9) kx kb hts in_X3 hown hK hP 0 rfl rfl 5 (by decide) (hts _ q1375) (fun _ h9 => h9) rfl dX3_depths_56 ?_
                    refine lv_iload_n kx kb dX3_depths_59 rfl (lv_at hl 0 rfl) ?_
                    refine ta_iald C hK hP 5 rfl i (by omega) dX3_depths_60 ?_
                    have hr4 := Lay_rng hL2 hd.2 i (by omega)
                    refine lv_iload_n kx kb dX3_depths_61 rfl (lv_at hl 1 rfl) ?_
                    refine ti_icmp_ge (tgt := 68) kx kb (by omega) dX3_depths_62 (by decide) (fun h62 => ?_) (fun h62 => ?_)
                    · refine lv_iconst (v := iI 0) kx kb dX3_depths_68 rfl ?_
                      refine lv_istore (lv' := [(4, .int (iI 0)), (3, .int (iI (i : Int))), (2, .int (iI d)), (0, .ref o), (1, .int (zI ch))]) kx kb dX3_depths_69 hl (by decide) rfl (fun ls hl => ?_)
                      have cut71 : ∀ (fuel : Nat) (k : Int) (d3 : Nat → Int), (0 ≤ k ∧ k ≤ 8) → (ch = true ∨ k % 2 = 0) → (Lay w g ik ch d i k d3) → (d ≤ d3 i) → (((8 : Int) - k).toNat) < fuel → ∀ (H : Heap) (locs : List Loc), va_P D.1 clAll [(o, .inr (0, [.int (iI thr), .ref b1, .ref b2, .ref b3, .ref b4, .ref b5, .ref b6, .int (iI (w : Int)), .int (iI (g : Int))])), (b1, .inl (D.2 0, 1024, .inl (fun x_ => zI (ik x_)))), (b2, .inl (D.2 0, 1024, .inl (fun x_ => zI (st x_)))), (b3, .inl (D.2 0, 1024, .inl (fun x_ => zI (kp x_)))), (b4, .inl (D.2 0, 1024, .inl (fun x_ => zI (go x_)))), (b5, .inl (D.2 1, 1024, .inl (fun x_ => iI (d3 x_)))), (b6, .inl (D.2 1, 1024, .inl (fun x_ => iI (pt x_))))] H → va_D A [(o, .inr (0, [.int (iI thr), .ref b1, .ref b2, .ref b3, .ref b4, .ref b5, .ref b6, .int (iI (w : Int)), .int (iI (g : Int))])), (b1, .inl (D.2 0, 1024, .inl (fun x_ => zI (ik x_)))), (b2, .inl (D.2 0, 1024, .inl (fun x_ => zI (st x_)))), (b3, .inl (D.2 0, 1024, .inl (fun x_ => zI (kp x_)))), (b4, .inl (D.2 0, 1024, .inl (fun x_ => zI (go x_)))), (b5, .inl (D.2 1, 1024, .inl (fun x_ => iI (d3 x_)))), (b6, .inl (D.2 1, 1024, .inl (fun x_ => iI (pt x_))))] → va_S A s0.heap H locs → ∀ ls : Array Slot, lv_has ls 7 [(4, .int (iI k)), (3, .int (iI (i : Int))), (2, .int (iI d)), (0, .ref o), (1, .int (zI ch))] → W p0 l e0 ({ frames := 2, cells := 0, slots := 0, locals := 44 } : Room) s0 m0 args below meth c0 H locs (0) (0) Q (F0 m0 71 ls []) := by
                        intro fuel
                        induction fuel with
                        | zero =>
                          intro k d3 hk hke hL3 hs hfuel71
                          exact absurd hfuel71 (Nat.not_lt_zero _)
                        | succ fuel ih71 =>
                          intro k d3 hk hke hL3 hs hfuel71 H locs hP hD hS ls hl
                          have hi2 : i < w * g := by omega
                          have hm := md_rng i w hw.1
                          have hsx := sX_rng k
                          have hsy := sY_rng k
                          have hr3 := fun c hc => Lay_rng hL3 hd.2 c hc
                          refine lv_iload kx kb dX3_depths_71 (lv_at hl 0 rfl) ?_
                          refine lv_bipush (v := iI 8) kx kb dX3_depths_73 rfl ?_
                          refine ti_icmp_ge (tgt := 178) kx kb (by omega) dX3_depths_75 (by decide) (fun h75 => ?_) (fun h75 => ?_)
                          · refine ti_iinc (a := (i : Int)) (lv' := [(3, .int (iI ((i : Int) + 1))), (4, .int (iI k)), (2, .int (iI d)), (0, .ref o), (1, .int (zI ch))]) kx kb dX3_depths_178 hl (k := 1) rfl (by decide) rfl (fun ls hl => ?_)
                            refine lv_goto (tgt := 47) kx kb dX3_depths_181 (by decide) ?_
                            exact ih47 (i + 1) d3 (by omega) (Lay_i (by rw [← show k = 8 from by omega]; exact hL3)) (by omega) H locs hP hD hS ls (lv_sub hl [0, 2, 3, 4] rfl)
                          · refine lv_iload_n kx kb dX3_depths_78 rfl (lv_at hl 1 rfl) ?_
                            refine lv_aload_n kx kb dX3_depths_79 rfl (lv_at hl 3 rfl) ?_
                            refine va_get (D := D.1) (ci := 0) (v := .int (iI (w : Int))) (C := RX3) (T := TX3) (N := 9) kx kb hts in_X3 hown hK hP 0 rfl rfl 7 (by decide) (hts _ q1377) (fun _ h9 => h9) rfl dX3_depths_80 ?_
                            refine ti_irem kx kb (by omega) dX3_depths_83 ?_
                            refine lv_iload kx kb dX3_depths_84 (lv_at hl 0 rfl) ?_
                            refine t_callRS C (met_X3_stepX l D E k (by first | assumption | omega)) (va_cwS 1 hts (lw_S q1471 q1472 q62 q1473) rfl rfl rfl (by decide +kernel) ⟨Nat.le_of_ble_eq_true rfl, Nat.le_of_ble_eq_true rfl⟩) hK hX hP hD hS hA [] rfl (by decide) tYb_0 (fun _ _ _ => trivial) rfl hl.1 rfl (Nat.le_of_ble_eq_true rfl) dX3_depths_86 ⟨(show 0 ≤ 0 from by omega), (show 0 ≤ 0 from by omega)⟩ ?_
                            refine W.eq (g2 := F0 m0 89 ls [.int (iI (sX k)), .int (iI ((i : Int) % (w : Int)))]) rfl ?_
                            refine ti_iadd kx kb dX3_depths_89 ?_
                            refine lv_istore (lv' := [(5, .int (iI (((i : Int) % (w : Int)) + (sX k)))), (4, .int (iI k)), (3, .int (iI (i : Int))), (2, .int (iI d)), (0, .ref o), (1, .int (zI ch))]) kx kb dX3_depths_90 hl (by decide) rfl (fun ls hl => ?_)
                            refine lv_iload_n kx kb dX3_depths_92 rfl (lv_at hl 2 rfl) ?_
                            refine lv_aload_n kx kb dX3_depths_93 rfl (lv_at hl 4 rfl) ?_
                            refine va_get (D := D.1) (ci := 0) (v := .int (iI (w : Int))) (C := RX3) (T := TX3) (N := 9) kx kb hts in_X3 hown hK hP 0 rfl rfl 7 (by decide) (hts _ q1377) (fun _ h9 => h9) rfl dX3_depths_94 ?_
                            refine ti_idiv kx kb (by omega) dX3_depths_97 ?_
                            refine lv_iload kx kb dX3_depths_98 (lv_at hl 1 rfl) ?_
                            refine t_callRS C (met_X3_stepY l D E k (by first | assumption | omega)) (va_cwS 1 hts (lw_S q1474 q1475 q62 q1476) rfl rfl rfl (by decide +kernel) ⟨Nat.le_of_ble_eq_true rfl, Nat.le_of_ble_eq_true rfl⟩) hK hX hP hD hS hA [] rfl (by decide) tYb_0 (fun _ _ _ => trivial) rfl hl.1 rfl (Nat.le_of_ble_eq_true rfl) dX3_depths_100 ⟨(show 0 ≤ 0 from by omega), (show 0 ≤ 0 from by omega)⟩ ?_
                            refine W.eq (g2 := F0 m0 103 ls [.int (iI (sY k)), .int (iI ((i : Int) / (w : Int)))]) rfl ?_
                            refine ti_iadd kx kb dX3_depths_103 ?_
                            refine lv_istore (lv' := [(6, .int (iI (((i : Int) / (w : Int)) + (sY k)))), (5, .int (iI (((i : Int) % (w : Int)) + (sX k)))), (4, .int (iI k)), (3, .int (iI (i : Int))), (2, .int (iI d)), (0, .ref o), (1, .int (zI ch))]) kx kb dX3_depths_104 hl (by decide) rfl (fun ls hl => ?_)
                            refine lv_aload_n kx kb dX3_depths_106 rfl (lv_at hl 5 rfl) ?_
                            refine lv_iload kx kb dX3_depths_107 (lv_at hl 1 rfl) ?_
                            refine lv_iload kx kb dX3_depths_109 (lv_at hl 0 rfl) ?_
                            refine t_callRV C (met_X3_isBoard l D E o b1 b2 b3 b4 b5 b6 thr w g ik st kp go d3 pt (((i : Int) % (w : Int)) + (sX k)) (((i : Int) / (w : Int)) + (sY k)) (by first | assumption | omega) (by first | assumption | omega) (by first | assumption | omega) (by first | assumption | omega)) (cwV 2 hts (lw_V q1422 q1424 qs26 q62 q1425) rfl rfl rfl (by decide +kernel) ⟨Nat.le_of_ble_eq_true rfl, Nat.le_of_ble_eq_true rfl⟩) (va_recv hK hP (ci := 0) (q0 := 0) rfl rfl) hK hX hP hD hS hA [0, 1, 2, 3, 4, 5, 6] rfl (by decide) tYb_0 (fun _ _ _ => trivial) rfl hl.1 rfl (Nat.le_of_ble_eq_true rfl) dX3_depths_111 ⟨(show 0 ≤ 0 from by omega), (show 0 ≤ 0 from by omega)⟩ ?_
                            refine W.eq (g2 := F0 m0 114 ls [.int (zI (isBd w g (((i : Int) % (w : Int)) + (sX k)) (((i : Int) / (w : Int)) + (sY k))))]) rfl ?_
                            refine tz_if_ne (tgt := 122) kx kb dX3_depths_114 (by decide) (fun h114 => ?_) (fun h114 => ?_)
                            · simp only [isBd_t, isBd_f] at h114
                              refine lv_aload_n kx kb dX3_depths_122 rfl (lv_at hl 5 rfl) ?_
                              refine lv_iload kx kb dX3_depths_123 (lv_at hl 1 rfl) ?_
                              refine lv_iload kx kb dX3_depths_125 (lv_at hl 0 rfl) ?_
                              refine t_callRV C (met_X3_isBoard l D E o b1 b2 b3 b4 b5 b6 thr w g ik st kp go d3 pt (((i : Int) % (w : Int)) + (sX k)) (((i : Int) / (w : Int)) + (sY k)) (by first | assumption | omega) (by first | assumption | omega) (by first | assumption | omega) (by first | assumption | omega)) (cwV 2 hts (lw_V q1422 q1424 qs26 q62 q1425) rfl rfl rfl (by decide +kernel) ⟨Nat.le_of_ble_eq_true rfl, Nat.le_of_ble_eq_true rfl⟩) (va_recv hK hP (ci := 0) (q0 := 0) rfl rfl) hK hX hP hD hS hA [0, 1, 2, 3, 4, 5, 6] rfl (by decide) tYb_0 (fun _ _ _ => trivial) rfl hl.1 rfl (Nat.le_of_ble_eq_true rfl) dX3_depths_127 ⟨(show 0 ≤ 0 from by omega), (show 0 ≤ 0 from by omega)⟩ ?_
                              refine W.eq (g2 := F0 m0 130 ls [.int (zI (isBd w g (((i : Int) % (w : Int)) + (sX k)) (((i : Int) / (w : Int)) + (sY k))))]) rfl ?_
                              refine tz_if_eq (tgt := 161) kx kb dX3_depths_130 (by decide) (fun h130 => ?_) (fun h130 => ?_)
                              · simp only [isBd_f] at h130; exact absurd h114 h130
                              · simp only [isBd_t, isBd_f] at h130
                                have hq := cel_int h130
                                have hrq := hr3 _ hq.2
                                refine lv_aload_n kx kb dX3_depths_133 rfl (lv_at hl 5 rfl) ?_
                                refine va_get (D := D.1) (ci := 0) (v := .ref b5) (C := RX3) (T := TX3) (N := 9) kx kb hts in_X3 hown hK hP 0 rfl rfl 5 (by decide) (hts _ q1375) (fun _ h9 => h9) rfl dX3_depths_134 ?_
                                refine lv_iload kx kb dX3_depths_137 (lv_at hl 0 rfl) ?_
                                refine lv_aload_n kx kb dX3_depths_139 rfl (lv_at hl 5 rfl) ?_
                                refine va_get (D := D.1) (ci := 0) (v := .int (iI (w : Int))) (C := RX3) (T := TX3) (N := 9) kx kb hts in_X3 hown hK hP 0 rfl rfl 7 (by decide) (hts _ q1377) (fun _ h9 => h9) rfl dX3_depths_140 ?_
                                refine ti_imul kx kb dX3_depths_143 ?_
                                refine lv_iload kx kb dX3_depths_144 (lv_at hl 1 rfl) ?_
                                refine ti_iadd kx kb dX3_depths_146 ?_
                                refine ta_iald C hK hP 5 rfl (cel w (((i : Int) % (w : Int)) + (sX k)) (((i : Int) / (w : Int)) + (sY k))) (by omega) dX3_depths_147 ?_
                                refine lv_iload_n kx kb dX3_depths_148 rfl (lv_at hl 4 rfl) ?_
                                refine lv_iconst (v := iI 1) kx kb dX3_depths_149 rfl ?_
                                refine ti_isub kx kb dX3_depths_150 ?_
                                refine ti_icmp_ne (tgt := 161) kx kb (by omega) dX3_depths_151 (by decide) (fun h151 => ?_) (fun h151 => ?_)
                                · have hb : isBd w g (nbX w i k) (nbY w i k) = true := (isBd_t _ _ _ _).mpr h114
                                  have hn0 : nbD w g d3 i k ≠ d - 1 := by unfold nbD; rw [hb]; exact h151
                                  have hL4 : Lay w g ik ch d i (k + 1) d3 := Lay_no hL3 hn0
                                  have hs4 := hs
                                  refine lv_iload kx kb dX3_depths_161 (lv_at hl 2 rfl) ?_
                                  refine lv_iload_n kx kb dX3_depths_163 rfl (lv_at hl 6 rfl) ?_
                                  refine tz_if_eq (tgt := 171) kx kb dX3_depths_164 (by decide) (fun h164 => ?_) (fun h164 => ?_)
                                  · have hev : k % 2 = 0 := by rcases hke with q | q; (rw [h164] at q; cases q); exact q
                                    have hk8 : 0 ≤ k + 2 ∧ k + 2 ≤ 8 := by omega
                                    have hke2 : ch = true ∨ (k + 2) % 2 = 0 := Or.inr (by omega)
                                    have hL5 := by rw [h164] at hL4; exact Lay_2 hev hL4
                                    rw [← h164] at hL5
                                    refine lv_iconst (v := iI 2) kx kb dX3_depths_171 rfl ?_
                                    refine ti_iadd kx kb dX3_depths_172 ?_
                                    refine lv_istore (lv' := [(4, .int (iI (k + 2))), (6, .int (iI (((i : Int) / (w : Int)) + (sY k)))), (5, .int (iI (((i : Int) % (w : Int)) + (sX k)))), (3, .int (iI (i : Int))), (2, .int (iI d)), (0, .ref o), (1, .int (zI ch))]) kx kb dX3_depths_173 hl (by decide) rfl (fun ls hl => ?_)
                                    refine lv_goto (tgt := 71) kx kb dX3_depths_175 (by decide) ?_
                                    exact ih71 (k + 2) d3 (hk8) (hke2) (hL5) (hs4) (by omega) H locs hP hD hS ls (lv_sub hl [0, 3, 4, 5, 6] rfl)
                                  · have hk8 : 0 ≤ k + 1 ∧ k + 1 ≤ 8 := by omega
                                    have hke2 : ch = true ∨ (k + 1) % 2 = 0 := Or.inl h164
                                    have hL5 := hL4
                                    refine lv_iconst (v := iI 1) kx kb dX3_depths_167 rfl ?_
                                    refine lv_goto (tgt := 172) kx kb dX3_depths_168 (by decide) ?_
                                    refine ti_iadd kx kb dX3_depths_172 ?_
                                    refine lv_istore (lv' := [(4, .int (iI (k + 1))), (6, .int (iI (((i : Int) / (w : Int)) + (sY k)))), (5, .int (iI (((i : Int) % (w : Int)) + (sX k)))), (3, .int (iI (i : Int))), (2, .int (iI d)), (0, .ref o), (1, .int (zI ch))]) kx kb dX3_depths_173 hl (by decide) rfl (fun ls hl => ?_)
                                    refine lv_goto (tgt := 71) kx kb dX3_depths_175 (by decide) ?_
                                    exact ih71 (k + 1) d3 (hk8) (hke2) (hL5) (hs4) (by omega) H locs hP hD hS ls (lv_sub hl [0, 3, 4, 5, 6] rfl)
                                · refine lv_aload_n kx kb dX3_depths_154 rfl (lv_at hl 5 rfl) ?_
                                  refine va_get (D := D.1) (ci := 0) (v := .ref b5) (C := RX3) (T := TX3) (N := 9) kx kb hts in_X3 hown hK hP 0 rfl rfl 5 (by decide) (hts _ q1375) (fun _ h9 => h9) rfl dX3_depths_155 ?_
                                  refine lv_iload_n kx kb dX3_depths_158 rfl (lv_at hl 3 rfl) ?_
                                  refine lv_iload_n kx kb dX3_depths_159 rfl (lv_at hl 4 rfl) ?_
                                  refine ta_iast C hK hP hD hS 5 rfl i (by omega) dX3_depths_160 (fun H locs hP hD hS => ?_)
                                  have hP : va_P D.1 clAll [(o, .inr (0, [.int (iI thr), .ref b1, .ref b2, .ref b3, .ref b4, .ref b5, .ref b6, .int (iI (w : Int)), .int (iI (g : Int))])), (b1, .inl (D.2 0, 1024, .inl (fun x_ => zI (ik x_)))), (b2, .inl (D.2 0, 1024, .inl (fun x_ => zI (st x_)))), (b3, .inl (D.2 0, 1024, .inl (fun x_ => zI (kp x_)))), (b4, .inl (D.2 0, 1024, .inl (fun x_ => zI (go x_)))), (b5, .inl (D.2 1, 1024, .inl (fun x_ => iI ((va_up d3 i d) x_)))), (b6, .inl (D.2 1, 1024, .inl (fun x_ => iI (pt x_))))] H := hP
                                  have hD : va_D A [(o, .inr (0, [.int (iI thr), .ref b1, .ref b2, .ref b3, .ref b4, .ref b5, .ref b6, .int (iI (w : Int)), .int (iI (g : Int))])), (b1, .inl (D.2 0, 1024, .inl (fun x_ => zI (ik x_)))), (b2, .inl (D.2 0, 1024, .inl (fun x_ => zI (st x_)))), (b3, .inl (D.2 0, 1024, .inl (fun x_ => zI (kp x_)))), (b4, .inl (D.2 0, 1024, .inl (fun x_ => zI (go x_)))), (b5, .inl (D.2 1, 1024, .inl (fun x_ => iI ((va_up d3 i d) x_)))), (b6, .inl (D.2 1, 1024, .inl (fun x_ => iI (pt x_))))] := hD
                                  have hb : isBd w g (nbX w i k) (nbY w i k) = true := (isBd_t _ _ _ _).mpr h114
                                  have hn0 : nbD w g d3 i k = d - 1 := by unfold nbD; rw [hb]; exact h151
                                  have hL4 : Lay w g ik ch d i (k + 1) (va_up d3 i d) := Lay_yes hL3 hi2 ⟨by omega, by omega, hke⟩ (by omega) hs hn0
                                  have hs4 : d ≤ (va_up d3 i d) i := by unfold va_up; rw [if_pos rfl]; exact Int.le_refl _
                                  refine lv_iload kx kb dX3_depths_161 (lv_at hl 2 rfl) ?_
                                  refine lv_iload_n kx kb dX3_depths_163 rfl (lv_at hl 6 rfl) ?_
                                  refine tz_if_eq (tgt := 171) kx kb dX3_depths_164 (by decide) (fun h164 => ?_) (fun h164 => ?_)
                                  · have hev : k % 2 = 0 := by rcases hke with q | q; (rw [h164] at q; cases q); exact q
                                    have hk8 : 0 ≤ k + 2 ∧ k + 2 ≤ 8 := by omega
                                    have hke2 : ch = true ∨ (k + 2) % 2 = 0 := Or.inr (by omega)
                                    have hL5 := by rw [h164] at hL4; exact Lay_2 hev hL4
                                    rw [← h164] at hL5
                                    refine lv_iconst (v := iI 2) kx kb dX3_depths_171 rfl ?_
                                    refine ti_iadd kx kb dX3_depths_172 ?_
                                    refine lv_istore (lv' := [(4, .int (iI (k + 2))), (6, .int (iI (((i : Int) / (w : Int)) + (sY k)))), (5, .int (iI (((i : Int) % (w : Int)) + (sX k)))), (3, .int (iI (i : Int))), (2, .int (iI d)), (0, .ref o), (1, .int (zI ch))]) kx kb dX3_depths_173 hl (by decide) rfl (fun ls hl => ?_)
                                    refine lv_goto (tgt := 71) kx kb dX3_depths_175 (by decide) ?_
                                    exact ih71 (k + 2) (va_up d3 i d) (hk8) (hke2) (hL5) (hs4) (by omega) H locs hP hD hS ls (lv_sub hl [0, 3, 4, 5, 6] rfl)
                                  · have hk8 : 0 ≤ k + 1 ∧ k + 1 ≤ 8 := by omega
                                    have hke2 : ch = true ∨ (k + 1) % 2 = 0 := Or.inl h164
                                    have hL5 := hL4
                                    refine lv_iconst (v := iI 1) kx kb dX3_depths_167 rfl ?_
                                    refine lv_goto (tgt := 172) kx kb dX3_depths_168 (by decide) ?_
                                    refine ti_iadd kx kb dX3_depths_172 ?_
                                    refine lv_istore (lv' := [(4, .int (iI (k + 1))), (6, .int (iI (((i : Int) / (w : Int)) + (sY k)))), (5, .int (iI (((i : Int) % (w : Int)) + (sX k)))), (3, .int (iI (i : Int))), (2, .int (iI d)), (0, .ref o), (1, .int (zI ch))]) kx kb dX3_depths_173 hl (by decide) rfl (fun ls hl => ?_)
                                    refine lv_goto (tgt := 71) kx kb dX3_depths_175 (by decide) ?_
                                    exact ih71 (k + 1) (va_up d3 i d) (hk8) (hke2) (hL5) (hs4) (by omega) H locs hP hD hS ls (lv_sub hl [0, 3, 4, 5, 6] rfl)
                            · simp only [isBd_t, isBd_f] at h114
                              refine lv_iload_n kx kb dX3_depths_117 rfl (lv_at hl 4 rfl) ?_
                              refine lv_iconst (v := iI 1) kx kb dX3_depths_118 rfl ?_
                              refine ti_icmp_eq (tgt := 154) kx kb (by omega) dX3_depths_119 (by decide) (fun h119 => ?_) (fun h119 => ?_)
                              · refine lv_aload_n kx kb dX3_depths_154 rfl (lv_at hl 5 rfl) ?_
                                refine va_get (D := D.1) (ci := 0) (v := .ref b5) (C := RX3) (T := TX3) (N := 9) kx kb hts in_X3 hown hK hP 0 rfl rfl 5 (by decide) (hts _ q1375) (fun _ h9 => h9) rfl dX3_depths_155 ?_
                                refine lv_iload_n kx kb dX3_depths_158 rfl (lv_at hl 3 rfl) ?_
                                refine lv_iload_n kx kb dX3_depths_159 rfl (lv_at hl 4 rfl) ?_
                                refine ta_iast C hK hP hD hS 5 rfl i (by omega) dX3_depths_160 (fun H locs hP hD hS => ?_)
                                have hP : va_P D.1 clAll [(o, .inr (0, [.int (iI thr), .ref b1, .ref b2, .ref b3, .ref b4, .ref b5, .ref b6, .int (iI (w : Int)), .int (iI (g : Int))])), (b1, .inl (D.2 0, 1024, .inl (fun x_ => zI (ik x_)))), (b2, .inl (D.2 0, 1024, .inl (fun x_ => zI (st x_)))), (b3, .inl (D.2 0, 1024, .inl (fun x_ => zI (kp x_)))), (b4, .inl (D.2 0, 1024, .inl (fun x_ => zI (go x_)))), (b5, .inl (D.2 1, 1024, .inl (fun x_ => iI ((va_up d3 i d) x_)))), (b6, .inl (D.2 1, 1024, .inl (fun x_ => iI (pt x_))))] H := hP
                                have hD : va_D A [(o, .inr (0, [.int (iI thr), .ref b1, .ref b2, .ref b3, .ref b4, .ref b5, .ref b6, .int (iI (w : Int)), .int (iI (g : Int))])), (b1, .inl (D.2 0, 1024, .inl (fun x_ => zI (ik x_)))), (b2, .inl (D.2 0, 1024, .inl (fun x_ => zI (st x_)))), (b3, .inl (D.2 0, 1024, .inl (fun x_ => zI (kp x_)))), (b4, .inl (D.2 0, 1024, .inl (fun x_ => zI (go x_)))), (b5, .inl (D.2 1, 1024, .inl (fun x_ => iI ((va_up d3 i d) x_)))), (b6, .inl (D.2 1, 1024, .inl (fun x_ => iI (pt x_))))] := hD
                                have hb : isBd w g (nbX w i k) (nbY w i k) = false := (isBd_f _ _ _ _).mpr h114
                                have hn0 : nbD w g d3 i k = d - 1 := by unfold nbD; rw [hb]; simp only [Bool.false_eq_true, if_false]; omega
                                have hL4 : Lay w g ik ch d i (k + 1) (va_up d3 i d) := Lay_yes hL3 hi2 ⟨by omega, by omega, hke⟩ (by omega) hs hn0
                                have hs4 : d ≤ (va_up d3 i d) i := by unfold va_up; rw [if_pos rfl]; exact Int.le_refl _
                                refine lv_iload kx kb dX3_depths_161 (lv_at hl 2 rfl) ?_
                                refine lv_iload_n kx kb dX3_depths_163 rfl (lv_at hl 6 rfl) ?_
                                refine tz_if_eq (tgt := 171) kx kb dX3_depths_164 (by decide) (fun h164 => ?_) (fun h164 => ?_)
                                · have hev : k % 2 = 0 := by rcases hke with q | q; (rw [h164] at q; cases q); exact q
                                  have hk8 : 0 ≤ k + 2 ∧ k + 2 ≤ 8 := by omega
                                  have hke2 : ch = true ∨ (k + 2) % 2 = 0 := Or.inr (by omega)
                                  have hL5 := by rw [h164] at hL4; exact Lay_2 hev hL4
                                  rw [← h164] at hL5
                                  refine lv_iconst (v := iI 2) kx kb dX3_depths_171 rfl ?_
                                  refine ti_iadd kx kb dX3_depths_172 ?_
                                  refine lv_istore (lv' := [(4, .int (iI (k + 2))), (6, .int (iI (((i : Int) / (w : Int)) + (sY k)))), (5, .int (iI (((i : Int) % (w : Int)) + (sX k)))), (3, .int (iI (i : Int))), (2, .int (iI d)), (0, .ref o), (1, .int (zI ch))]) kx kb dX3_depths_173 hl (by decide) rfl (fun ls hl => ?_)
                                  refine lv_goto (tgt := 71) kx kb dX3_depths_175 (by decide) ?_
                                  exact ih71 (k + 2) (va_up d3 i d) (hk8) (hke2) (hL5) (hs4) (by omega) H locs hP hD hS ls (lv_sub hl [0, 3, 4, 5, 6] rfl)
                                · have hk8 : 0 ≤ k + 1 ∧ k + 1 ≤ 8 := by omega
                                  have hke2 : ch = true ∨ (k + 1) % 2 = 0 := Or.inl h164
                                  have hL5 := hL4
                                  refine lv_iconst (v := iI 1) kx kb dX3_depths_167 rfl ?_
                                  refine lv_goto (tgt := 172) kx kb dX3_depths_168 (by decide) ?_
                                  refine ti_iadd kx kb dX3_depths_172 ?_
                                  refine lv_istore (lv' := [(4, .int (iI (k + 1))), (6, .int (iI (((i : Int) / (w : Int)) + (sY k)))), (5, .int (iI (((i : Int) % (w : Int)) + (sX k)))), (3, .int (iI (i : Int))), (2, .int (iI d)), (0, .ref o), (1, .int (zI ch))]) kx kb dX3_depths_173 hl (by decide) rfl (fun ls hl => ?_)
                                  refine lv_goto (tgt := 71) kx kb dX3_depths_175 (by decide) ?_
                                  exact ih71 (k + 1) (va_up d3 i d) (hk8) (hke2) (hL5) (hs4) (by omega) H locs hP hD hS ls (lv_sub hl [0, 3, 4, 5, 6] rfl)
                              · refine lv_aload_n kx kb dX3_depths_122 rfl (lv_at hl 5 rfl) ?_
                                refine lv_iload kx kb dX3_depths_123 (lv_at hl 1 rfl) ?_
                                refine lv_iload kx kb dX3_depths_125 (lv_at hl 0 rfl) ?_
                                refine t_callRV C (met_X3_isBoard l D E o b1 b2 b3 b4 b5 b6 thr w g ik st kp go d3 pt (((i : Int) % (w : Int)) + (sX k)) (((i : Int) / (w : Int)) + (sY k)) (by first | assumption | omega) (by first | assumption | omega) (by first | assumption | omega) (by first | assumption | omega)) (cwV 2 hts (lw_V q1422 q1424 qs26 q62 q1425) rfl rfl rfl (by decide +kernel) ⟨Nat.le_of_ble_eq_true rfl, Nat.le_of_ble_eq_true rfl⟩) (va_recv hK hP (ci := 0) (q0 := 0) rfl rfl) hK hX hP hD hS hA [0, 1, 2, 3, 4, 5, 6] rfl (by decide) tYb_0 (fun _ _ _ => trivial) rfl hl.1 rfl (Nat.le_of_ble_eq_true rfl) dX3_depths_127 ⟨(show 0 ≤ 0 from by omega), (show 0 ≤ 0 from by omega)⟩ ?_
                                refine W.eq (g2 := F0 m0 130 ls [.int (zI (isBd w g (((i : Int) % (w : Int)) + (sX k)) (((i : Int) / (w : Int)) + (sY k))))]) rfl ?_
                                refine tz_if_eq (tgt := 161) kx kb dX3_depths_130 (by decide) (fun h130 => ?_) (fun h130 => ?_)
                                · simp only [isBd_t, isBd_f] at h130
                                  have hb : isBd w g (nbX w i k) (nbY w i k) = false := (isBd_f _ _ _ _).mpr h114
                                  have hn0 : nbD w g d3 i k ≠ d - 1 := by unfold nbD; rw [hb]; simp only [Bool.false_eq_true, if_false]; omega
                                  have hL4 : Lay w g ik ch d i (k + 1) d3 := Lay_no hL3 hn0
                                  have hs4 := hs
                                  refine lv_iload kx kb dX3_depths_161 (lv_at hl 2 rfl) ?_
                                  refine lv_iload_n kx kb dX3_depths_163 rfl (lv_at hl 6 rfl) ?_
                                  refine tz_if_eq (tgt := 171) kx kb dX3_depths_164 (by decide) (fun h164 => ?_) (fun h164 => ?_)
                                  · have hev : k % 2 = 0 := by rcases hke with q | q; (rw [h164] at q; cases q); exact q
                                    have hk8 : 0 ≤ k + 2 ∧ k + 2 ≤ 8 := by omega
                                    have hke2 : ch = true ∨ (k + 2) % 2 = 0 := Or.inr (by omega)
                                    have hL5 := by rw [h164] at hL4; exact Lay_2 hev hL4
                                    rw [← h164] at hL5
                                    refine lv_iconst (v := iI 2) kx kb dX3_depths_171 rfl ?_
                                    refine ti_iadd kx kb dX3_depths_172 ?_
                                    refine lv_istore (lv' := [(4, .int (iI (k + 2))), (6, .int (iI (((i : Int) / (w : Int)) + (sY k)))), (5, .int (iI (((i : Int) % (w : Int)) + (sX k)))), (3, .int (iI (i : Int))), (2, .int (iI d)), (0, .ref o), (1, .int (zI ch))]) kx kb dX3_depths_173 hl (by decide) rfl (fun ls hl => ?_)
                                    refine lv_goto (tgt := 71) kx kb dX3_depths_175 (by decide) ?_
                                    exact ih71 (k + 2) d3 (hk8) (hke2) (hL5) (hs4) (by omega) H locs hP hD hS ls (lv_sub hl [0, 3, 4, 5, 6] rfl)
                                  · have hk8 : 0 ≤ k + 1 ∧ k + 1 ≤ 8 := by omega
                                    have hke2 : ch = true ∨ (k + 1) % 2 = 0 := Or.inl h164
                                    have hL5 := hL4
                                    refine lv_iconst (v := iI 1) kx kb dX3_depths_167 rfl ?_
                                    refine lv_goto (tgt := 172) kx kb dX3_depths_168 (by decide) ?_
                                    refine ti_iadd kx kb dX3_depths_172 ?_
                                    refine lv_istore (lv' := [(4, .int (iI (k + 1))), (6, .int (iI (((i : Int) / (w : Int)) + (sY k)))), (5, .int (iI (((i : Int) % (w : Int)) + (sX k)))), (3, .int (iI (i : Int))), (2, .int (iI d)), (0, .ref o), (1, .int (zI ch))]) kx kb dX3_depths_173 hl (by decide) rfl (fun ls hl => ?_)
                                    refine lv_goto (tgt := 71) kx kb dX3_depths_175 (by decide) ?_
                                    exact ih71 (k + 1) d3 (hk8) (hke2) (hL5) (hs4) (by omega) H locs hP hD hS ls (lv_sub hl [0, 3, 4, 5, 6] rfl)
                                · simp only [isBd_t] at h130; exact absurd h130 h114
                      exact cut71 ((((8 : Int) - 0).toNat) + 1) 0 d4 (by omega) (by omega) (by exact hL2) (by omega) (Nat.lt_succ_self _) H locs hP hD hS ls hl
                    · refine lv_goto (tgt := 178) kx kb dX3_depths_65 (by decide) ?_
                      refine ti_iinc (a := (i : Int)) (lv' := [(3, .int (iI ((i : Int) + 1))), (2, .int (iI d)), (0, .ref o), (1, .int (zI ch))]) kx kb dX3_depths_178 hl (k := 0) rfl (by decide) rfl (fun ls hl => ?_)
                      refine lv_goto (tgt := 47) kx kb dX3_depths_181 (by decide) ?_
                      exact ih47 (i + 1) d4 (by omega) (Lay_skip hL2 h62) (by omega) H locs hP hD hS ls hl
              exact cut47 ((w * g - 0) + 1) 0 d2 (by omega) (by exact hL) (Nat.lt_succ_self _) H locs hP hD hS ls hl
        exact cut39 ((((32 : Int) - 1).toNat) + 1) 1 d1 (by omega) (Lay_0 (fun c hc => by rw [hd1]; exact if_pos (by omega))) (Nat.lt_succ_self _) H locs hP hD hS ls hl
      · refine lv_aload_n kx kb dX3_depths_10 rfl (lv_at hl 1 rfl) ?_
        refine va_get (D := D.1) (ci := 0) (v := .ref b5) (C := RX3) (T := TX3) (N := 9) kx kb hts in_X3 hown hK hP 0 rfl rfl 5 (by decide) (hts _ q1375) (fun _ h9 => h9) rfl dX3_depths_11 ?_
        refine lv_iload_n kx kb dX3_depths_14 rfl (lv_at hl 0 rfl) ?_
        refine lv_aload_n kx kb dX3_depths_15 rfl (lv_at hl 1 rfl) ?_
        refine va_get (D := D.1) (ci := 0) (v := .ref b1) (C := RX3) (T := TX3) (N := 9) kx kb hts in_X3 hown hK hP 0 rfl rfl 1 (by decide) (hts _ q1371) (fun _ h9 => h9) rfl dX3_depths_16 ?_
        refine lv_iload_n kx kb dX3_depths_19 rfl (lv_at hl 0 rfl) ?_
        refine ta_zald C hK hP 1 rfl i (by omega) dX3_depths_20 ?_
        refine tz_if_eq (tgt := 29) kx kb dX3_depths_21 (by decide) (fun h21 => ?_) (fun h21 => ?_)
        · refine lv_iconst (v := iI 0) kx kb dX3_depths_29 rfl ?_
          refine ta_iast C hK hP hD hS 5 rfl i (by omega) dX3_depths_30 (fun H locs hP hD hS => ?_)
          have hP : va_P D.1 clAll [(o, .inr (0, [.int (iI thr), .ref b1, .ref b2, .ref b3, .ref b4, .ref b5, .ref b6, .int (iI (w : Int)), .int (iI (g : Int))])), (b1, .inl (D.2 0, 1024, .inl (fun x_ => zI (ik x_)))), (b2, .inl (D.2 0, 1024, .inl (fun x_ => zI (st x_)))), (b3, .inl (D.2 0, 1024, .inl (fun x_ => zI (kp x_)))), (b4, .inl (D.2 0, 1024, .inl (fun x_ => zI (go x_)))), (b5, .inl (D.2 1, 1024, .inl (fun x_ => iI ((va_up d1 i 0) x_)))), (b6, .inl (D.2 1, 1024, .inl (fun x_ => iI (pt x_))))] H := hP
          have hD : va_D A [(o, .inr (0, [.int (iI thr), .ref b1, .ref b2, .ref b3, .ref b4, .ref b5, .ref b6, .int (iI (w : Int)), .int (iI (g : Int))])), (b1, .inl (D.2 0, 1024, .inl (fun x_ => zI (ik x_)))), (b2, .inl (D.2 0, 1024, .inl (fun x_ => zI (st x_)))), (b3, .inl (D.2 0, 1024, .inl (fun x_ => zI (kp x_)))), (b4, .inl (D.2 0, 1024, .inl (fun x_ => zI (go x_)))), (b5, .inl (D.2 1, 1024, .inl (fun x_ => iI ((va_up d1 i 0) x_)))), (b6, .inl (D.2 1, 1024, .inl (fun x_ => iI (pt x_))))] := hD
          refine ti_iinc (a := (i : Int)) (lv' := [(2, .int (iI ((i : Int) + 1))), (0, .ref o), (1, .int (zI ch))]) kx kb dX3_depths_31 hl (k := 0) rfl (by decide) rfl (fun ls hl => ?_)
          refine lv_goto (tgt := 2) kx kb dX3_depths_34 (by decide) ?_
          exact ih2 (i + 1) (va_up d1 i 0) (by omega) (by rw [hd1, ← flw_s]; simp [h21]) (by omega) H locs hP hD hS ls hl
        · refine lv_bipush (v := iI 32) kx kb dX3_depths_24 rfl ?_
          refine lv_goto (tgt := 30) kx kb dX3_depths_26 (by decide) ?_
          refine ta_iast C hK hP hD hS 5 rfl i (by omega) dX3_depths_30 (fun H locs hP hD hS => ?_)
          have hP : va_P D.1 clAll [(o, .inr (0, [.int (iI thr), .ref b1, .ref b2, .ref b3, .ref b4, .ref b5, .ref b6, .int (iI (w : Int)), .int (iI (g : Int))])), (b1, .inl (D.2 0, 1024, .inl (fun x_ => zI (ik x_)))), (b2, .inl (D.2 0, 1024, .inl (fun x_ => zI (st x_)))), (b3, .inl (D.2 0, 1024, .inl (fun x_ => zI (kp x_)))), (b4, .inl (D.2 0, 1024, .inl (fun x_ => zI (go x_)))), (b5, .inl (D.2 1, 1024, .inl (fun x_ => iI ((va_up d1 i 32) x_)))), (b6, .inl (D.2 1, 1024, .inl (fun x_ => iI (pt x_))))] H := hP
          have hD : va_D A [(o, .inr (0, [.int (iI thr), .ref b1, .ref b2, .ref b3, .ref b4, .ref b5, .ref b6, .int (iI (w : Int)), .int (iI (g : Int))])), (b1, .inl (D.2 0, 1024, .inl (fun x_ => zI (ik x_)))), (b2, .inl (D.2 0, 1024, .inl (fun x_ => zI (st x_)))), (b3, .inl (D.2 0, 1024, .inl (fun x_ => zI (kp x_)))), (b4, .inl (D.2 0, 1024, .inl (fun x_ => zI (go x_)))), (b5, .inl (D.2 1, 1024, .inl (fun x_ => iI ((va_up d1 i 32) x_)))), (b6, .inl (D.2 1, 1024, .inl (fun x_ => iI (pt x_))))] := hD
          refine ti_iinc (a := (i : Int)) (lv' := [(2, .int (iI ((i : Int) + 1))), (0, .ref o), (1, .int (zI ch))]) kx kb dX3_depths_31 hl (k := 0) rfl (by decide) rfl (fun ls hl => ?_)
          refine lv_goto (tgt := 2) kx kb dX3_depths_34 (by decide) ?_
          exact ih2 (i + 1) (va_up d1 i 32) (by omega) (by rw [hd1, ← flw_s]; simp [h21]) (by omega) H locs hP hD hS ls hl
  exact cut2 ((w * g - 0) + 1) 0 dp (by omega) (by rw [flw_0]) (Nat.lt_succ_self _) s0.heap [] hP hD hS ls hl
set_option maxHeartbeats 4000000 in
set_option maxRecDepth 100000 in
theorem met_X3_depthOf (l : Launch) (D : TG) (E : TE) (o : Nat) (b1 : Nat) (b2 : Nat) (b3 : Nat) (b4 : Nat) (b5 : Nat) (b6 : Nat) (thr : Int) (w : Nat) (g : Nat) (ik : Nat → Bool) (st : Nat → Bool) (kp : Nat → Bool) (go : Nat → Bool) (dp : Nat → Int) (pt : Nat → Int) (c : Nat) (ch : Bool) (hw : 1 ≤ w ∧ w ≤ 32) (hg : 1 ≤ g ∧ g ≤ 32) (hc : c < w * g) : tMet l yX3_depthOf cX3_depthOf 3 (some .int) 3 70 (0) (0) [.ref o, .int (iI (c : Int)), .int (zI ch)] D E [(o, .inr (0, [.int (iI thr), .ref b1, .ref b2, .ref b3, .ref b4, .ref b5, .ref b6, .int (iI (w : Int)), .int (iI (g : Int))])), (b1, .inl (D.2 0, 1024, .inl (fun x_ => zI (ik x_)))), (b2, .inl (D.2 0, 1024, .inl (fun x_ => zI (st x_)))), (b3, .inl (D.2 0, 1024, .inl (fun x_ => zI (kp x_)))), (b4, .inl (D.2 0, 1024, .inl (fun x_ => zI (go x_)))), (b5, .inl (D.2 1, 1024, .inl (fun x_ => iI (dp x_)))), (b6, .inl (D.2 1, 1024, .inl (fun x_ => iI (pt x_))))] tY0 (S := (Nat → Int)) (fun u_ => True) (fun u_ => some (.int (iI (depF w g ik ch c)))) (fun u_ => [(o, .inr (0, [.int (iI thr), .ref b1, .ref b2, .ref b3, .ref b4, .ref b5, .ref b6, .int (iI (w : Int)), .int (iI (g : Int))])), (b1, .inl (D.2 0, 1024, .inl (fun x_ => zI (ik x_)))), (b2, .inl (D.2 0, 1024, .inl (fun x_ => zI (st x_)))), (b3, .inl (D.2 0, 1024, .inl (fun x_ => zI (kp x_)))), (b4, .inl (D.2 0, 1024, .inl (fun x_ => zI (go x_)))), (b5, .inl (D.2 1, 1024, .inl (fun x_ => iI (u_ x_)))), (b6, .inl (D.2 1, 1024, .inl (fun x_ => iI (pt x_))))]) := by
  refine tu_met (by decide +kernel) (Nat.le_of_ble_eq_true rfl) ?_
  intro p0 e0 s0 m0 below meth c0 A ls args Q hag hQ C hK hX hY hP hD hA hAe hl
  obtain ⟨kx, kb, hml, hown, hts, -⟩ := id C
  have hS : va_S A s0.heap s0.heap [] := va_S.rf
  have hl : lv_has ls 3 [(0, .ref o), (1, .int (iI (c : Int))), (2, .int (zI ch))] := hl
  have hwg := wg_le hw hg
  refine lv_aload_n kx kb dX3_depthOf_0 rfl (lv_at hl 0 rfl) ?_
  refine lv_iload_n kx kb dX3_depthOf_1 rfl (lv_at hl 2 rfl) ?_
  refine t_callV (wr := []) C (met_X3_depths l D E o b1 b2 b3 b4 b5 b6 thr w g ik st kp go dp pt ch (by first | assumption | omega) (by first | assumption | omega)) (cwV 1 hts (lw_V q1553 q1555 qs44 q62 q1556) rfl rfl rfl (by decide +kernel) ⟨Nat.le_of_ble_eq_true rfl, Nat.le_of_ble_eq_true rfl⟩) (va_recv hK hP (ci := 0) (q0 := 0) rfl rfl) hK hX hP hD hS hA [0, 1, 2, 3, 4, 5, 6] [] rfl rfl (by decide) (by decide) (by decide) tYb_0 (fun _ _ _ => trivial) rfl hl.1 rfl (Nat.le_of_ble_eq_true rfl) dX3_depthOf_2 ⟨(show 0 ≤ 0 from by omega), (show 0 ≤ 0 from by omega)⟩ (fun u_ H locs hp hP hD hS => ?_)
  obtain ⟨dp2_1, rfl⟩ : ∃ z, z = u_ := ⟨_, rfl⟩
  have hc2_1 : isDep w g ik ch dp2_1 := hp
  have hP : va_P D.1 clAll [(o, .inr (0, [.int (iI thr), .ref b1, .ref b2, .ref b3, .ref b4, .ref b5, .ref b6, .int (iI (w : Int)), .int (iI (g : Int))])), (b1, .inl (D.2 0, 1024, .inl (fun x_ => zI (ik x_)))), (b2, .inl (D.2 0, 1024, .inl (fun x_ => zI (st x_)))), (b3, .inl (D.2 0, 1024, .inl (fun x_ => zI (kp x_)))), (b4, .inl (D.2 0, 1024, .inl (fun x_ => zI (go x_)))), (b5, .inl (D.2 1, 1024, .inl (fun x_ => iI (dp2_1 x_)))), (b6, .inl (D.2 1, 1024, .inl (fun x_ => iI (pt x_))))] H := hP
  have hD : va_D A [(o, .inr (0, [.int (iI thr), .ref b1, .ref b2, .ref b3, .ref b4, .ref b5, .ref b6, .int (iI (w : Int)), .int (iI (g : Int))])), (b1, .inl (D.2 0, 1024, .inl (fun x_ => zI (ik x_)))), (b2, .inl (D.2 0, 1024, .inl (fun x_ => zI (st x_)))), (b3, .inl (D.2 0, 1024, .inl (fun x_ => zI (kp x_)))), (b4, .inl (D.2 0, 1024, .inl (fun x_ => zI (go x_)))), (b5, .inl (D.2 1, 1024, .inl (fun x_ => iI (dp2_1 x_)))), (b6, .inl (D.2 1, 1024, .inl (fun x_ => iI (pt x_))))] := hD
  refine W.eq (g2 := F0 m0 5 ls []) rfl ?_
  refine lv_aload_n kx kb dX3_depthOf_5 rfl (lv_at hl 0 rfl) ?_
  refine va_get (D := D.1) (ci := 0) (v := .ref b5) (C := RX3) (T := TX3) (N := 9) kx kb hts in_X3 hown hK hP 0 rfl rfl 5 (by decide) (hts _ q1375) (fun _ h9 => h9) rfl dX3_depthOf_6 ?_
  refine lv_iload_n kx kb dX3_depthOf_9 rfl (lv_at hl 1 rfl) ?_
  refine ta_iald C hK hP 5 rfl c (by omega) dX3_depthOf_10 ?_
  subst hQ
  exact tm_iret C dp2_1 trivial hP hD hS (show 0 ≤ 0 from by omega) (show 0 ≤ 0 from by omega) (by rw [isDep_F hc2_1 c hc]) rfl dX3_depthOf_11
set_option maxHeartbeats 4000000 in
set_option maxRecDepth 100000 in
theorem met_X3_depthAt_ok (l : Launch) (D : TG) (E : TE) (o : Nat) (b1 : Nat) (b2 : Nat) (b3 : Nat) (b4 : Nat) (b5 : Nat) (b6 : Nat) (thr : Int) (w : Nat) (g : Nat) (ik : Nat → Bool) (st : Nat → Bool) (kp : Nat → Bool) (go : Nat → Bool) (dp : Nat → Int) (pt : Nat → Int) (x : Int) (y : Int) (ch : Bool) (hw : 1 ≤ w ∧ w ≤ 32) (hg : 1 ≤ g ∧ g ≤ 32) (hv : 0 ≤ x ∧ x < w ∧ 0 ≤ y ∧ y < g) : tMet l yX3_depthAt cX3_depthAt 4 (some .int) 4 92 (0) (0) [.ref o, .int (iI x), .int (iI y), .int (zI ch)] D E [(o, .inr (0, [.int (iI thr), .ref b1, .ref b2, .ref b3, .ref b4, .ref b5, .ref b6, .int (iI (w : Int)), .int (iI (g : Int))])), (b1, .inl (D.2 0, 1024, .inl (fun x_ => zI (ik x_)))), (b2, .inl (D.2 0, 1024, .inl (fun x_ => zI (st x_)))), (b3, .inl (D.2 0, 1024, .inl (fun x_ => zI (kp x_)))), (b4, .inl (D.2 0, 1024, .inl (fun x_ => zI (go x_)))), (b5, .inl (D.2 1, 1024, .inl (fun x_ => iI (dp x_)))), (b6, .inl (D.2 1, 1024, .inl (fun x_ => iI (pt x_))))] tY0 (S := (Nat → Int)) (fun u_ => True) (fun u_ => some (.int (iI (depF w g ik ch (cel w x y))))) (fun u_ => [(o, .inr (0, [.int (iI 0), .ref b1, .ref b2, .ref b3, .ref b4, .ref b5, .ref b6, .int (iI (w : Int)), .int (iI (g : Int))])), (b1, .inl (D.2 0, 1024, .inl (fun x_ => zI (ik x_)))), (b2, .inl (D.2 0, 1024, .inl (fun x_ => zI (st x_)))), (b3, .inl (D.2 0, 1024, .inl (fun x_ => zI (kp x_)))), (b4, .inl (D.2 0, 1024, .inl (fun x_ => zI (go x_)))), (b5, .inl (D.2 1, 1024, .inl (fun x_ => iI (u_ x_)))), (b6, .inl (D.2 1, 1024, .inl (fun x_ => iI (pt x_))))]) := by
  refine tu_met (by decide +kernel) (Nat.le_of_ble_eq_true rfl) ?_
  intro p0 e0 s0 m0 below meth c0 A ls args Q hag hQ C hK hX hY hP hD hA hAe hl
  obtain ⟨kx, kb, hml, hown, hts, -⟩ := id C
  have hS : va_S A s0.heap s0.heap [] := va_S.rf
  have hl : lv_has ls 4 [(0, .ref o), (1, .int (iI x)), (2, .int (iI y)), (3, .int (zI ch))] := hl
  have hwg := wg_le hw hg
  refine lv_aload_n kx kb dX3_depthAt_0 rfl (lv_at hl 0 rfl) ?_
  refine lv_iload_n kx kb dX3_depthAt_1 rfl (lv_at hl 1 rfl) ?_
  refine lv_iload_n kx kb dX3_depthAt_2 rfl (lv_at hl 2 rfl) ?_
  refine t_callV (wr := []) C (met_X3_cell l D E o b1 b2 b3 b4 b5 b6 thr w g ik st kp go dp pt x y (by first | assumption | omega) (by first | assumption | omega) (by first | assumption | omega) (by first | assumption | omega)) (cwV 2 hts (lw_V q1418 q1420 qs25 q62 q1421) rfl rfl rfl (by decide +kernel) ⟨Nat.le_of_ble_eq_true rfl, Nat.le_of_ble_eq_true rfl⟩) (va_recv hK hP (ci := 0) (q0 := 0) rfl rfl) hK hX hP hD hS hA [0, 1, 2, 3, 4, 5, 6] [] rfl rfl (by decide) (by decide) (by decide) tYb_0 (fun _ _ _ => trivial) rfl hl.1 rfl (Nat.le_of_ble_eq_true rfl) dX3_depthAt_3 ⟨(show 0 ≤ 0 from by omega), (show 0 ≤ 0 from by omega)⟩ (fun u_ H locs hp hP hD hS => ?_)
  obtain ⟨t2_1, rfl⟩ : ∃ z, z = u_ := ⟨_, rfl⟩
  have hc3_1 : t2_1 = if isBd w g x y then 0 else 1 := hp
  subst hc3_1
  have hP : va_P D.1 clAll [(o, .inr (0, [.int (iI (if isBd w g x y then 0 else 1)), .ref b1, .ref b2, .ref b3, .ref b4, .ref b5, .ref b6, .int (iI (w : Int)), .int (iI (g : Int))])), (b1, .inl (D.2 0, 1024, .inl (fun x_ => zI (ik x_)))), (b2, .inl (D.2 0, 1024, .inl (fun x_ => zI (st x_)))), (b3, .inl (D.2 0, 1024, .inl (fun x_ => zI (kp x_)))), (b4, .inl (D.2 0, 1024, .inl (fun x_ => zI (go x_)))), (b5, .inl (D.2 1, 1024, .inl (fun x_ => iI (dp x_)))), (b6, .inl (D.2 1, 1024, .inl (fun x_ => iI (pt x_))))] H := hP
  have hD : va_D A [(o, .inr (0, [.int (iI (if isBd w g x y then 0 else 1)), .ref b1, .ref b2, .ref b3, .ref b4, .ref b5, .ref b6, .int (iI (w : Int)), .int (iI (g : Int))])), (b1, .inl (D.2 0, 1024, .inl (fun x_ => zI (ik x_)))), (b2, .inl (D.2 0, 1024, .inl (fun x_ => zI (st x_)))), (b3, .inl (D.2 0, 1024, .inl (fun x_ => zI (kp x_)))), (b4, .inl (D.2 0, 1024, .inl (fun x_ => zI (go x_)))), (b5, .inl (D.2 1, 1024, .inl (fun x_ => iI (dp x_)))), (b6, .inl (D.2 1, 1024, .inl (fun x_ => iI (pt x_))))] := hD
  refine W.eq (g2 := F0 m0 6 ls [.int (zI (isBd w g x y))]) rfl ?_
  refine tz_if_eq (tgt := 25) kx kb dX3_depthAt_6 (by decide) (fun h6 => ?_) (fun h6 => ?_)
  · simp only [isBd_f] at h6; exact absurd hv h6
  · simp only [isBd_t, isBd_f] at h6
    rw [show ((if isBd w g x y then 0 else 1)) = (0 : Int) from by rw [if_pos ((isBd_t _ _ _ _).mpr h6)]] at hP hD
    have hP : va_P D.1 clAll [(o, .inr (0, [.int (iI 0), .ref b1, .ref b2, .ref b3, .ref b4, .ref b5, .ref b6, .int (iI (w : Int)), .int (iI (g : Int))])), (b1, .inl (D.2 0, 1024, .inl (fun x_ => zI (ik x_)))), (b2, .inl (D.2 0, 1024, .inl (fun x_ => zI (st x_)))), (b3, .inl (D.2 0, 1024, .inl (fun x_ => zI (kp x_)))), (b4, .inl (D.2 0, 1024, .inl (fun x_ => zI (go x_)))), (b5, .inl (D.2 1, 1024, .inl (fun x_ => iI (dp x_)))), (b6, .inl (D.2 1, 1024, .inl (fun x_ => iI (pt x_))))] H := hP
    have hD : va_D A [(o, .inr (0, [.int (iI 0), .ref b1, .ref b2, .ref b3, .ref b4, .ref b5, .ref b6, .int (iI (w : Int)), .int (iI (g : Int))])), (b1, .inl (D.2 0, 1024, .inl (fun x_ => zI (ik x_)))), (b2, .inl (D.2 0, 1024, .inl (fun x_ => zI (st x_)))), (b3, .inl (D.2 0, 1024, .inl (fun x_ => zI (kp x_)))), (b4, .inl (D.2 0, 1024, .inl (fun x_ => zI (go x_)))), (b5, .inl (D.2 1, 1024, .inl (fun x_ => iI (dp x_)))), (b6, .inl (D.2 1, 1024, .inl (fun x_ => iI (pt x_))))] := hD
    refine lv_aload_n kx kb dX3_depthAt_9 rfl (lv_at hl 0 rfl) ?_
    refine lv_iload_n kx kb dX3_depthAt_10 rfl (lv_at hl 2 rfl) ?_
    refine lv_aload_n kx kb dX3_depthAt_11 rfl (lv_at hl 0 rfl) ?_
    refine va_get (D := D.1) (ci := 0) (v := .int (iI (w : Int))) (C := RX3) (T := TX3) (N := 9) kx kb hts in_X3 hown hK hP 0 rfl rfl 7 (by decide) (hts _ q1377) (fun _ h9 => h9) rfl dX3_depthAt_12 ?_
    refine ti_imul kx kb dX3_depthAt_15 ?_
    refine lv_iload_n kx kb dX3_depthAt_16 rfl (lv_at hl 1 rfl) ?_
    refine ti_iadd kx kb dX3_depthAt_17 ?_
    refine lv_iload_n kx kb dX3_depthAt_18 rfl (lv_at hl 3 rfl) ?_
    have hq := cel_int h6
    refine W.eq (g2 := F0 m0 19 ls [.int (zI ch), .int (iI (cel w x y : Int)), .ref o]) (by rw [hq.1]) ?_
    refine t_callV (wr := []) C (met_X3_depthOf l D E o b1 b2 b3 b4 b5 b6 0 w g ik st kp go dp pt (cel w x y) ch (by first | assumption | omega) (by first | assumption | omega) (hq.2)) (cwV 2 hts (lw_V q1549 q1551 qs43 q62 q1552) rfl rfl rfl (by decide +kernel) ⟨Nat.le_of_ble_eq_true rfl, Nat.le_of_ble_eq_true rfl⟩) (va_recv hK hP (ci := 0) (q0 := 0) rfl rfl) hK hX hP hD hS hA [0, 1, 2, 3, 4, 5, 6] [] rfl rfl (by decide) (by decide) (by decide) tYb_0 (fun _ _ _ => trivial) rfl hl.1 rfl (Nat.le_of_ble_eq_true rfl) dX3_depthAt_19 ⟨(show 0 ≤ 0 from by omega), (show 0 ≤ 0 from by omega)⟩ (fun u_ H locs hp hP hD hS => ?_)
    obtain ⟨dp2_2, rfl⟩ : ∃ z, z = u_ := ⟨_, rfl⟩
    have hP : va_P D.1 clAll [(o, .inr (0, [.int (iI 0), .ref b1, .ref b2, .ref b3, .ref b4, .ref b5, .ref b6, .int (iI (w : Int)), .int (iI (g : Int))])), (b1, .inl (D.2 0, 1024, .inl (fun x_ => zI (ik x_)))), (b2, .inl (D.2 0, 1024, .inl (fun x_ => zI (st x_)))), (b3, .inl (D.2 0, 1024, .inl (fun x_ => zI (kp x_)))), (b4, .inl (D.2 0, 1024, .inl (fun x_ => zI (go x_)))), (b5, .inl (D.2 1, 1024, .inl (fun x_ => iI (dp2_2 x_)))), (b6, .inl (D.2 1, 1024, .inl (fun x_ => iI (pt x_))))] H := hP
    have hD : va_D A [(o, .inr (0, [.int (iI 0), .ref b1, .ref b2, .ref b3, .ref b4, .ref b5, .ref b6, .int (iI (w : Int)), .int (iI (g : Int))])), (b1, .inl (D.2 0, 1024, .inl (fun x_ => zI (ik x_)))), (b2, .inl (D.2 0, 1024, .inl (fun x_ => zI (st x_)))), (b3, .inl (D.2 0, 1024, .inl (fun x_ => zI (kp x_)))), (b4, .inl (D.2 0, 1024, .inl (fun x_ => zI (go x_)))), (b5, .inl (D.2 1, 1024, .inl (fun x_ => iI (dp2_2 x_)))), (b6, .inl (D.2 1, 1024, .inl (fun x_ => iI (pt x_))))] := hD
    refine W.eq (g2 := F0 m0 22 ls [.int (iI (depF w g ik ch (cel w x y)))]) rfl ?_
    refine lv_goto (tgt := 26) kx kb dX3_depthAt_22 (by decide) ?_
    subst hQ
    exact tm_iret C dp2_2 trivial hP hD hS (show 0 ≤ 0 from by omega) (show 0 ≤ 0 from by omega) rfl rfl dX3_depthAt_26
set_option maxHeartbeats 4000000 in
set_option maxRecDepth 100000 in
theorem met_X3_depthAt_no (l : Launch) (D : TG) (E : TE) (o : Nat) (b1 : Nat) (b2 : Nat) (b3 : Nat) (b4 : Nat) (b5 : Nat) (b6 : Nat) (thr : Int) (w : Nat) (g : Nat) (ik : Nat → Bool) (st : Nat → Bool) (kp : Nat → Bool) (go : Nat → Bool) (dp : Nat → Int) (pt : Nat → Int) (x : Int) (y : Int) (ch : Bool) (hw : 1 ≤ w ∧ w ≤ 32) (hg : 1 ≤ g ∧ g ≤ 32) (rx : -2147483648 ≤ x ∧ x < 2147483648) (ry : -2147483648 ≤ y ∧ y < 2147483648) (hv : ¬ (0 ≤ x ∧ x < w ∧ 0 ≤ y ∧ y < g)) : tMet l yX3_depthAt cX3_depthAt 4 (some .int) 4 92 (0) (0) [.ref o, .int (iI x), .int (iI y), .int (zI ch)] D E [(o, .inr (0, [.int (iI thr), .ref b1, .ref b2, .ref b3, .ref b4, .ref b5, .ref b6, .int (iI (w : Int)), .int (iI (g : Int))])), (b1, .inl (D.2 0, 1024, .inl (fun x_ => zI (ik x_)))), (b2, .inl (D.2 0, 1024, .inl (fun x_ => zI (st x_)))), (b3, .inl (D.2 0, 1024, .inl (fun x_ => zI (kp x_)))), (b4, .inl (D.2 0, 1024, .inl (fun x_ => zI (go x_)))), (b5, .inl (D.2 1, 1024, .inl (fun x_ => iI (dp x_)))), (b6, .inl (D.2 1, 1024, .inl (fun x_ => iI (pt x_))))] tY0 (S := Unit) (fun u_ => True) (fun u_ => some (.int (iI 0))) (fun u_ => [(o, .inr (0, [.int (iI 1), .ref b1, .ref b2, .ref b3, .ref b4, .ref b5, .ref b6, .int (iI (w : Int)), .int (iI (g : Int))])), (b1, .inl (D.2 0, 1024, .inl (fun x_ => zI (ik x_)))), (b2, .inl (D.2 0, 1024, .inl (fun x_ => zI (st x_)))), (b3, .inl (D.2 0, 1024, .inl (fun x_ => zI (kp x_)))), (b4, .inl (D.2 0, 1024, .inl (fun x_ => zI (go x_)))), (b5, .inl (D.2 1, 1024, .inl (fun x_ => iI (dp x_)))), (b6, .inl (D.2 1, 1024, .inl (fun x_ => iI (pt x_))))]) := by
  refine tu_met (by decide +kernel) (Nat.le_of_ble_eq_true rfl) ?_
  intro p0 e0 s0 m0 below meth c0 A ls args Q hag hQ C hK hX hY hP hD hA hAe hl
  obtain ⟨kx, kb, hml, hown, hts, -⟩ := id C
  have hS : va_S A s0.heap s0.heap [] := va_S.rf
  have hl : lv_has ls 4 [(0, .ref o), (1, .int (iI x)), (2, .int (iI y)), (3, .int (zI ch))] := hl
  have hwg := wg_le hw hg
  refine lv_aload_n kx kb dX3_depthAt_0 rfl (lv_at hl 0 rfl) ?_
  refine lv_iload_n kx kb dX3_depthAt_1 rfl (lv_at hl 1 rfl) ?_
  refine lv_iload_n kx kb dX3_depthAt_2 rfl (lv_at hl 2 rfl) ?_
  refine t_callV (wr := []) C (met_X3_cell l D E o b1 b2 b3 b4 b5 b6 thr w g ik st kp go dp pt x y (by first | assumption | omega) (by first | assumption | omega) (by first | assumption | omega) (by first | assumption | omega)) (cwV 2 hts (lw_V q1418 q1420 qs25 q62 q1421) rfl rfl rfl (by decide +kernel) ⟨Nat.le_of_ble_eq_true rfl, Nat.le_of_ble_eq_true rfl⟩) (va_recv hK hP (ci := 0) (q0 := 0) rfl rfl) hK hX hP hD hS hA [0, 1, 2, 3, 4, 5, 6] [] rfl rfl (by decide) (by decide) (by decide) tYb_0 (fun _ _ _ => trivial) rfl hl.1 rfl (Nat.le_of_ble_eq_true rfl) dX3_depthAt_3 ⟨(show 0 ≤ 0 from by omega), (show 0 ≤ 0 from by omega)⟩ (fun u_ H locs hp hP hD hS => ?_)
  obtain ⟨t2_1, rfl⟩ : ∃ z, z = u_ := ⟨_, rfl⟩
  have hc3_1 : t2_1 = if isBd w g x y then 0 else 1 := hp
  subst hc3_1
  have hP : va_P D.1 clAll [(o, .inr (0, [.int (iI (if isBd w g x y then 0 else 1)), .ref b1, .ref b2, .ref b3, .ref b4, .ref b5, .ref b6, .int (iI (w : Int)), .int (iI (g : Int))])), (b1, .inl (D.2 0, 1024, .inl (fun x_ => zI (ik x_)))), (b2, .inl (D.2 0, 1024, .inl (fun x_ => zI (st x_)))), (b3, .inl (D.2 0, 1024, .inl (fun x_ => zI (kp x_)))), (b4, .inl (D.2 0, 1024, .inl (fun x_ => zI (go x_)))), (b5, .inl (D.2 1, 1024, .inl (fun x_ => iI (dp x_)))), (b6, .inl (D.2 1, 1024, .inl (fun x_ => iI (pt x_))))] H := hP
  have hD : va_D A [(o, .inr (0, [.int (iI (if isBd w g x y then 0 else 1)), .ref b1, .ref b2, .ref b3, .ref b4, .ref b5, .ref b6, .int (iI (w : Int)), .int (iI (g : Int))])), (b1, .inl (D.2 0, 1024, .inl (fun x_ => zI (ik x_)))), (b2, .inl (D.2 0, 1024, .inl (fun x_ => zI (st x_)))), (b3, .inl (D.2 0, 1024, .inl (fun x_ => zI (kp x_)))), (b4, .inl (D.2 0, 1024, .inl (fun x_ => zI (go x_)))), (b5, .inl (D.2 1, 1024, .inl (fun x_ => iI (dp x_)))), (b6, .inl (D.2 1, 1024, .inl (fun x_ => iI (pt x_))))] := hD
  refine W.eq (g2 := F0 m0 6 ls [.int (zI (isBd w g x y))]) rfl ?_
  refine tz_if_eq (tgt := 25) kx kb dX3_depthAt_6 (by decide) (fun h6 => ?_) (fun h6 => ?_)
  · simp only [isBd_t, isBd_f] at h6
    rw [show ((if isBd w g x y then 0 else 1)) = (1 : Int) from by rw [(isBd_f _ _ _ _).mpr h6]; rfl] at hP hD
    have hP : va_P D.1 clAll [(o, .inr (0, [.int (iI 1), .ref b1, .ref b2, .ref b3, .ref b4, .ref b5, .ref b6, .int (iI (w : Int)), .int (iI (g : Int))])), (b1, .inl (D.2 0, 1024, .inl (fun x_ => zI (ik x_)))), (b2, .inl (D.2 0, 1024, .inl (fun x_ => zI (st x_)))), (b3, .inl (D.2 0, 1024, .inl (fun x_ => zI (kp x_)))), (b4, .inl (D.2 0, 1024, .inl (fun x_ => zI (go x_)))), (b5, .inl (D.2 1, 1024, .inl (fun x_ => iI (dp x_)))), (b6, .inl (D.2 1, 1024, .inl (fun x_ => iI (pt x_))))] H := hP
    have hD : va_D A [(o, .inr (0, [.int (iI 1), .ref b1, .ref b2, .ref b3, .ref b4, .ref b5, .ref b6, .int (iI (w : Int)), .int (iI (g : Int))])), (b1, .inl (D.2 0, 1024, .inl (fun x_ => zI (ik x_)))), (b2, .inl (D.2 0, 1024, .inl (fun x_ => zI (st x_)))), (b3, .inl (D.2 0, 1024, .inl (fun x_ => zI (kp x_)))), (b4, .inl (D.2 0, 1024, .inl (fun x_ => zI (go x_)))), (b5, .inl (D.2 1, 1024, .inl (fun x_ => iI (dp x_)))), (b6, .inl (D.2 1, 1024, .inl (fun x_ => iI (pt x_))))] := hD
    refine lv_iconst (v := iI 0) kx kb dX3_depthAt_25 rfl ?_
    subst hQ
    exact tm_iret C () trivial hP hD hS (show 0 ≤ 0 from by omega) (show 0 ≤ 0 from by omega) rfl rfl dX3_depthAt_26
  · simp only [isBd_t] at h6; exact absurd h6 hv
set_option maxHeartbeats 4000000 in
set_option maxRecDepth 100000 in
theorem met_X3_greatestDepth (l : Launch) (D : TG) (E : TE) (o : Nat) (b1 : Nat) (b2 : Nat) (b3 : Nat) (b4 : Nat) (b5 : Nat) (b6 : Nat) (thr : Int) (w : Nat) (g : Nat) (ik : Nat → Bool) (st : Nat → Bool) (kp : Nat → Bool) (go : Nat → Bool) (dp : Nat → Int) (pt : Nat → Int) (ch : Bool) (hw : 1 ≤ w ∧ w ≤ 32) (hg : 1 ≤ g ∧ g ≤ 32) : tMet l yX3_greatestDepth cX3_greatestDepth 4 (some .int) 3 70 (0) (0) [.ref o, .int (zI ch)] D E [(o, .inr (0, [.int (iI thr), .ref b1, .ref b2, .ref b3, .ref b4, .ref b5, .ref b6, .int (iI (w : Int)), .int (iI (g : Int))])), (b1, .inl (D.2 0, 1024, .inl (fun x_ => zI (ik x_)))), (b2, .inl (D.2 0, 1024, .inl (fun x_ => zI (st x_)))), (b3, .inl (D.2 0, 1024, .inl (fun x_ => zI (kp x_)))), (b4, .inl (D.2 0, 1024, .inl (fun x_ => zI (go x_)))), (b5, .inl (D.2 1, 1024, .inl (fun x_ => iI (dp x_)))), (b6, .inl (D.2 1, 1024, .inl (fun x_ => iI (pt x_))))] tY0 (S := (Nat → Int)) (fun u_ => True) (fun u_ => some (.int (iI (mxF (depF w g ik ch) (w * g))))) (fun u_ => [(o, .inr (0, [.int (iI 0), .ref b1, .ref b2, .ref b3, .ref b4, .ref b5, .ref b6, .int (iI (w : Int)), .int (iI (g : Int))])), (b1, .inl (D.2 0, 1024, .inl (fun x_ => zI (ik x_)))), (b2, .inl (D.2 0, 1024, .inl (fun x_ => zI (st x_)))), (b3, .inl (D.2 0, 1024, .inl (fun x_ => zI (kp x_)))), (b4, .inl (D.2 0, 1024, .inl (fun x_ => zI (go x_)))), (b5, .inl (D.2 1, 1024, .inl (fun x_ => iI (u_ x_)))), (b6, .inl (D.2 1, 1024, .inl (fun x_ => iI (pt x_))))]) := by
  refine tu_met (by decide +kernel) (Nat.le_of_ble_eq_true rfl) ?_
  intro p0 e0 s0 m0 below meth c0 A ls args Q hag hQ C hK hX hY hP hD hA hAe hl
  obtain ⟨kx, kb, hml, hown, hts, -⟩ := id C
  have hS : va_S A s0.heap s0.heap [] := va_S.rf
  have hl : lv_has ls 4 [(0, .ref o), (1, .int (zI ch))] := hl
  have hwg := wg_le hw hg
  refine lv_aload_n kx kb dX3_greatestDepth_0 rfl (lv_at hl 0 rfl) ?_
  refine lv_iconst (v := iI 0) kx kb dX3_greatestDepth_1 rfl ?_
  refine va_put (D := D.1) (ci := 0) (v := .int (iI 0)) (ty := .int) (C := RX3) (T := TX3) (N := 9) kx kb hts in_X3 tyX3 tyX3_ok nmX3 hown hK hP hD hS 0 rfl rfl 0 (by decide) (hts _ q1370) (fun _ h9 => h9) rfl (by decide +kernel) rfl rfl (Nat.le_of_ble_eq_true rfl) dX3_greatestDepth_2 (fun H locs hP hD hS => ?_)
  have hP : va_P D.1 clAll [(o, .inr (0, [.int (iI 0), .ref b1, .ref b2, .ref b3, .ref b4, .ref b5, .ref b6, .int (iI (w : Int)), .int (iI (g : Int))])), (b1, .inl (D.2 0, 1024, .inl (fun x_ => zI (ik x_)))), (b2, .inl (D.2 0, 1024, .inl (fun x_ => zI (st x_)))), (b3, .inl (D.2 0, 1024, .inl (fun x_ => zI (kp x_)))), (b4, .inl (D.2 0, 1024, .inl (fun x_ => zI (go x_)))), (b5, .inl (D.2 1, 1024, .inl (fun x_ => iI (dp x_)))), (b6, .inl (D.2 1, 1024, .inl (fun x_ => iI (pt x_))))] H := hP
  have hD : va_D A [(o, .inr (0, [.int (iI 0), .ref b1, .ref b2, .ref b3, .ref b4, .ref b5, .ref b6, .int (iI (w : Int)), .int (iI (g : Int))])), (b1, .inl (D.2 0, 1024, .inl (fun x_ => zI (ik x_)))), (b2, .inl (D.2 0, 1024, .inl (fun x_ => zI (st x_)))), (b3, .inl (D.2 0, 1024, .inl (fun x_ => zI (kp x_)))), (b4, .inl (D.2 0, 1024, .inl (fun x_ => zI (go x_)))), (b5, .inl (D.2 1, 1024, .inl (fun x_ => iI (dp x_)))), (b6, .inl (D.2 1, 1024, .inl (fun x_ => iI (pt x_))))] := hD
  refine lv_aload_n kx kb dX3_greatestDepth_5 rfl (lv_at hl 0 rfl) ?_
  refine lv_iload_n kx kb dX3_greatestDepth_6 rfl (lv_at hl 1 rfl) ?_
  refine t_callV (wr := []) C (met_X3_depths l D E o b1 b2 b3 b4 b5 b6 0 w g ik st kp go dp pt ch (by first | assumption | omega) (by first | assumption | omega)) (cwV 1 hts (lw_V q1553 q1555 qs44 q62 q1556) rfl rfl rfl (by decide +kernel) ⟨Nat.le_of_ble_eq_true rfl, Nat.le_of_ble_eq_true rfl⟩) (va_recv hK hP (ci := 0) (q0 := 0) rfl rfl) hK hX hP hD hS hA [0, 1, 2, 3, 4, 5, 6] [] rfl rfl (by decide) (by decide) (by decide) tYb_0 (fun _ _ _ => trivial) rfl hl.1 rfl (Nat.le_of_ble_eq_true rfl) dX3_greatestDepth_7 ⟨(show 0 ≤ 0 from by omega), (show 0 ≤ 0 from by omega)⟩ (fun u_ H locs hp hP hD hS => ?_)
  obtain ⟨dp2_1, rfl⟩ : ∃ z, z = u_ := ⟨_, rfl⟩
  have hc7_1 : isDep w g ik ch dp2_1 := hp
  have hP : va_P D.1 clAll [(o, .inr (0, [.int (iI 0), .ref b1, .ref b2, .ref b3, .ref b4, .ref b5, .ref b6, .int (iI (w : Int)), .int (iI (g : Int))])), (b1, .inl (D.2 0, 1024, .inl (fun x_ => zI (ik x_)))), (b2, .inl (D.2 0, 1024, .inl (fun x_ => zI (st x_)))), (b3, .inl (D.2 0, 1024, .inl (fun x_ => zI (kp x_)))), (b4, .inl (D.2 0, 1024, .inl (fun x_ => zI (go x_)))), (b5, .inl (D.2 1, 1024, .inl (fun x_ => iI (dp2_1 x_)))), (b6, .inl (D.2 1, 1024, .inl (fun x_ => iI (pt x_))))] H := hP
  have hD : va_D A [(o, .inr (0, [.int (iI 0), .ref b1, .ref b2, .ref b3, .ref b4, .ref b5, .ref b6, .int (iI (w : Int)), .int (iI (g : Int))])), (b1, .inl (D.2 0, 1024, .inl (fun x_ => zI (ik x_)))), (b2, .inl (D.2 0, 1024, .inl (fun x_ => zI (st x_)))), (b3, .inl (D.2 0, 1024, .inl (fun x_ => zI (kp x_)))), (b4, .inl (D.2 0, 1024, .inl (fun x_ => zI (go x_)))), (b5, .inl (D.2 1, 1024, .inl (fun x_ => iI (dp2_1 x_)))), (b6, .inl (D.2 1, 1024, .inl (fun x_ => iI (pt x_))))] := hD
  refine W.eq (g2 := F0 m0 10 ls []) rfl ?_
  refine lv_iconst (v := iI 0) kx kb dX3_greatestDepth_10 rfl ?_
  refine lv_istore_n (lv' := [(2, .int (iI 0)), (0, .ref o), (1, .int (zI ch))]) kx kb dX3_greatestDepth_11 rfl hl (by decide) rfl (fun ls hl => ?_)
  refine lv_iconst (v := iI 0) kx kb dX3_greatestDepth_12 rfl ?_
  refine lv_istore_n (lv' := [(3, .int (iI 0)), (2, .int (iI 0)), (0, .ref o), (1, .int (zI ch))]) kx kb dX3_greatestDepth_13 rfl hl (by decide) rfl (fun ls hl => ?_)
  have cut14 : ∀ (fuel : Nat) (i : Nat) (n : Int), (i ≤ w * g) → (n = mxF (depF w g ik ch) i) → (0 ≤ n ∧ n ≤ 32) → (w * g - i) < fuel → ∀ ls : Array Slot, lv_has ls 4 [(3, .int (iI (i : Int))), (2, .int (iI n)), (0, .ref o), (1, .int (zI ch))] → W p0 l e0 ({ frames := 3, cells := 0, slots := 0, locals := 70 } : Room) s0 m0 args below meth c0 H locs (0) (0) Q (F0 m0 14 ls []) := by
    intro fuel
    induction fuel with
    | zero =>
      intro i n hi hn hn2 hfuel14
      exact absurd hfuel14 (Nat.not_lt_zero _)
    | succ fuel ih14 =>
      intro i n hi hn hn2 hfuel14  ls hl
      refine lv_iload_n kx kb dX3_greatestDepth_14 rfl (lv_at hl 0 rfl) ?_
      refine lv_aload_n kx kb dX3_greatestDepth_15 rfl (lv_at hl 2 rfl) ?_
      refine t_callRV C (met_X3_cells l D E o b1 b2 b3 b4 b5 b6 0 w g ik st kp go dp2_1 pt (by first | assumption | omega) (by first | assumption | omega)) (cwV 0 hts (lw_V q1467 q1469 qs33 q62 q1470) rfl rfl rfl (by decide +kernel) ⟨Nat.le_of_ble_eq_true rfl, Nat.le_of_ble_eq_true rfl⟩) (va_recv hK hP (ci := 0) (q0 := 0) rfl rfl) hK hX hP hD hS hA [0, 1, 2, 3, 4, 5, 6] rfl (by decide) tYb_0 (fun _ _ _ => trivial) rfl hl.1 rfl (Nat.le_of_ble_eq_true rfl) dX3_greatestDepth_16 ⟨(show 0 ≤ 0 from by omega), (show 0 ≤ 0 from by omega)⟩ ?_
      refine W.eq (g2 := F0 m0 19 ls [.int (iI ((w * g : Nat) : Int)), .int (iI (i : Int))]) rfl ?_
      refine ti_icmp_ge (tgt := 39) kx kb (by omega) dX3_greatestDepth_19 (by decide) (fun h19 => ?_) (fun h19 => ?_)
      · refine lv_iload_n kx kb dX3_greatestDepth_39 rfl (lv_at hl 1 rfl) ?_
        subst hQ
        exact tm_iret C dp2_1 trivial hP hD hS (show 0 ≤ 0 from by omega) (show 0 ≤ 0 from by omega) (by rw [hn, show i = w * g from by omega]) rfl dX3_greatestDepth_40
      · refine lv_iload_n kx kb dX3_greatestDepth_22 rfl (lv_at hl 1 rfl) ?_
        refine lv_aload_n kx kb dX3_greatestDepth_23 rfl (lv_at hl 2 rfl) ?_
        refine va_get (D := D.1) (ci := 0) (v := .ref b5) (C := RX3) (T := TX3) (N := 9) kx kb hts in_X3 hown hK hP 0 rfl rfl 5 (by decide) (hts _ q1375) (fun _ h9 => h9) rfl dX3_greatestDepth_24 ?_
        refine lv_iload_n kx kb dX3_greatestDepth_27 rfl (lv_at hl 0 rfl) ?_
        refine ta_iald C hK hP 5 rfl i (by omega) dX3_greatestDepth_28 ?_
        have hdi := isDep_rng hw hc7_1 i (by omega)
        refine ti_mmax kx kb (hml.trans hl.1.symm) hown (hts _ q1561) (hts _ q272) (hts _ q74) (hts _ q273) (Nat.le_of_ble_eq_true rfl) (Nat.le_of_ble_eq_true rfl) (show 0 ≤ 0 from by omega) (show 0 ≤ 0 from by omega) (by omega) dX3_greatestDepth_29 ?_
        refine lv_istore_n (lv' := [(2, .int (iI (max n (dp2_1 i)))), (3, .int (iI (i : Int))), (0, .ref o), (1, .int (zI ch))]) kx kb dX3_greatestDepth_32 rfl hl (by decide) rfl (fun ls hl => ?_)
        refine ti_iinc (a := (i : Int)) (lv' := [(3, .int (iI ((i : Int) + 1))), (2, .int (iI (max n (dp2_1 i)))), (0, .ref o), (1, .int (zI ch))]) kx kb dX3_greatestDepth_33 hl (k := 1) rfl (by decide) rfl (fun ls hl => ?_)
        refine lv_goto (tgt := 14) kx kb dX3_greatestDepth_36 (by decide) ?_
        exact ih14 (i + 1) (max n (dp2_1 i)) (by omega) (by simp only [mxF]; rw [hn, isDep_F hc7_1 i (by omega)]) (by omega) (by omega) ls hl
  exact cut14 ((w * g - 0) + 1) 0 0 (by omega) (by rfl) (by omega) (Nat.lt_succ_self _) ls hl
set_option maxHeartbeats 4000000 in
set_option maxRecDepth 100000 in
theorem met_X3_depthSum (l : Launch) (D : TG) (E : TE) (o : Nat) (b1 : Nat) (b2 : Nat) (b3 : Nat) (b4 : Nat) (b5 : Nat) (b6 : Nat) (thr : Int) (w : Nat) (g : Nat) (ik : Nat → Bool) (st : Nat → Bool) (kp : Nat → Bool) (go : Nat → Bool) (dp : Nat → Int) (pt : Nat → Int) (ch : Bool) (hw : 1 ≤ w ∧ w ≤ 32) (hg : 1 ≤ g ∧ g ≤ 32) : tMet l yX3_depthSum cX3_depthSum 4 (some .int) 3 70 (0) (0) [.ref o, .int (zI ch)] D E [(o, .inr (0, [.int (iI thr), .ref b1, .ref b2, .ref b3, .ref b4, .ref b5, .ref b6, .int (iI (w : Int)), .int (iI (g : Int))])), (b1, .inl (D.2 0, 1024, .inl (fun x_ => zI (ik x_)))), (b2, .inl (D.2 0, 1024, .inl (fun x_ => zI (st x_)))), (b3, .inl (D.2 0, 1024, .inl (fun x_ => zI (kp x_)))), (b4, .inl (D.2 0, 1024, .inl (fun x_ => zI (go x_)))), (b5, .inl (D.2 1, 1024, .inl (fun x_ => iI (dp x_)))), (b6, .inl (D.2 1, 1024, .inl (fun x_ => iI (pt x_))))] tY0 (S := (Nat → Int)) (fun u_ => True) (fun u_ => some (.int (iI (fb_si (depF w g ik ch) (w * g))))) (fun u_ => [(o, .inr (0, [.int (iI 0), .ref b1, .ref b2, .ref b3, .ref b4, .ref b5, .ref b6, .int (iI (w : Int)), .int (iI (g : Int))])), (b1, .inl (D.2 0, 1024, .inl (fun x_ => zI (ik x_)))), (b2, .inl (D.2 0, 1024, .inl (fun x_ => zI (st x_)))), (b3, .inl (D.2 0, 1024, .inl (fun x_ => zI (kp x_)))), (b4, .inl (D.2 0, 1024, .inl (fun x_ => zI (go x_)))), (b5, .inl (D.2 1, 1024, .inl (fun x_ => iI (u_ x_)))), (b6, .inl (D.2 1, 1024, .inl (fun x_ => iI (pt x_))))]) := by
  refine tu_met (by decide +kernel) (Nat.le_of_ble_eq_true rfl) ?_
  intro p0 e0 s0 m0 below meth c0 A ls args Q hag hQ C hK hX hY hP hD hA hAe hl
  obtain ⟨kx, kb, hml, hown, hts, -⟩ := id C
  have hS : va_S A s0.heap s0.heap [] := va_S.rf
  have hl : lv_has ls 4 [(0, .ref o), (1, .int (zI ch))] := hl
  have hwg := wg_le hw hg
  refine lv_aload_n kx kb dX3_depthSum_0 rfl (lv_at hl 0 rfl) ?_
  refine lv_iconst (v := iI 0) kx kb dX3_depthSum_1 rfl ?_
  refine va_put (D := D.1) (ci := 0) (v := .int (iI 0)) (ty := .int) (C := RX3) (T := TX3) (N := 9) kx kb hts in_X3 tyX3 tyX3_ok nmX3 hown hK hP hD hS 0 rfl rfl 0 (by decide) (hts _ q1370) (fun _ h9 => h9) rfl (by decide +kernel) rfl rfl (Nat.le_of_ble_eq_true rfl) dX3_depthSum_2 (fun H locs hP hD hS => ?_)
  have hP : va_P D.1 clAll [(o, .inr (0, [.int (iI 0), .ref b1, .ref b2, .ref b3, .ref b4, .ref b5, .ref b6, .int (iI (w : Int)), .int (iI (g : Int))])), (b1, .inl (D.2 0, 1024, .inl (fun x_ => zI (ik x_)))), (b2, .inl (D.2 0, 1024, .inl (fun x_ => zI (st x_)))), (b3, .inl (D.2 0, 1024, .inl (fun x_ => zI (kp x_)))), (b4, .inl (D.2 0, 1024, .inl (fun x_ => zI (go x_)))), (b5, .inl (D.2 1, 1024, .inl (fun x_ => iI (dp x_)))), (b6, .inl (D.2 1, 1024, .inl (fun x_ => iI (pt x_))))] H := hP
  have hD : va_D A [(o, .inr (0, [.int (iI 0), .ref b1, .ref b2, .ref b3, .ref b4, .ref b5, .ref b6, .int (iI (w : Int)), .int (iI (g : Int))])), (b1, .inl (D.2 0, 1024, .inl (fun x_ => zI (ik x_)))), (b2, .inl (D.2 0, 1024, .inl (fun x_ => zI (st x_)))), (b3, .inl (D.2 0, 1024, .inl (fun x_ => zI (kp x_)))), (b4, .inl (D.2 0, 1024, .inl (fun x_ => zI (go x_)))), (b5, .inl (D.2 1, 1024, .inl (fun x_ => iI (dp x_)))), (b6, .inl (D.2 1, 1024, .inl (fun x_ => iI (pt x_))))] := hD
  refine lv_aload_n kx kb dX3_depthSum_5 rfl (lv_at hl 0 rfl) ?_
  refine lv_iload_n kx kb dX3_depthSum_6 rfl (lv_at hl 1 rfl) ?_
  refine t_callV (wr := []) C (met_X3_depths l D E o b1 b2 b3 b4 b5 b6 0 w g ik st kp go dp pt ch (by first | assumption | omega) (by first | assumption | omega)) (cwV 1 hts (lw_V q1553 q1555 qs44 q62 q1556) rfl rfl rfl (by decide +kernel) ⟨Nat.le_of_ble_eq_true rfl, Nat.le_of_ble_eq_true rfl⟩) (va_recv hK hP (ci := 0) (q0 := 0) rfl rfl) hK hX hP hD hS hA [0, 1, 2, 3, 4, 5, 6] [] rfl rfl (by decide) (by decide) (by decide) tYb_0 (fun _ _ _ => trivial) rfl hl.1 rfl (Nat.le_of_ble_eq_true rfl) dX3_depthSum_7 ⟨(show 0 ≤ 0 from by omega), (show 0 ≤ 0 from by omega)⟩ (fun u_ H locs hp hP hD hS => ?_)
  obtain ⟨dp2_1, rfl⟩ : ∃ z, z = u_ := ⟨_, rfl⟩
  have hc7_1 : isDep w g ik ch dp2_1 := hp
  have hP : va_P D.1 clAll [(o, .inr (0, [.int (iI 0), .ref b1, .ref b2, .ref b3, .ref b4, .ref b5, .ref b6, .int (iI (w : Int)), .int (iI (g : Int))])), (b1, .inl (D.2 0, 1024, .inl (fun x_ => zI (ik x_)))), (b2, .inl (D.2 0, 1024, .inl (fun x_ => zI (st x_)))), (b3, .inl (D.2 0, 1024, .inl (fun x_ => zI (kp x_)))), (b4, .inl (D.2 0, 1024, .inl (fun x_ => zI (go x_)))), (b5, .inl (D.2 1, 1024, .inl (fun x_ => iI (dp2_1 x_)))), (b6, .inl (D.2 1, 1024, .inl (fun x_ => iI (pt x_))))] H := hP
  have hD : va_D A [(o, .inr (0, [.int (iI 0), .ref b1, .ref b2, .ref b3, .ref b4, .ref b5, .ref b6, .int (iI (w : Int)), .int (iI (g : Int))])), (b1, .inl (D.2 0, 1024, .inl (fun x_ => zI (ik x_)))), (b2, .inl (D.2 0, 1024, .inl (fun x_ => zI (st x_)))), (b3, .inl (D.2 0, 1024, .inl (fun x_ => zI (kp x_)))), (b4, .inl (D.2 0, 1024, .inl (fun x_ => zI (go x_)))), (b5, .inl (D.2 1, 1024, .inl (fun x_ => iI (dp2_1 x_)))), (b6, .inl (D.2 1, 1024, .inl (fun x_ => iI (pt x_))))] := hD
  refine W.eq (g2 := F0 m0 10 ls []) rfl ?_
  refine lv_iconst (v := iI 0) kx kb dX3_depthSum_10 rfl ?_
  refine lv_istore_n (lv' := [(2, .int (iI 0)), (0, .ref o), (1, .int (zI ch))]) kx kb dX3_depthSum_11 rfl hl (by decide) rfl (fun ls hl => ?_)
  refine lv_iconst (v := iI 0) kx kb dX3_depthSum_12 rfl ?_
  refine lv_istore_n (lv' := [(3, .int (iI 0)), (2, .int (iI 0)), (0, .ref o), (1, .int (zI ch))]) kx kb dX3_depthSum_13 rfl hl (by decide) rfl (fun ls hl => ?_)
  have cut14 : ∀ (fuel : Nat) (i : Nat) (n : Int), (i ≤ w * g) → (n = fb_si (depF w g ik ch) i) → (w * g - i) < fuel → ∀ ls : Array Slot, lv_has ls 4 [(3, .int (iI (i : Int))), (2, .int (iI n)), (0, .ref o), (1, .int (zI ch))] → W p0 l e0 ({ frames := 3, cells := 0, slots := 0, locals := 70 } : Room) s0 m0 args below meth c0 H locs (0) (0) Q (F0 m0 14 ls []) := by
    intro fuel
    induction fuel with
    | zero =>
      intro i n hi hn hfuel14
      exact absurd hfuel14 (Nat.not_lt_zero _)
    | succ fuel ih14 =>
      intro i n hi hn hfuel14  ls hl
      refine lv_iload_n kx kb dX3_depthSum_14 rfl (lv_at hl 0 rfl) ?_
      refine lv_aload_n kx kb dX3_depthSum_15 rfl (lv_at hl 2 rfl) ?_
      refine t_callRV C (met_X3_cells l D E o b1 b2 b3 b4 b5 b6 0 w g ik st kp go dp2_1 pt (by first | assumption | omega) (by first | assumption | omega)) (cwV 0 hts (lw_V q1467 q1469 qs33 q62 q1470) rfl rfl rfl (by decide +kernel) ⟨Nat.le_of_ble_eq_true rfl, Nat.le_of_ble_eq_true rfl⟩) (va_recv hK hP (ci := 0) (q0 := 0) rfl rfl) hK hX hP hD hS hA [0, 1, 2, 3, 4, 5, 6] rfl (by decide) tYb_0 (fun _ _ _ => trivial) rfl hl.1 rfl (Nat.le_of_ble_eq_true rfl) dX3_depthSum_16 ⟨(show 0 ≤ 0 from by omega), (show 0 ≤ 0 from by omega)⟩ ?_
      refine W.eq (g2 := F0 m0 19 ls [.int (iI ((w * g : Nat) : Int)), .int (iI (i : Int))]) rfl ?_
      refine ti_icmp_ge (tgt := 37) kx kb (by omega) dX3_depthSum_19 (by decide) (fun h19 => ?_) (fun h19 => ?_)
      · refine lv_iload_n kx kb dX3_depthSum_37 rfl (lv_at hl 1 rfl) ?_
        subst hQ
        exact tm_iret C dp2_1 trivial hP hD hS (show 0 ≤ 0 from by omega) (show 0 ≤ 0 from by omega) (by rw [hn, show i = w * g from by omega]) rfl dX3_depthSum_38
      · refine lv_iload_n kx kb dX3_depthSum_22 rfl (lv_at hl 1 rfl) ?_
        refine lv_aload_n kx kb dX3_depthSum_23 rfl (lv_at hl 2 rfl) ?_
        refine va_get (D := D.1) (ci := 0) (v := .ref b5) (C := RX3) (T := TX3) (N := 9) kx kb hts in_X3 hown hK hP 0 rfl rfl 5 (by decide) (hts _ q1375) (fun _ h9 => h9) rfl dX3_depthSum_24 ?_
        refine lv_iload_n kx kb dX3_depthSum_27 rfl (lv_at hl 0 rfl) ?_
        refine ta_iald C hK hP 5 rfl i (by omega) dX3_depthSum_28 ?_
        refine ti_iadd kx kb dX3_depthSum_29 ?_
        refine lv_istore_n (lv' := [(2, .int (iI (n + (dp2_1 i)))), (3, .int (iI (i : Int))), (0, .ref o), (1, .int (zI ch))]) kx kb dX3_depthSum_30 rfl hl (by decide) rfl (fun ls hl => ?_)
        refine ti_iinc (a := (i : Int)) (lv' := [(3, .int (iI ((i : Int) + 1))), (2, .int (iI (n + (dp2_1 i)))), (0, .ref o), (1, .int (zI ch))]) kx kb dX3_depthSum_31 hl (k := 1) rfl (by decide) rfl (fun ls hl => ?_)
        refine lv_goto (tgt := 14) kx kb dX3_depthSum_34 (by decide) ?_
        exact ih14 (i + 1) (n + (dp2_1 i)) (by omega) (by simp only [fb_si]; rw [hn, isDep_F hc7_1 i (by omega)]) (by omega) ls hl
  exact cut14 ((w * g - 0) + 1) 0 0 (by omega) (by rfl) (Nat.lt_succ_self _) ls hl
set_option maxHeartbeats 4000000 in
set_option maxRecDepth 100000 in
theorem met_X3_looked (l : Launch) (D : TG) (E : TE) (o : Nat) (b1 : Nat) (b2 : Nat) (b3 : Nat) (b4 : Nat) (b5 : Nat) (b6 : Nat) (thr : Int) (w : Nat) (g : Nat) (ik : Nat → Bool) (st : Nat → Bool) (kp : Nat → Bool) (go : Nat → Bool) (dp : Nat → Int) (pt : Nat → Int) (c : Nat) (ch : Bool) (hw : 1 ≤ w ∧ w ≤ 32) (hg : 1 ≤ g ∧ g ≤ 32) (hc : c < w * g) : tRd l yX3_looked cX3_looked 8 (some .int) 3 66 [.ref o, .int (iI (c : Int)), .int (zI ch)] D E [(o, .inr (0, [.int (iI thr), .ref b1, .ref b2, .ref b3, .ref b4, .ref b5, .ref b6, .int (iI (w : Int)), .int (iI (g : Int))])), (b1, .inl (D.2 0, 1024, .inl (fun x_ => zI (ik x_)))), (b2, .inl (D.2 0, 1024, .inl (fun x_ => zI (st x_)))), (b3, .inl (D.2 0, 1024, .inl (fun x_ => zI (kp x_)))), (b4, .inl (D.2 0, 1024, .inl (fun x_ => zI (go x_)))), (b5, .inl (D.2 1, 1024, .inl (fun x_ => iI (dp x_)))), (b6, .inl (D.2 1, 1024, .inl (fun x_ => iI (pt x_))))] tY0 (some (.int (iI (lkd w g ik ch c)))) := by
  refine tu_rd (by decide +kernel) (Nat.le_of_ble_eq_true rfl) ?_
  intro p0 e0 s0 m0 below meth c0 A ls args Q hag hQ C hK hX hY hP hD hA hAe hl
  obtain ⟨kx, kb, hml, hown, hts, -⟩ := id C
  have hS : va_S A s0.heap s0.heap [] := va_S.rf
  have hl : lv_has ls 8 [(0, .ref o), (1, .int (iI (c : Int))), (2, .int (zI ch))] := hl
  have hwg := wg_le hw hg
  have hm := md_rng c w hw.1
  refine lv_sipush (v := iI 1024) kx kb dX3_looked_0 rfl ?_
  refine lv_istore_n (lv' := [(3, .int (iI 1024)), (0, .ref o), (1, .int (iI (c : Int))), (2, .int (zI ch))]) kx kb dX3_looked_3 rfl hl (by decide) rfl (fun ls hl => ?_)
  refine lv_iconst (v := iI (-1)) kx kb dX3_looked_4 rfl ?_
  refine lv_istore (lv' := [(4, .int (iI (-1))), (3, .int (iI 1024)), (0, .ref o), (1, .int (iI (c : Int))), (2, .int (zI ch))]) kx kb dX3_looked_5 hl (by decide) rfl (fun ls hl => ?_)
  have cut7 : ∀ (fuel : Nat) (y : Int) (n : Int) (p : Nat), (p ≤ g + 2 ∧ y = (p : Int) - 1) → (n = lkA w g ik ((c : Int) % (w : Int)) ((c : Int) / (w : Int)) ch p 1024) → (g + 2 - p) < fuel → ∀ ls : Array Slot, lv_has ls 8 [(4, .int (iI y)), (3, .int (iI n)), (0, .ref o), (1, .int (iI (c : Int))), (2, .int (zI ch))] → W p0 l e0 ({ frames := 3, cells := 0, slots := 0, locals := 66 } : Room) s0 m0 args below meth c0 s0.heap [] (0) (0) Q (F0 m0 7 ls []) := by
    intro fuel
    induction fuel with
    | zero =>
      intro y n p hp hn hfuel7
      exact absurd hfuel7 (Nat.not_lt_zero _)
    | succ fuel ih7 =>
      intro y n p hp hn hfuel7  ls hl
      have hnr := lkA_rng w g ik ((c : Int) % (w : Int)) ((c : Int) / (w : Int)) ch p 1024 (by decide)
      refine lv_iload kx kb dX3_looked_7 (lv_at hl 0 rfl) ?_
      refine lv_aload_n kx kb dX3_looked_9 rfl (lv_at hl 2 rfl) ?_
      refine va_get (D := D.1) (ci := 0) (v := .int (iI (g : Int))) (C := RX3) (T := TX3) (N := 9) kx kb hts in_X3 hown hK hP 0 rfl rfl 8 (by decide) (hts _ q1378) (fun _ h9 => h9) rfl dX3_looked_10 ?_
      refine ti_icmp_gt (tgt := 106) kx kb (by omega) dX3_looked_13 (by decide) (fun h13 => ?_) (fun h13 => ?_)
      · refine lv_iload_n kx kb dX3_looked_106 rfl (lv_at hl 1 rfl) ?_
        subst hQ
        exact tr_iret C rfl (by rw [hn, show p = g + 2 from by omega]; rfl) dX3_looked_107
      · refine lv_iconst (v := iI (-1)) kx kb dX3_looked_16 rfl ?_
        refine lv_istore (lv' := [(5, .int (iI (-1))), (4, .int (iI y)), (3, .int (iI n)), (0, .ref o), (1, .int (iI (c : Int))), (2, .int (zI ch))]) kx kb dX3_looked_17 hl (by decide) rfl (fun ls hl => ?_)
        have cut19 : ∀ (fuel : Nat) (x : Int) (n2 : Int) (q : Nat), (q ≤ w + 2 ∧ x = (q : Int) - 1) → (n2 = lkR w g ik ((c : Int) % (w : Int)) ((c : Int) / (w : Int)) ch y q n) → (w + 2 - q) < fuel → ∀ ls : Array Slot, lv_has ls 8 [(5, .int (iI x)), (4, .int (iI y)), (3, .int (iI n2)), (0, .ref o), (1, .int (iI (c : Int))), (2, .int (zI ch))] → W p0 l e0 ({ frames := 3, cells := 0, slots := 0, locals := 66 } : Room) s0 m0 args below meth c0 s0.heap [] (0) (0) Q (F0 m0 19 ls []) := by
          intro fuel
          induction fuel with
          | zero =>
            intro x n2 q hq hn2 hfuel19
            exact absurd hfuel19 (Nat.not_lt_zero _)
          | succ fuel ih19 =>
            intro x n2 q hq hn2 hfuel19  ls hl
            have hnr2 := lkR_rng w g ik ((c : Int) % (w : Int)) ((c : Int) / (w : Int)) ch y q n (by omega)
            refine lv_iload kx kb dX3_looked_19 (lv_at hl 0 rfl) ?_
            refine lv_aload_n kx kb dX3_looked_21 rfl (lv_at hl 3 rfl) ?_
            refine va_get (D := D.1) (ci := 0) (v := .int (iI (w : Int))) (C := RX3) (T := TX3) (N := 9) kx kb hts in_X3 hown hK hP 0 rfl rfl 7 (by decide) (hts _ q1377) (fun _ h9 => h9) rfl dX3_looked_22 ?_
            refine ti_icmp_gt (tgt := 100) kx kb (by omega) dX3_looked_25 (by decide) (fun h25 => ?_) (fun h25 => ?_)
            · refine ti_iinc (a := y) (lv' := [(4, .int (iI (y + 1))), (5, .int (iI x)), (3, .int (iI n2)), (0, .ref o), (1, .int (iI (c : Int))), (2, .int (zI ch))]) kx kb dX3_looked_100 hl (k := 1) rfl (by decide) rfl (fun ls hl => ?_)
              refine lv_goto (tgt := 7) kx kb dX3_looked_103 (by decide) ?_
              exact ih7 (y + 1) n2 (p + 1) (by omega) (by simp only [lkA]; rw [← hn, ← hp.2, ← show q = w + 2 from by omega]; exact hn2) (by omega) ls (lv_sub hl [0, 2, 3, 4, 5] rfl)
            · refine lv_aload_n kx kb dX3_looked_28 rfl (lv_at hl 3 rfl) ?_
              refine lv_iload kx kb dX3_looked_29 (lv_at hl 0 rfl) ?_
              refine lv_iload kx kb dX3_looked_31 (lv_at hl 1 rfl) ?_
              refine t_callRV C (met_X3_isInk l D E o b1 b2 b3 b4 b5 b6 thr w g ik st kp go dp pt x y (by first | assumption | omega) (by first | assumption | omega) (by first | assumption | omega) (by first | assumption | omega)) (cwV 2 hts (lw_V q1459 q1461 qs31 q62 q1462) rfl rfl rfl (by decide +kernel) ⟨Nat.le_of_ble_eq_true rfl, Nat.le_of_ble_eq_true rfl⟩) (va_recv hK hP (ci := 0) (q0 := 0) rfl rfl) hK hX hP hD hS hA [0, 1, 2, 3, 4, 5, 6] rfl (by decide) tYb_0 (fun _ _ _ => trivial) rfl hl.1 rfl (Nat.le_of_ble_eq_true rfl) dX3_looked_33 ⟨(show 0 ≤ 0 from by omega), (show 0 ≤ 0 from by omega)⟩ ?_
              refine W.eq (g2 := F0 m0 36 ls [.int (zI (isK w g ik x y))]) rfl ?_
              refine tz_if_eq (tgt := 42) kx kb dX3_looked_36 (by decide) (fun h36 => ?_) (fun h36 => ?_)
              · refine lv_iload kx kb dX3_looked_42 (lv_at hl 0 rfl) ?_
                refine lv_iload_n kx kb dX3_looked_44 rfl (lv_at hl 4 rfl) ?_
                refine lv_aload_n kx kb dX3_looked_45 rfl (lv_at hl 3 rfl) ?_
                refine va_get (D := D.1) (ci := 0) (v := .int (iI (w : Int))) (C := RX3) (T := TX3) (N := 9) kx kb hts in_X3 hown hK hP 0 rfl rfl 7 (by decide) (hts _ q1377) (fun _ h9 => h9) rfl dX3_looked_46 ?_
                refine ti_irem kx kb (by omega) dX3_looked_49 ?_
                refine ti_isub kx kb dX3_looked_50 ?_
                refine ti_mabs kx kb (hml.trans hl.1.symm) hown (hts _ q1441) (hts _ q996) (hts _ q74) (hts _ q997) (Nat.le_of_ble_eq_true rfl) (Nat.le_of_ble_eq_true rfl) (show 0 ≤ 0 from by omega) (show 0 ≤ 0 from by omega) (by omega) dX3_looked_51 ?_
                refine lv_istore (lv' := [(6, .int (iI (tabs (x - ((c : Int) % (w : Int)))))), (5, .int (iI x)), (4, .int (iI y)), (3, .int (iI n2)), (0, .ref o), (1, .int (iI (c : Int))), (2, .int (zI ch))]) kx kb dX3_looked_54 hl (by decide) rfl (fun ls hl => ?_)
                refine lv_iload kx kb dX3_looked_56 (lv_at hl 2 rfl) ?_
                refine lv_iload_n kx kb dX3_looked_58 rfl (lv_at hl 5 rfl) ?_
                refine lv_aload_n kx kb dX3_looked_59 rfl (lv_at hl 4 rfl) ?_
                refine va_get (D := D.1) (ci := 0) (v := .int (iI (w : Int))) (C := RX3) (T := TX3) (N := 9) kx kb hts in_X3 hown hK hP 0 rfl rfl 7 (by decide) (hts _ q1377) (fun _ h9 => h9) rfl dX3_looked_60 ?_
                refine ti_idiv kx kb (by omega) dX3_looked_63 ?_
                refine ti_isub kx kb dX3_looked_64 ?_
                refine ti_mabs kx kb (hml.trans hl.1.symm) hown (hts _ q1441) (hts _ q996) (hts _ q74) (hts _ q997) (Nat.le_of_ble_eq_true rfl) (Nat.le_of_ble_eq_true rfl) (show 0 ≤ 0 from by omega) (show 0 ≤ 0 from by omega) (by omega) dX3_looked_65 ?_
                refine lv_istore (lv' := [(7, .int (iI (tabs (y - ((c : Int) / (w : Int)))))), (6, .int (iI (tabs (x - ((c : Int) % (w : Int)))))), (5, .int (iI x)), (4, .int (iI y)), (3, .int (iI n2)), (0, .ref o), (1, .int (iI (c : Int))), (2, .int (zI ch))]) kx kb dX3_looked_68 hl (by decide) rfl (fun ls hl => ?_)
                have ht1 := tabs_nat (x - (c : Int) % (w : Int))
                have ht2 := tabs_nat (y - (c : Int) / (w : Int))
                refine lv_iload_n kx kb dX3_looked_70 rfl (lv_at hl 4 rfl) ?_
                refine lv_iload_n kx kb dX3_looked_71 rfl (lv_at hl 7 rfl) ?_
                refine tz_if_eq (tgt := 85) kx kb dX3_looked_72 (by decide) (fun h72 => ?_) (fun h72 => ?_)
                · refine lv_iload kx kb dX3_looked_85 (lv_at hl 1 rfl) ?_
                  refine lv_iload kx kb dX3_looked_87 (lv_at hl 0 rfl) ?_
                  refine ti_iadd kx kb dX3_looked_89 ?_
                  refine ti_mmin kx kb (hml.trans hl.1.symm) hown (hts _ q1670) (hts _ q290) (hts _ q74) (hts _ q291) (Nat.le_of_ble_eq_true rfl) (Nat.le_of_ble_eq_true rfl) (show 0 ≤ 0 from by omega) (show 0 ≤ 0 from by omega) (by omega) dX3_looked_90 ?_
                  refine lv_istore_n (lv' := [(3, .int (iI (min n2 ((tabs (x - ((c : Int) % (w : Int)))) + (tabs (y - ((c : Int) / (w : Int)))))))), (7, .int (iI (tabs (y - ((c : Int) / (w : Int)))))), (6, .int (iI (tabs (x - ((c : Int) % (w : Int)))))), (5, .int (iI x)), (4, .int (iI y)), (0, .ref o), (1, .int (iI (c : Int))), (2, .int (zI ch))]) kx kb dX3_looked_93 rfl hl (by decide) rfl (fun ls hl => ?_)
                  refine ti_iinc (a := x) (lv' := [(5, .int (iI (x + 1))), (3, .int (iI (min n2 ((tabs (x - ((c : Int) % (w : Int)))) + (tabs (y - ((c : Int) / (w : Int)))))))), (7, .int (iI (tabs (y - ((c : Int) / (w : Int)))))), (6, .int (iI (tabs (x - ((c : Int) % (w : Int)))))), (4, .int (iI y)), (0, .ref o), (1, .int (iI (c : Int))), (2, .int (zI ch))]) kx kb dX3_looked_94 hl (k := 3) rfl (by decide) rfl (fun ls hl => ?_)
                  refine lv_goto (tgt := 19) kx kb dX3_looked_97 (by decide) ?_
                  exact ih19 (x + 1) (min n2 ((tabs (x - ((c : Int) % (w : Int)))) + (tabs (y - ((c : Int) / (w : Int)))))) (q + 1) (by omega) (by simp only [lkR]; rw [← hq.2, ← hn2]; simp [h36, dstC, h72]) (by omega) ls (lv_sub hl [0, 4, 1, 5, 6, 7] rfl)
                · refine lv_iload kx kb dX3_looked_75 (lv_at hl 1 rfl) ?_
                  refine lv_iload kx kb dX3_looked_77 (lv_at hl 0 rfl) ?_
                  refine ti_mmax kx kb (hml.trans hl.1.symm) hown (hts _ q1561) (hts _ q272) (hts _ q74) (hts _ q273) (Nat.le_of_ble_eq_true rfl) (Nat.le_of_ble_eq_true rfl) (show 0 ≤ 0 from by omega) (show 0 ≤ 0 from by omega) (by omega) dX3_looked_79 ?_
                  refine lv_goto (tgt := 90) kx kb dX3_looked_82 (by decide) ?_
                  refine ti_mmin kx kb (hml.trans hl.1.symm) hown (hts _ q1670) (hts _ q290) (hts _ q74) (hts _ q291) (Nat.le_of_ble_eq_true rfl) (Nat.le_of_ble_eq_true rfl) (show 0 ≤ 0 from by omega) (show 0 ≤ 0 from by omega) (by omega) dX3_looked_90 ?_
                  refine lv_istore_n (lv' := [(3, .int (iI (min n2 (max (tabs (x - ((c : Int) % (w : Int)))) (tabs (y - ((c : Int) / (w : Int)))))))), (7, .int (iI (tabs (y - ((c : Int) / (w : Int)))))), (6, .int (iI (tabs (x - ((c : Int) % (w : Int)))))), (5, .int (iI x)), (4, .int (iI y)), (0, .ref o), (1, .int (iI (c : Int))), (2, .int (zI ch))]) kx kb dX3_looked_93 rfl hl (by decide) rfl (fun ls hl => ?_)
                  refine ti_iinc (a := x) (lv' := [(5, .int (iI (x + 1))), (3, .int (iI (min n2 (max (tabs (x - ((c : Int) % (w : Int)))) (tabs (y - ((c : Int) / (w : Int)))))))), (7, .int (iI (tabs (y - ((c : Int) / (w : Int)))))), (6, .int (iI (tabs (x - ((c : Int) % (w : Int)))))), (4, .int (iI y)), (0, .ref o), (1, .int (iI (c : Int))), (2, .int (zI ch))]) kx kb dX3_looked_94 hl (k := 3) rfl (by decide) rfl (fun ls hl => ?_)
                  refine lv_goto (tgt := 19) kx kb dX3_looked_97 (by decide) ?_
                  exact ih19 (x + 1) (min n2 (max (tabs (x - ((c : Int) % (w : Int)))) (tabs (y - ((c : Int) / (w : Int)))))) (q + 1) (by omega) (by simp only [lkR]; rw [← hq.2, ← hn2]; simp [h36, dstC, h72]) (by omega) ls (lv_sub hl [0, 4, 1, 5, 6, 7] rfl)
              · refine lv_goto (tgt := 94) kx kb dX3_looked_39 (by decide) ?_
                refine ti_iinc (a := x) (lv' := [(5, .int (iI (x + 1))), (4, .int (iI y)), (3, .int (iI n2)), (0, .ref o), (1, .int (iI (c : Int))), (2, .int (zI ch))]) kx kb dX3_looked_94 hl (k := 0) rfl (by decide) rfl (fun ls hl => ?_)
                refine lv_goto (tgt := 19) kx kb dX3_looked_97 (by decide) ?_
                exact ih19 (x + 1) n2 (q + 1) (by omega) (by simp only [lkR]; rw [← hq.2, ← hn2]; simp [h36, dstC]) (by omega) ls hl
        exact cut19 ((w + 2 - 0) + 1) (-1) n 0 (by omega) (by rfl) (Nat.lt_succ_self _) ls hl
  exact cut7 ((g + 2 - 0) + 1) (-1) 1024 0 (by omega) (by rfl) (Nat.lt_succ_self _) ls hl
