set_option maxRecDepth 100000
set_option maxHeartbeats 4000000 in
set_option maxRecDepth 100000 in
theorem met_X3_spreads (l : Launch) (D : TG) (E : TE) (o : Nat) (b1 : Nat) (b2 : Nat) (b3 : Nat) (b4 : Nat) (b5 : Nat) (b6 : Nat) (thr : Int) (w : Nat) (g : Nat) (ik : Nat → Bool) (st : Nat → Bool) (kp : Nat → Bool) (go : Nat → Bool) (dp : Nat → Int) (pt : Nat → Int) (b : Bool) (hw : 1 ≤ w ∧ w ≤ 32) (hg : 1 ≤ g ∧ g ≤ 32) : tMet l yX3_spreads cX3_spreads 8 none 2 44 (0) (0) [.ref o, .int (zI b)] D E [(o, .inr (0, [.int (iI thr), .ref b1, .ref b2, .ref b3, .ref b4, .ref b5, .ref b6, .int (iI (w : Int)), .int (iI (g : Int))])), (b1, .inl (D.2 0, 1024, .inl (fun x_ => zI (ik x_)))), (b2, .inl (D.2 0, 1024, .inl (fun x_ => zI (st x_)))), (b3, .inl (D.2 0, 1024, .inl (fun x_ => zI (kp x_)))), (b4, .inl (D.2 0, 1024, .inl (fun x_ => zI (go x_)))), (b5, .inl (D.2 1, 1024, .inl (fun x_ => iI (dp x_)))), (b6, .inl (D.2 1, 1024, .inl (fun x_ => iI (pt x_))))] tY0 (S := (Nat → Int)) (fun u_ => ∀ j_, j_ < w * g → u_ j_ = lbI w g ik b j_) (fun u_ => none) (fun u_ => [(o, .inr (0, [.int (iI thr), .ref b1, .ref b2, .ref b3, .ref b4, .ref b5, .ref b6, .int (iI (w : Int)), .int (iI (g : Int))])), (b1, .inl (D.2 0, 1024, .inl (fun x_ => zI (ik x_)))), (b2, .inl (D.2 0, 1024, .inl (fun x_ => zI (st x_)))), (b3, .inl (D.2 0, 1024, .inl (fun x_ => zI (kp x_)))), (b4, .inl (D.2 0, 1024, .inl (fun x_ => zI (go x_)))), (b5, .inl (D.2 1, 1024, .inl (fun x_ => iI (dp x_)))), (b6, .inl (D.2 1, 1024, .inl (fun x_ => iI (u_ x_))))]) := by
  refine tu_met (by decide +kernel) (Nat.le_of_ble_eq_true rfl) ?_
  intro p0 e0 s0 m0 below meth c0 A ls args Q hag hQ C hK hX hY hP hD hA hAe hl
  obtain ⟨kx, kb, hml, hown, hts, -⟩ := id C
  have hS : va_S A s0.heap s0.heap [] := va_S.rf
  have hl : lv_has ls 8 [(0, .ref o), (1, .int (zI b))] := hl
  have hwg := wg_le hw hg
  refine lv_iconst (v := iI 0) kx kb dX3_spreads_0 rfl ?_
  refine lv_istore_n (lv' := [(2, .int (iI 0)), (0, .ref o), (1, .int (zI b))]) kx kb dX3_spreads_1 rfl hl (by decide) rfl (fun ls hl => ?_)
  have cut2 : ∀ (fuel : Nat) (i : Nat) (p1 : Nat → Int), (i ≤ w * g) → (p1 = flw (fun j => if ik j == b then (j : Int) else -1) pt i) → (w * g - i) < fuel → ∀ (H : Heap) (locs : List Loc), va_P D.1 clAll [(o, .inr (0, [.int (iI thr), .ref b1, .ref b2, .ref b3, .ref b4, .ref b5, .ref b6, .int (iI (w : Int)), .int (iI (g : Int))])), (b1, .inl (D.2 0, 1024, .inl (fun x_ => zI (ik x_)))), (b2, .inl (D.2 0, 1024, .inl (fun x_ => zI (st x_)))), (b3, .inl (D.2 0, 1024, .inl (fun x_ => zI (kp x_)))), (b4, .inl (D.2 0, 1024, .inl (fun x_ => zI (go x_)))), (b5, .inl (D.2 1, 1024, .inl (fun x_ => iI (dp x_)))), (b6, .inl (D.2 1, 1024, .inl (fun x_ => iI (p1 x_))))] H → va_D A [(o, .inr (0, [.int (iI thr), .ref b1, .ref b2, .ref b3, .ref b4, .ref b5, .ref b6, .int (iI (w : Int)), .int (iI (g : Int))])), (b1, .inl (D.2 0, 1024, .inl (fun x_ => zI (ik x_)))), (b2, .inl (D.2 0, 1024, .inl (fun x_ => zI (st x_)))), (b3, .inl (D.2 0, 1024, .inl (fun x_ => zI (kp x_)))), (b4, .inl (D.2 0, 1024, .inl (fun x_ => zI (go x_)))), (b5, .inl (D.2 1, 1024, .inl (fun x_ => iI (dp x_)))), (b6, .inl (D.2 1, 1024, .inl (fun x_ => iI (p1 x_))))] → va_S A s0.heap H locs → ∀ ls : Array Slot, lv_has ls 8 [(2, .int (iI (i : Int))), (0, .ref o), (1, .int (zI b))] → W p0 l e0 ({ frames := 2, cells := 0, slots := 0, locals := 44 } : Room) s0 m0 args below meth c0 H locs (0) (0) Q (F0 m0 2 ls []) := by
    intro fuel
    induction fuel with
    | zero =>
      intro i p1 hi hp1 hfuel2
      exact absurd hfuel2 (Nat.not_lt_zero _)
    | succ fuel ih2 =>
      intro i p1 hi hp1 hfuel2 H locs hP hD hS ls hl
      refine lv_iload_n kx kb dX3_spreads_2 rfl (lv_at hl 0 rfl) ?_
      refine lv_aload_n kx kb dX3_spreads_3 rfl (lv_at hl 1 rfl) ?_
      refine t_callRV C (met_X3_cells l D E o b1 b2 b3 b4 b5 b6 thr w g ik st kp go dp p1 (by first | assumption | omega) (by first | assumption | omega)) (cwV 0 hts (lw_V q1467 q1469 qs33 q62 q1470) rfl rfl rfl (by decide +kernel) ⟨Nat.le_of_ble_eq_true rfl, Nat.le_of_ble_eq_true rfl⟩) (va_recv hK hP (ci := 0) (q0 := 0) rfl rfl) hK hX hP hD hS hA [0, 1, 2, 3, 4, 5, 6] rfl (by decide) tYb_0 (fun _ _ _ => trivial) rfl hl.1 rfl (Nat.le_of_ble_eq_true rfl) dX3_spreads_4 ⟨(show 0 ≤ 0 from by omega), (show 0 ≤ 0 from by omega)⟩ ?_
      refine W.eq (g2 := F0 m0 7 ls [.int (iI ((w * g : Nat) : Int)), .int (iI (i : Int))]) rfl ?_
      refine ti_icmp_ge (tgt := 37) kx kb (by omega) dX3_spreads_7 (by decide) (fun h7 => ?_) (fun h7 => ?_)
      · refine lv_iconst (v := iI 1) kx kb dX3_spreads_37 rfl ?_
        refine lv_istore_n (lv' := [(2, .int (iI 1)), (0, .ref o), (1, .int (zI b))]) kx kb dX3_spreads_38 rfl hl (by decide) rfl (fun ls hl => ?_)
        have cut39 : ∀ (fuel : Nat) (mo : Bool) (p2 : Nat → Int), (Spi w g (fun c => ik c == b) b p2) → (mo = false → Spf w g (fun c => ik c == b) b (w * g) 0 p2) → (if mo then Sps w g p2 + 1 else 0) < fuel → ∀ (H : Heap) (locs : List Loc), va_P D.1 clAll [(o, .inr (0, [.int (iI thr), .ref b1, .ref b2, .ref b3, .ref b4, .ref b5, .ref b6, .int (iI (w : Int)), .int (iI (g : Int))])), (b1, .inl (D.2 0, 1024, .inl (fun x_ => zI (ik x_)))), (b2, .inl (D.2 0, 1024, .inl (fun x_ => zI (st x_)))), (b3, .inl (D.2 0, 1024, .inl (fun x_ => zI (kp x_)))), (b4, .inl (D.2 0, 1024, .inl (fun x_ => zI (go x_)))), (b5, .inl (D.2 1, 1024, .inl (fun x_ => iI (dp x_)))), (b6, .inl (D.2 1, 1024, .inl (fun x_ => iI (p2 x_))))] H → va_D A [(o, .inr (0, [.int (iI thr), .ref b1, .ref b2, .ref b3, .ref b4, .ref b5, .ref b6, .int (iI (w : Int)), .int (iI (g : Int))])), (b1, .inl (D.2 0, 1024, .inl (fun x_ => zI (ik x_)))), (b2, .inl (D.2 0, 1024, .inl (fun x_ => zI (st x_)))), (b3, .inl (D.2 0, 1024, .inl (fun x_ => zI (kp x_)))), (b4, .inl (D.2 0, 1024, .inl (fun x_ => zI (go x_)))), (b5, .inl (D.2 1, 1024, .inl (fun x_ => iI (dp x_)))), (b6, .inl (D.2 1, 1024, .inl (fun x_ => iI (p2 x_))))] → va_S A s0.heap H locs → ∀ ls : Array Slot, lv_has ls 8 [(2, .int (zI mo)), (0, .ref o), (1, .int (zI b))] → W p0 l e0 ({ frames := 2, cells := 0, slots := 0, locals := 44 } : Room) s0 m0 args below meth c0 H locs (0) (0) Q (F0 m0 39 ls []) := by
          intro fuel
          induction fuel with
          | zero =>
            intro mo p2 hI hF hfuel39
            exact absurd hfuel39 (Nat.not_lt_zero _)
          | succ fuel ih39 =>
            intro mo p2 hI hF hfuel39 H locs hP hD hS ls hl
            refine lv_iload_n kx kb dX3_spreads_39 rfl (lv_at hl 0 rfl) ?_
            refine tz_if_eq (tgt := 191) kx kb dX3_spreads_40 (by decide) (fun h40 => ?_) (fun h40 => ?_)
            · subst hQ
              exact tm_vret C p2 (by intro c hc; exact Spi_F hw.1 hI (hF h40) c hc) hP hD hS (show 0 ≤ 0 from by omega) (show 0 ≤ 0 from by omega) rfl rfl dX3_spreads_191
            · refine lv_iconst (v := iI 0) kx kb dX3_spreads_43 rfl ?_
              refine lv_istore_n (lv' := [(2, .int (iI 0)), (0, .ref o), (1, .int (zI b))]) kx kb dX3_spreads_44 rfl hl (by decide) rfl (fun ls hl => ?_)
              refine lv_iconst (v := iI 0) kx kb dX3_spreads_45 rfl ?_
              refine lv_istore_n (lv' := [(3, .int (iI 0)), (2, .int (iI 0)), (0, .ref o), (1, .int (zI b))]) kx kb dX3_spreads_46 rfl hl (by decide) rfl (fun ls hl => ?_)
              have cut47 : ∀ (fuel : Nat) (i : Nat) (mo2 : Bool) (p4 : Nat → Int), (i ≤ w * g) → (Spi w g (fun c => ik c == b) b p4) → (mo2 = false → Spf w g (fun c => ik c == b) b i 0 p4) → (Sps w g p4 ≤ Sps w g p2 ∧ (mo2 = true → Sps w g p4 < Sps w g p2)) → (w * g - i) < fuel → ∀ (H : Heap) (locs : List Loc), va_P D.1 clAll [(o, .inr (0, [.int (iI thr), .ref b1, .ref b2, .ref b3, .ref b4, .ref b5, .ref b6, .int (iI (w : Int)), .int (iI (g : Int))])), (b1, .inl (D.2 0, 1024, .inl (fun x_ => zI (ik x_)))), (b2, .inl (D.2 0, 1024, .inl (fun x_ => zI (st x_)))), (b3, .inl (D.2 0, 1024, .inl (fun x_ => zI (kp x_)))), (b4, .inl (D.2 0, 1024, .inl (fun x_ => zI (go x_)))), (b5, .inl (D.2 1, 1024, .inl (fun x_ => iI (dp x_)))), (b6, .inl (D.2 1, 1024, .inl (fun x_ => iI (p4 x_))))] H → va_D A [(o, .inr (0, [.int (iI thr), .ref b1, .ref b2, .ref b3, .ref b4, .ref b5, .ref b6, .int (iI (w : Int)), .int (iI (g : Int))])), (b1, .inl (D.2 0, 1024, .inl (fun x_ => zI (ik x_)))), (b2, .inl (D.2 0, 1024, .inl (fun x_ => zI (st x_)))), (b3, .inl (D.2 0, 1024, .inl (fun x_ => zI (kp x_)))), (b4, .inl (D.2 0, 1024, .inl (fun x_ => zI (go x_)))), (b5, .inl (D.2 1, 1024, .inl (fun x_ => iI (dp x_)))), (b6, .inl (D.2 1, 1024, .inl (fun x_ => iI (p4 x_))))] → va_S A s0.heap H locs → ∀ ls : Array Slot, lv_has ls 8 [(3, .int (iI (i : Int))), (2, .int (zI mo2)), (0, .ref o), (1, .int (zI b))] → W p0 l e0 ({ frames := 2, cells := 0, slots := 0, locals := 44 } : Room) s0 m0 args below meth c0 H locs (0) (0) Q (F0 m0 47 ls []) := by
                intro fuel
                induction fuel with
                | zero =>
                  intro i mo2 p4 hi hI2 hF2 hU2 hfuel47
                  exact absurd hfuel47 (Nat.not_lt_zero _)
                | succ fuel ih47 =>
                  intro i mo2 p4 hi hI2 hF2 hU2 hfuel47 H locs hP hD hS ls hl
                  refine lv_iload_n kx kb dX3_spreads_47 rfl (lv_at hl 0 rfl) ?_
                  refine lv_aload_n kx kb dX3_spreads_48 rfl (lv_at hl 2 rfl) ?_
                  refine t_callRV C (met_X3_cells l D E o b1 b2 b3 b4 b5 b6 thr w g ik st kp go dp p4 (by first | assumption | omega) (by first | assumption | omega)) (cwV 0 hts (lw_V q1467 q1469 qs33 q62 q1470) rfl rfl rfl (by decide +kernel) ⟨Nat.le_of_ble_eq_true rfl, Nat.le_of_ble_eq_true rfl⟩) (va_recv hK hP (ci := 0) (q0 := 0) rfl rfl) hK hX hP hD hS hA [0, 1, 2, 3, 4, 5, 6] rfl (by decide) tYb_0 (fun _ _ _ => trivial) rfl hl.1 rfl (Nat.le_of_ble_eq_true rfl) dX3_spreads_49 ⟨(show 0 ≤ 0 from by omega), (show 0 ≤ 0 from by omega)⟩ ?_
                  refine W.eq (g2 := F0 m0 52 ls [.int (iI ((w * g : Nat) : Int)), .int (iI (i : Int))]) rfl ?_
                  refine ti_icmp_ge (tgt := 188) kx kb (by omega) dX3_spreads_52 (by decide) (fun h52 => ?_) (fun h52 => ?_)
                  · refine lv_goto (tgt := 39) kx kb dX3_spreads_188 (by decide) ?_
                    exact ih39 mo2 p4 (hI2) (by rw [show w * g = i from by omega]; exact hF2) (by rw [if_pos h40] at hfuel39; have a1 := hU2.1; have a2 := hU2.2; split; (rename_i q; have := a2 q; omega); omega) H locs hP hD hS ls (lv_sub hl [1, 2, 3] rfl)
                  · refine lv_iconst (v := iI 0) kx kb dX3_spreads_55 rfl ?_
                    refine lv_istore (lv' := [(4, .int (iI 0)), (3, .int (iI (i : Int))), (2, .int (zI mo2)), (0, .ref o), (1, .int (zI b))]) kx kb dX3_spreads_56 hl (by decide) rfl (fun ls hl => ?_)
                    have cut58 : ∀ (fuel : Nat) (k : Int) (mo3 : Bool) (p3 : Nat → Int), (0 ≤ k ∧ k ≤ 8) → (b = true ∨ k % 2 = 0) → (Spi w g (fun c => ik c == b) b p3) → (mo3 = false → Spf w g (fun c => ik c == b) b i k p3) → (Sps w g p3 ≤ Sps w g p2 ∧ (mo3 = true → Sps w g p3 < Sps w g p2)) → (((8 : Int) - k).toNat) < fuel → ∀ (H : Heap) (locs : List Loc), va_P D.1 clAll [(o, .inr (0, [.int (iI thr), .ref b1, .ref b2, .ref b3, .ref b4, .ref b5, .ref b6, .int (iI (w : Int)), .int (iI (g : Int))])), (b1, .inl (D.2 0, 1024, .inl (fun x_ => zI (ik x_)))), (b2, .inl (D.2 0, 1024, .inl (fun x_ => zI (st x_)))), (b3, .inl (D.2 0, 1024, .inl (fun x_ => zI (kp x_)))), (b4, .inl (D.2 0, 1024, .inl (fun x_ => zI (go x_)))), (b5, .inl (D.2 1, 1024, .inl (fun x_ => iI (dp x_)))), (b6, .inl (D.2 1, 1024, .inl (fun x_ => iI (p3 x_))))] H → va_D A [(o, .inr (0, [.int (iI thr), .ref b1, .ref b2, .ref b3, .ref b4, .ref b5, .ref b6, .int (iI (w : Int)), .int (iI (g : Int))])), (b1, .inl (D.2 0, 1024, .inl (fun x_ => zI (ik x_)))), (b2, .inl (D.2 0, 1024, .inl (fun x_ => zI (st x_)))), (b3, .inl (D.2 0, 1024, .inl (fun x_ => zI (kp x_)))), (b4, .inl (D.2 0, 1024, .inl (fun x_ => zI (go x_)))), (b5, .inl (D.2 1, 1024, .inl (fun x_ => iI (dp x_)))), (b6, .inl (D.2 1, 1024, .inl (fun x_ => iI (p3 x_))))] → va_S A s0.heap H locs → ∀ ls : Array Slot, lv_has ls 8 [(4, .int (iI k)), (3, .int (iI (i : Int))), (2, .int (zI mo3)), (0, .ref o), (1, .int (zI b))] → W p0 l e0 ({ frames := 2, cells := 0, slots := 0, locals := 44 } : Room) s0 m0 args below meth c0 H locs (0) (0) Q (F0 m0 58 ls []) := by
                      intro fuel
                      induction fuel with
                      | zero =>
                        intro k mo3 p3 hk hke hI3 hF3 hU3 hfuel58
                        exact absurd hfuel58 (Nat.not_lt_zero _)
                      | succ fuel ih58 =>
                        intro k mo3 p3 hk hke hI3 hF3 hU3 hfuel58 H locs hP hD hS ls hl
                        have hi2 : i < w * g := by omega
                        have hm := md_rng i w hw.1
                        have hsx := sX_rng k
                        have hsy := sY_rng k
                        have hr3 := fun c hc => Spi_rng hI3 c hc
                        have hri := hr3 i hi2
                        refine lv_aload_n kx kb dX3_spreads_58 rfl (lv_at hl 3 rfl) ?_
                        refine va_get (D := D.1) (ci := 0) (v := .ref b6) (C := RX3) (T := TX3) (N := 9) kx kb hts in_X3 hown hK hP 0 rfl rfl 6 (by decide) (hts _ q1376) (fun _ h9 => h9) rfl dX3_spreads_59 ?_
                        refine lv_iload_n kx kb dX3_spreads_62 rfl (lv_at hl 1 rfl) ?_
                        refine ta_iald C hK hP 6 rfl i (by omega) dX3_spreads_63 ?_
                        refine lv_iconst (v := iI (-1)) kx kb dX3_spreads_64 rfl ?_
                        refine ti_icmp_eq (tgt := 182) kx kb (by omega) dX3_spreads_65 (by decide) (fun h65 => ?_) (fun h65 => ?_)
                        · have hki0 : (fun c => ik c == b) i = false := by cases hz : (fun c => ik c == b) i; rfl; exact absurd h65 ((Spi_rng hI3 i hi2).2.2.mp hz)
                          refine ti_iinc (a := (i : Int)) (lv' := [(3, .int (iI ((i : Int) + 1))), (4, .int (iI k)), (2, .int (zI mo3)), (0, .ref o), (1, .int (zI b))]) kx kb dX3_spreads_182 hl (k := 1) rfl (by decide) rfl (fun ls hl => ?_)
                          refine lv_goto (tgt := 47) kx kb dX3_spreads_185 (by decide) ?_
                          exact ih47 (i + 1) mo3 p3 (by omega) (hI3) (fun q => Spf_skip (hF3 q) hki0) (hU3) (by omega) H locs hP hD hS ls (lv_sub hl [0, 2, 3, 4] rfl)
                        · refine lv_iload kx kb dX3_spreads_68 (lv_at hl 0 rfl) ?_
                          refine lv_bipush (v := iI 8) kx kb dX3_spreads_70 rfl ?_
                          refine ti_icmp_ge (tgt := 182) kx kb (by omega) dX3_spreads_72 (by decide) (fun h72 => ?_) (fun h72 => ?_)
                          · refine ti_iinc (a := (i : Int)) (lv' := [(3, .int (iI ((i : Int) + 1))), (4, .int (iI k)), (2, .int (zI mo3)), (0, .ref o), (1, .int (zI b))]) kx kb dX3_spreads_182 hl (k := 1) rfl (by decide) rfl (fun ls hl => ?_)
                            refine lv_goto (tgt := 47) kx kb dX3_spreads_185 (by decide) ?_
                            exact ih47 (i + 1) mo3 p3 (by omega) (hI3) (fun q => Spf_i (by rw [← show k = 8 from by omega]; exact hF3 q)) (hU3) (by omega) H locs hP hD hS ls (lv_sub hl [0, 2, 3, 4] rfl)
                          · refine lv_iload_n kx kb dX3_spreads_75 rfl (lv_at hl 1 rfl) ?_
                            refine lv_aload_n kx kb dX3_spreads_76 rfl (lv_at hl 3 rfl) ?_
                            refine va_get (D := D.1) (ci := 0) (v := .int (iI (w : Int))) (C := RX3) (T := TX3) (N := 9) kx kb hts in_X3 hown hK hP 0 rfl rfl 7 (by decide) (hts _ q1377) (fun _ h9 => h9) rfl dX3_spreads_77 ?_
                            refine ti_irem kx kb (by omega) dX3_spreads_80 ?_
                            refine lv_iload kx kb dX3_spreads_81 (lv_at hl 0 rfl) ?_
                            refine t_callRS C (met_X3_stepX l D E k (by first | assumption | omega)) (va_cwS 1 hts (lw_S q1471 q1472 q62 q1473) rfl rfl rfl (by decide +kernel) ⟨Nat.le_of_ble_eq_true rfl, Nat.le_of_ble_eq_true rfl⟩) hK hX hP hD hS hA [] rfl (by decide) tYb_0 (fun _ _ _ => trivial) rfl hl.1 rfl (Nat.le_of_ble_eq_true rfl) dX3_spreads_83 ⟨(show 0 ≤ 0 from by omega), (show 0 ≤ 0 from by omega)⟩ ?_
                            refine W.eq (g2 := F0 m0 86 ls [.int (iI (sX k)), .int (iI ((i : Int) % (w : Int)))]) rfl ?_
                            refine ti_iadd kx kb dX3_spreads_86 ?_
                            refine lv_istore (lv' := [(5, .int (iI (((i : Int) % (w : Int)) + (sX k)))), (4, .int (iI k)), (3, .int (iI (i : Int))), (2, .int (zI mo3)), (0, .ref o), (1, .int (zI b))]) kx kb dX3_spreads_87 hl (by decide) rfl (fun ls hl => ?_)
                            refine lv_iload_n kx kb dX3_spreads_89 rfl (lv_at hl 2 rfl) ?_
                            refine lv_aload_n kx kb dX3_spreads_90 rfl (lv_at hl 4 rfl) ?_
                            refine va_get (D := D.1) (ci := 0) (v := .int (iI (w : Int))) (C := RX3) (T := TX3) (N := 9) kx kb hts in_X3 hown hK hP 0 rfl rfl 7 (by decide) (hts _ q1377) (fun _ h9 => h9) rfl dX3_spreads_91 ?_
                            refine ti_idiv kx kb (by omega) dX3_spreads_94 ?_
                            refine lv_iload kx kb dX3_spreads_95 (lv_at hl 1 rfl) ?_
                            refine t_callRS C (met_X3_stepY l D E k (by first | assumption | omega)) (va_cwS 1 hts (lw_S q1474 q1475 q62 q1476) rfl rfl rfl (by decide +kernel) ⟨Nat.le_of_ble_eq_true rfl, Nat.le_of_ble_eq_true rfl⟩) hK hX hP hD hS hA [] rfl (by decide) tYb_0 (fun _ _ _ => trivial) rfl hl.1 rfl (Nat.le_of_ble_eq_true rfl) dX3_spreads_97 ⟨(show 0 ≤ 0 from by omega), (show 0 ≤ 0 from by omega)⟩ ?_
                            refine W.eq (g2 := F0 m0 100 ls [.int (iI (sY k)), .int (iI ((i : Int) / (w : Int)))]) rfl ?_
                            refine ti_iadd kx kb dX3_spreads_100 ?_
                            refine lv_istore (lv' := [(6, .int (iI (((i : Int) / (w : Int)) + (sY k)))), (5, .int (iI (((i : Int) % (w : Int)) + (sX k)))), (4, .int (iI k)), (3, .int (iI (i : Int))), (2, .int (zI mo3)), (0, .ref o), (1, .int (zI b))]) kx kb dX3_spreads_101 hl (by decide) rfl (fun ls hl => ?_)
                            refine lv_aload_n kx kb dX3_spreads_103 rfl (lv_at hl 5 rfl) ?_
                            refine lv_iload kx kb dX3_spreads_104 (lv_at hl 1 rfl) ?_
                            refine lv_iload kx kb dX3_spreads_106 (lv_at hl 0 rfl) ?_
                            refine t_callRV C (met_X3_isBoard l D E o b1 b2 b3 b4 b5 b6 thr w g ik st kp go dp p3 (((i : Int) % (w : Int)) + (sX k)) (((i : Int) / (w : Int)) + (sY k)) (by first | assumption | omega) (by first | assumption | omega) (by first | assumption | omega) (by first | assumption | omega)) (cwV 2 hts (lw_V q1422 q1424 qs26 q62 q1425) rfl rfl rfl (by decide +kernel) ⟨Nat.le_of_ble_eq_true rfl, Nat.le_of_ble_eq_true rfl⟩) (va_recv hK hP (ci := 0) (q0 := 0) rfl rfl) hK hX hP hD hS hA [0, 1, 2, 3, 4, 5, 6] rfl (by decide) tYb_0 (fun _ _ _ => trivial) rfl hl.1 rfl (Nat.le_of_ble_eq_true rfl) dX3_spreads_108 ⟨(show 0 ≤ 0 from by omega), (show 0 ≤ 0 from by omega)⟩ ?_
                            refine W.eq (g2 := F0 m0 111 ls [.int (zI (isBd w g (((i : Int) % (w : Int)) + (sX k)) (((i : Int) / (w : Int)) + (sY k))))]) rfl ?_
                            refine tz_if_eq (tgt := 132) kx kb dX3_spreads_111 (by decide) (fun h111 => ?_) (fun h111 => ?_)
                            · simp only [isBd_t, isBd_f] at h111
                              refine lv_iconst (v := iI (-1)) kx kb dX3_spreads_132 rfl ?_
                              refine lv_istore (lv' := [(7, .int (iI (-1))), (6, .int (iI (((i : Int) / (w : Int)) + (sY k)))), (5, .int (iI (((i : Int) % (w : Int)) + (sX k)))), (4, .int (iI k)), (3, .int (iI (i : Int))), (2, .int (zI mo3)), (0, .ref o), (1, .int (zI b))]) kx kb dX3_spreads_133 hl (by decide) rfl (fun ls hl => ?_)
                              refine lv_iload kx kb dX3_spreads_135 (lv_at hl 0 rfl) ?_
                              refine lv_iconst (v := iI (-1)) kx kb dX3_spreads_137 rfl ?_
                              refine ti_icmp_eq (tgt := 165) kx kb (by omega) dX3_spreads_138 (by decide) (fun h138 => ?_) (fun h138 => ?_)
                              · have hb0 : nbB w g i k = false := (isBd_f _ _ _ _).mpr h111
                                have hF4 : mo3 = false → Spf w g (fun c => ik c == b) b i (k + 1) p3 := fun q => Spf_on (hF3 q) (fun z => by rw [hb0] at z; cases z)
                                have hI4 := hI3
                                have hU4 := hU3
                                refine lv_iload kx kb dX3_spreads_165 (lv_at hl 3 rfl) ?_
                                refine lv_iload_n kx kb dX3_spreads_167 rfl (lv_at hl 7 rfl) ?_
                                refine tz_if_eq (tgt := 175) kx kb dX3_spreads_168 (by decide) (fun h168 => ?_) (fun h168 => ?_)
                                · have hev : k % 2 = 0 := by rcases hke with q | q; (rw [h168] at q; cases q); exact q
                                  have hk8 : 0 ≤ k + 2 ∧ k + 2 ≤ 8 := by omega
                                  have hke2 : b = true ∨ (k + 2) % 2 = 0 := Or.inr (by omega)
                                  have hF5 : mo3 = false → Spf w g (fun c => ik c == b) b i (k + 2) (p3) := fun q => by have z := hF4 q; revert z; rw [h168]; exact fun z => Spf_2 hev z
                                  refine lv_iconst (v := iI 2) kx kb dX3_spreads_175 rfl ?_
                                  refine ti_iadd kx kb dX3_spreads_176 ?_
                                  refine lv_istore (lv' := [(4, .int (iI (k + 2))), (7, .int (iI (-1))), (6, .int (iI (((i : Int) / (w : Int)) + (sY k)))), (5, .int (iI (((i : Int) % (w : Int)) + (sX k)))), (3, .int (iI (i : Int))), (2, .int (zI mo3)), (0, .ref o), (1, .int (zI b))]) kx kb dX3_spreads_177 hl (by decide) rfl (fun ls hl => ?_)
                                  refine lv_goto (tgt := 58) kx kb dX3_spreads_179 (by decide) ?_
                                  exact ih58 (k + 2) mo3 p3 (hk8) (hke2) (hI4) (hF5) (hU4) (by omega) H locs hP hD hS ls (lv_sub hl [0, 4, 5, 6, 7] rfl)
                                · have hk8 : 0 ≤ k + 1 ∧ k + 1 ≤ 8 := by omega
                                  have hke2 : b = true ∨ (k + 1) % 2 = 0 := Or.inl h168
                                  have hF5 := hF4
                                  refine lv_iconst (v := iI 1) kx kb dX3_spreads_171 rfl ?_
                                  refine lv_goto (tgt := 176) kx kb dX3_spreads_172 (by decide) ?_
                                  refine ti_iadd kx kb dX3_spreads_176 ?_
                                  refine lv_istore (lv' := [(4, .int (iI (k + 1))), (7, .int (iI (-1))), (6, .int (iI (((i : Int) / (w : Int)) + (sY k)))), (5, .int (iI (((i : Int) % (w : Int)) + (sX k)))), (3, .int (iI (i : Int))), (2, .int (zI mo3)), (0, .ref o), (1, .int (zI b))]) kx kb dX3_spreads_177 hl (by decide) rfl (fun ls hl => ?_)
                                  refine lv_goto (tgt := 58) kx kb dX3_spreads_179 (by decide) ?_
                                  exact ih58 (k + 1) mo3 p3 (hk8) (hke2) (hI4) (hF5) (hU4) (by omega) H locs hP hD hS ls (lv_sub hl [0, 4, 5, 6, 7] rfl)
                              · exact absurd rfl h138
                            · simp only [isBd_t, isBd_f] at h111
                              have hq := cel_int h111
                              have hrq := hr3 _ hq.2
                              refine lv_aload_n kx kb dX3_spreads_114 rfl (lv_at hl 5 rfl) ?_
                              refine va_get (D := D.1) (ci := 0) (v := .ref b6) (C := RX3) (T := TX3) (N := 9) kx kb hts in_X3 hown hK hP 0 rfl rfl 6 (by decide) (hts _ q1376) (fun _ h9 => h9) rfl dX3_spreads_115 ?_
                              refine lv_iload kx kb dX3_spreads_118 (lv_at hl 0 rfl) ?_
                              refine lv_aload_n kx kb dX3_spreads_120 rfl (lv_at hl 5 rfl) ?_
                              refine va_get (D := D.1) (ci := 0) (v := .int (iI (w : Int))) (C := RX3) (T := TX3) (N := 9) kx kb hts in_X3 hown hK hP 0 rfl rfl 7 (by decide) (hts _ q1377) (fun _ h9 => h9) rfl dX3_spreads_121 ?_
                              refine ti_imul kx kb dX3_spreads_124 ?_
                              refine lv_iload kx kb dX3_spreads_125 (lv_at hl 1 rfl) ?_
                              refine ti_iadd kx kb dX3_spreads_127 ?_
                              refine ta_iald C hK hP 6 rfl (cel w (((i : Int) % (w : Int)) + (sX k)) (((i : Int) / (w : Int)) + (sY k))) (by omega) dX3_spreads_128 ?_
                              refine lv_goto (tgt := 133) kx kb dX3_spreads_129 (by decide) ?_
                              refine lv_istore (lv' := [(7, .int (iI (p3 (cel w (((i : Int) % (w : Int)) + (sX k)) (((i : Int) / (w : Int)) + (sY k)))))), (6, .int (iI (((i : Int) / (w : Int)) + (sY k)))), (5, .int (iI (((i : Int) % (w : Int)) + (sX k)))), (4, .int (iI k)), (3, .int (iI (i : Int))), (2, .int (zI mo3)), (0, .ref o), (1, .int (zI b))]) kx kb dX3_spreads_133 hl (by decide) rfl (fun ls hl => ?_)
                              refine lv_iload kx kb dX3_spreads_135 (lv_at hl 0 rfl) ?_
                              refine lv_iconst (v := iI (-1)) kx kb dX3_spreads_137 rfl ?_
                              refine ti_icmp_eq (tgt := 165) kx kb (by omega) dX3_spreads_138 (by decide) (fun h138 => ?_) (fun h138 => ?_)
                              · have hb0 : nbB w g i k = true := (isBd_t _ _ _ _).mpr h111
                                have hF4 : mo3 = false → Spf w g (fun c => ik c == b) b i (k + 1) p3 := fun q => Spf_on (hF3 q) (fun _ z => absurd h138 ((Spi_rng hI3 _ (nbC_lt hb0)).2.2.mp z))
                                have hI4 := hI3
                                have hU4 := hU3
                                refine lv_iload kx kb dX3_spreads_165 (lv_at hl 3 rfl) ?_
                                refine lv_iload_n kx kb dX3_spreads_167 rfl (lv_at hl 7 rfl) ?_
                                refine tz_if_eq (tgt := 175) kx kb dX3_spreads_168 (by decide) (fun h168 => ?_) (fun h168 => ?_)
                                · have hev : k % 2 = 0 := by rcases hke with q | q; (rw [h168] at q; cases q); exact q
                                  have hk8 : 0 ≤ k + 2 ∧ k + 2 ≤ 8 := by omega
                                  have hke2 : b = true ∨ (k + 2) % 2 = 0 := Or.inr (by omega)
                                  have hF5 : mo3 = false → Spf w g (fun c => ik c == b) b i (k + 2) (p3) := fun q => by have z := hF4 q; revert z; rw [h168]; exact fun z => Spf_2 hev z
                                  refine lv_iconst (v := iI 2) kx kb dX3_spreads_175 rfl ?_
                                  refine ti_iadd kx kb dX3_spreads_176 ?_
                                  refine lv_istore (lv' := [(4, .int (iI (k + 2))), (7, .int (iI (p3 (cel w (((i : Int) % (w : Int)) + (sX k)) (((i : Int) / (w : Int)) + (sY k)))))), (6, .int (iI (((i : Int) / (w : Int)) + (sY k)))), (5, .int (iI (((i : Int) % (w : Int)) + (sX k)))), (3, .int (iI (i : Int))), (2, .int (zI mo3)), (0, .ref o), (1, .int (zI b))]) kx kb dX3_spreads_177 hl (by decide) rfl (fun ls hl => ?_)
                                  refine lv_goto (tgt := 58) kx kb dX3_spreads_179 (by decide) ?_
                                  exact ih58 (k + 2) mo3 p3 (hk8) (hke2) (hI4) (hF5) (hU4) (by omega) H locs hP hD hS ls (lv_sub hl [0, 4, 5, 6, 7] rfl)
                                · have hk8 : 0 ≤ k + 1 ∧ k + 1 ≤ 8 := by omega
                                  have hke2 : b = true ∨ (k + 1) % 2 = 0 := Or.inl h168
                                  have hF5 := hF4
                                  refine lv_iconst (v := iI 1) kx kb dX3_spreads_171 rfl ?_
                                  refine lv_goto (tgt := 176) kx kb dX3_spreads_172 (by decide) ?_
                                  refine ti_iadd kx kb dX3_spreads_176 ?_
                                  refine lv_istore (lv' := [(4, .int (iI (k + 1))), (7, .int (iI (p3 (cel w (((i : Int) % (w : Int)) + (sX k)) (((i : Int) / (w : Int)) + (sY k)))))), (6, .int (iI (((i : Int) / (w : Int)) + (sY k)))), (5, .int (iI (((i : Int) % (w : Int)) + (sX k)))), (3, .int (iI (i : Int))), (2, .int (zI mo3)), (0, .ref o), (1, .int (zI b))]) kx kb dX3_spreads_177 hl (by decide) rfl (fun ls hl => ?_)
                                  refine lv_goto (tgt := 58) kx kb dX3_spreads_179 (by decide) ?_
                                  exact ih58 (k + 1) mo3 p3 (hk8) (hke2) (hI4) (hF5) (hU4) (by omega) H locs hP hD hS ls (lv_sub hl [0, 4, 5, 6, 7] rfl)
                              · refine lv_iload kx kb dX3_spreads_141 (lv_at hl 0 rfl) ?_
                                refine lv_aload_n kx kb dX3_spreads_143 rfl (lv_at hl 6 rfl) ?_
                                refine va_get (D := D.1) (ci := 0) (v := .ref b6) (C := RX3) (T := TX3) (N := 9) kx kb hts in_X3 hown hK hP 0 rfl rfl 6 (by decide) (hts _ q1376) (fun _ h9 => h9) rfl dX3_spreads_144 ?_
                                refine lv_iload_n kx kb dX3_spreads_147 rfl (lv_at hl 4 rfl) ?_
                                refine ta_iald C hK hP 6 rfl i (by omega) dX3_spreads_148 ?_
                                refine ti_icmp_lt (tgt := 155) kx kb (by omega) dX3_spreads_149 (by decide) (fun h149 => ?_) (fun h149 => ?_)
                                · refine lv_aload_n kx kb dX3_spreads_155 rfl (lv_at hl 6 rfl) ?_
                                  refine va_get (D := D.1) (ci := 0) (v := .ref b6) (C := RX3) (T := TX3) (N := 9) kx kb hts in_X3 hown hK hP 0 rfl rfl 6 (by decide) (hts _ q1376) (fun _ h9 => h9) rfl dX3_spreads_156 ?_
                                  refine lv_iload_n kx kb dX3_spreads_159 rfl (lv_at hl 4 rfl) ?_
                                  refine lv_iload kx kb dX3_spreads_160 (lv_at hl 0 rfl) ?_
                                  refine ta_iast C hK hP hD hS 6 rfl i (by omega) dX3_spreads_162 (fun H locs hP hD hS => ?_)
                                  have hP : va_P D.1 clAll [(o, .inr (0, [.int (iI thr), .ref b1, .ref b2, .ref b3, .ref b4, .ref b5, .ref b6, .int (iI (w : Int)), .int (iI (g : Int))])), (b1, .inl (D.2 0, 1024, .inl (fun x_ => zI (ik x_)))), (b2, .inl (D.2 0, 1024, .inl (fun x_ => zI (st x_)))), (b3, .inl (D.2 0, 1024, .inl (fun x_ => zI (kp x_)))), (b4, .inl (D.2 0, 1024, .inl (fun x_ => zI (go x_)))), (b5, .inl (D.2 1, 1024, .inl (fun x_ => iI (dp x_)))), (b6, .inl (D.2 1, 1024, .inl (fun x_ => iI ((va_up p3 i (p3 (cel w (((i : Int) % (w : Int)) + (sX k)) (((i : Int) / (w : Int)) + (sY k))))) x_))))] H := hP
                                  have hD : va_D A [(o, .inr (0, [.int (iI thr), .ref b1, .ref b2, .ref b3, .ref b4, .ref b5, .ref b6, .int (iI (w : Int)), .int (iI (g : Int))])), (b1, .inl (D.2 0, 1024, .inl (fun x_ => zI (ik x_)))), (b2, .inl (D.2 0, 1024, .inl (fun x_ => zI (st x_)))), (b3, .inl (D.2 0, 1024, .inl (fun x_ => zI (kp x_)))), (b4, .inl (D.2 0, 1024, .inl (fun x_ => zI (go x_)))), (b5, .inl (D.2 1, 1024, .inl (fun x_ => iI (dp x_)))), (b6, .inl (D.2 1, 1024, .inl (fun x_ => iI ((va_up p3 i (p3 (cel w (((i : Int) % (w : Int)) + (sX k)) (((i : Int) / (w : Int)) + (sY k))))) x_))))] := hD
                                  refine lv_iconst (v := iI 1) kx kb dX3_spreads_163 rfl ?_
                                  refine lv_istore_n (lv' := [(2, .int (iI 1)), (7, .int (iI (p3 (cel w (((i : Int) % (w : Int)) + (sX k)) (((i : Int) / (w : Int)) + (sY k)))))), (6, .int (iI (((i : Int) / (w : Int)) + (sY k)))), (5, .int (iI (((i : Int) % (w : Int)) + (sX k)))), (4, .int (iI k)), (3, .int (iI (i : Int))), (0, .ref o), (1, .int (zI b))]) kx kb dX3_spreads_164 rfl hl (by decide) rfl (fun ls hl => ?_)
                                  have hb0 : nbB w g i k = true := (isBd_t _ _ _ _).mpr h111
                                  have hset := Spi_set hw.1 hI3 hi2 ⟨hk.1, by omega, hke⟩ hb0 h138 h149
                                  have hF4 : true = false → Spf w g (fun c => ik c == b) b i (k + 1) (va_up p3 i (p3 (cel w (((i : Int) % (w : Int)) + (sX k)) (((i : Int) / (w : Int)) + (sY k))))) := fun q => by cases q
                                  have hI4 : Spi w g (fun c => ik c == b) b (va_up p3 i (p3 (cel w (((i : Int) % (w : Int)) + (sX k)) (((i : Int) / (w : Int)) + (sY k))))) := hset.1
                                  have hU4 : Sps w g (va_up p3 i (p3 (cel w (((i : Int) % (w : Int)) + (sX k)) (((i : Int) / (w : Int)) + (sY k))))) ≤ Sps w g p2 ∧ (true = true → Sps w g (va_up p3 i (p3 (cel w (((i : Int) % (w : Int)) + (sX k)) (((i : Int) / (w : Int)) + (sY k))))) < Sps w g p2) := ⟨Nat.le_trans (Nat.le_of_lt hset.2) hU3.1, fun _ => Nat.lt_of_lt_of_le hset.2 hU3.1⟩
                                  refine lv_iload kx kb dX3_spreads_165 (lv_at hl 4 rfl) ?_
                                  refine lv_iload_n kx kb dX3_spreads_167 rfl (lv_at hl 7 rfl) ?_
                                  refine tz_if_eq (tgt := 175) kx kb dX3_spreads_168 (by decide) (fun h168 => ?_) (fun h168 => ?_)
                                  · have hev : k % 2 = 0 := by rcases hke with q | q; (rw [h168] at q; cases q); exact q
                                    have hk8 : 0 ≤ k + 2 ∧ k + 2 ≤ 8 := by omega
                                    have hke2 : b = true ∨ (k + 2) % 2 = 0 := Or.inr (by omega)
                                    have hF5 : true = false → Spf w g (fun c => ik c == b) b i (k + 2) (va_up p3 i (p3 (cel w (((i : Int) % (w : Int)) + (sX k)) (((i : Int) / (w : Int)) + (sY k))))) := fun q => by have z := hF4 q; revert z; rw [h168]; exact fun z => Spf_2 hev z
                                    refine lv_iconst (v := iI 2) kx kb dX3_spreads_175 rfl ?_
                                    refine ti_iadd kx kb dX3_spreads_176 ?_
                                    refine lv_istore (lv' := [(4, .int (iI (k + 2))), (2, .int (iI 1)), (7, .int (iI (p3 (cel w (((i : Int) % (w : Int)) + (sX k)) (((i : Int) / (w : Int)) + (sY k)))))), (6, .int (iI (((i : Int) / (w : Int)) + (sY k)))), (5, .int (iI (((i : Int) % (w : Int)) + (sX k)))), (3, .int (iI (i : Int))), (0, .ref o), (1, .int (zI b))]) kx kb dX3_spreads_177 hl (by decide) rfl (fun ls hl => ?_)
                                    refine lv_goto (tgt := 58) kx kb dX3_spreads_179 (by decide) ?_
                                    exact ih58 (k + 2) true (va_up p3 i (p3 (cel w (((i : Int) % (w : Int)) + (sX k)) (((i : Int) / (w : Int)) + (sY k))))) (hk8) (hke2) (hI4) (hF5) (hU4) (by omega) H locs hP hD hS ls (lv_sub hl [0, 5, 1, 6, 7] rfl)
                                  · have hk8 : 0 ≤ k + 1 ∧ k + 1 ≤ 8 := by omega
                                    have hke2 : b = true ∨ (k + 1) % 2 = 0 := Or.inl h168
                                    have hF5 := hF4
                                    refine lv_iconst (v := iI 1) kx kb dX3_spreads_171 rfl ?_
                                    refine lv_goto (tgt := 176) kx kb dX3_spreads_172 (by decide) ?_
                                    refine ti_iadd kx kb dX3_spreads_176 ?_
                                    refine lv_istore (lv' := [(4, .int (iI (k + 1))), (2, .int (iI 1)), (7, .int (iI (p3 (cel w (((i : Int) % (w : Int)) + (sX k)) (((i : Int) / (w : Int)) + (sY k)))))), (6, .int (iI (((i : Int) / (w : Int)) + (sY k)))), (5, .int (iI (((i : Int) % (w : Int)) + (sX k)))), (3, .int (iI (i : Int))), (0, .ref o), (1, .int (zI b))]) kx kb dX3_spreads_177 hl (by decide) rfl (fun ls hl => ?_)
                                    refine lv_goto (tgt := 58) kx kb dX3_spreads_179 (by decide) ?_
                                    exact ih58 (k + 1) true (va_up p3 i (p3 (cel w (((i : Int) % (w : Int)) + (sX k)) (((i : Int) / (w : Int)) + (sY k))))) (hk8) (hke2) (hI4) (hF5) (hU4) (by omega) H locs hP hD hS ls (lv_sub hl [0, 5, 1, 6, 7] rfl)
                                · refine lv_goto (tgt := 165) kx kb dX3_spreads_152 (by decide) ?_
                                  have hb0 : nbB w g i k = true := (isBd_t _ _ _ _).mpr h111
                                  have hF4 : mo3 = false → Spf w g (fun c => ik c == b) b i (k + 1) p3 := fun q => Spf_on (hF3 q) (fun _ _ => h149)
                                  have hI4 := hI3
                                  have hU4 := hU3
                                  refine lv_iload kx kb dX3_spreads_165 (lv_at hl 3 rfl) ?_
                                  refine lv_iload_n kx kb dX3_spreads_167 rfl (lv_at hl 7 rfl) ?_
                                  refine tz_if_eq (tgt := 175) kx kb dX3_spreads_168 (by decide) (fun h168 => ?_) (fun h168 => ?_)
                                  · have hev : k % 2 = 0 := by rcases hke with q | q; (rw [h168] at q; cases q); exact q
                                    have hk8 : 0 ≤ k + 2 ∧ k + 2 ≤ 8 := by omega
                                    have hke2 : b = true ∨ (k + 2) % 2 = 0 := Or.inr (by omega)
                                    have hF5 : mo3 = false → Spf w g (fun c => ik c == b) b i (k + 2) (p3) := fun q => by have z := hF4 q; revert z; rw [h168]; exact fun z => Spf_2 hev z
                                    refine lv_iconst (v := iI 2) kx kb dX3_spreads_175 rfl ?_
                                    refine ti_iadd kx kb dX3_spreads_176 ?_
                                    refine lv_istore (lv' := [(4, .int (iI (k + 2))), (7, .int (iI (p3 (cel w (((i : Int) % (w : Int)) + (sX k)) (((i : Int) / (w : Int)) + (sY k)))))), (6, .int (iI (((i : Int) / (w : Int)) + (sY k)))), (5, .int (iI (((i : Int) % (w : Int)) + (sX k)))), (3, .int (iI (i : Int))), (2, .int (zI mo3)), (0, .ref o), (1, .int (zI b))]) kx kb dX3_spreads_177 hl (by decide) rfl (fun ls hl => ?_)
                                    refine lv_goto (tgt := 58) kx kb dX3_spreads_179 (by decide) ?_
                                    exact ih58 (k + 2) mo3 p3 (hk8) (hke2) (hI4) (hF5) (hU4) (by omega) H locs hP hD hS ls (lv_sub hl [0, 4, 5, 6, 7] rfl)
                                  · have hk8 : 0 ≤ k + 1 ∧ k + 1 ≤ 8 := by omega
                                    have hke2 : b = true ∨ (k + 1) % 2 = 0 := Or.inl h168
                                    have hF5 := hF4
                                    refine lv_iconst (v := iI 1) kx kb dX3_spreads_171 rfl ?_
                                    refine lv_goto (tgt := 176) kx kb dX3_spreads_172 (by decide) ?_
                                    refine ti_iadd kx kb dX3_spreads_176 ?_
                                    refine lv_istore (lv' := [(4, .int (iI (k + 1))), (7, .int (iI (p3 (cel w (((i : Int) % (w : Int)) + (sX k)) (((i : Int) / (w : Int)) + (sY k)))))), (6, .int (iI (((i : Int) / (w : Int)) + (sY k)))), (5, .int (iI (((i : Int) % (w : Int)) + (sX k)))), (3, .int (iI (i : Int))), (2, .int (zI mo3)), (0, .ref o), (1, .int (zI b))]) kx kb dX3_spreads_177 hl (by decide) rfl (fun ls hl => ?_)
                                    refine lv_goto (tgt := 58) kx kb dX3_spreads_179 (by decide) ?_
                                    exact ih58 (k + 1) mo3 p3 (hk8) (hke2) (hI4) (hF5) (hU4) (by omega) H locs hP hD hS ls (lv_sub hl [0, 4, 5, 6, 7] rfl)
                    exact cut58 ((((8 : Int) - 0).toNat) + 1) 0 mo2 p4 (by omega) (by omega) (hI2) (hF2) (hU2) (Nat.lt_succ_self _) H locs hP hD hS ls hl
              exact cut47 ((w * g - 0) + 1) 0 false p2 (by omega) (hI) (fun _ => Spf_0 _ _ _ _ _) (⟨Nat.le_refl _, fun q => by cases q⟩) (Nat.lt_succ_self _) H locs hP hD hS ls hl
        exact cut39 ((if true then Sps w g p1 + 1 else 0) + 1) true p1 (Spi_0 (fun c hc => by rw [hp1]; exact if_pos (by omega))) (by intro q; cases q) (Nat.lt_succ_self _) H locs hP hD hS ls hl
      · refine lv_aload_n kx kb dX3_spreads_10 rfl (lv_at hl 1 rfl) ?_
        refine va_get (D := D.1) (ci := 0) (v := .ref b6) (C := RX3) (T := TX3) (N := 9) kx kb hts in_X3 hown hK hP 0 rfl rfl 6 (by decide) (hts _ q1376) (fun _ h9 => h9) rfl dX3_spreads_11 ?_
        refine lv_iload_n kx kb dX3_spreads_14 rfl (lv_at hl 0 rfl) ?_
        refine lv_aload_n kx kb dX3_spreads_15 rfl (lv_at hl 1 rfl) ?_
        refine va_get (D := D.1) (ci := 0) (v := .ref b1) (C := RX3) (T := TX3) (N := 9) kx kb hts in_X3 hown hK hP 0 rfl rfl 1 (by decide) (hts _ q1371) (fun _ h9 => h9) rfl dX3_spreads_16 ?_
        refine lv_iload_n kx kb dX3_spreads_19 rfl (lv_at hl 0 rfl) ?_
        refine ta_zald C hK hP 1 rfl i (by omega) dX3_spreads_20 ?_
        refine lv_iload_n kx kb dX3_spreads_21 rfl (lv_at hl 2 rfl) ?_
        refine tz_icmp_ne (tgt := 29) kx kb dX3_spreads_22 (by decide) (fun h22 => ?_) (fun h22 => ?_)
        · refine lv_iconst (v := iI (-1)) kx kb dX3_spreads_29 rfl ?_
          refine ta_iast C hK hP hD hS 6 rfl i (by omega) dX3_spreads_30 (fun H locs hP hD hS => ?_)
          have hP : va_P D.1 clAll [(o, .inr (0, [.int (iI thr), .ref b1, .ref b2, .ref b3, .ref b4, .ref b5, .ref b6, .int (iI (w : Int)), .int (iI (g : Int))])), (b1, .inl (D.2 0, 1024, .inl (fun x_ => zI (ik x_)))), (b2, .inl (D.2 0, 1024, .inl (fun x_ => zI (st x_)))), (b3, .inl (D.2 0, 1024, .inl (fun x_ => zI (kp x_)))), (b4, .inl (D.2 0, 1024, .inl (fun x_ => zI (go x_)))), (b5, .inl (D.2 1, 1024, .inl (fun x_ => iI (dp x_)))), (b6, .inl (D.2 1, 1024, .inl (fun x_ => iI ((va_up p1 i (-1)) x_))))] H := hP
          have hD : va_D A [(o, .inr (0, [.int (iI thr), .ref b1, .ref b2, .ref b3, .ref b4, .ref b5, .ref b6, .int (iI (w : Int)), .int (iI (g : Int))])), (b1, .inl (D.2 0, 1024, .inl (fun x_ => zI (ik x_)))), (b2, .inl (D.2 0, 1024, .inl (fun x_ => zI (st x_)))), (b3, .inl (D.2 0, 1024, .inl (fun x_ => zI (kp x_)))), (b4, .inl (D.2 0, 1024, .inl (fun x_ => zI (go x_)))), (b5, .inl (D.2 1, 1024, .inl (fun x_ => iI (dp x_)))), (b6, .inl (D.2 1, 1024, .inl (fun x_ => iI ((va_up p1 i (-1)) x_))))] := hD
          refine ti_iinc (a := (i : Int)) (lv' := [(2, .int (iI ((i : Int) + 1))), (0, .ref o), (1, .int (zI b))]) kx kb dX3_spreads_31 hl (k := 0) rfl (by decide) rfl (fun ls hl => ?_)
          refine lv_goto (tgt := 2) kx kb dX3_spreads_34 (by decide) ?_
          exact ih2 (i + 1) (va_up p1 i (-1)) (by omega) (by rw [hp1, ← flw_s]; simp [h22]) (by omega) H locs hP hD hS ls hl
        · refine lv_iload_n kx kb dX3_spreads_25 rfl (lv_at hl 0 rfl) ?_
          refine lv_goto (tgt := 30) kx kb dX3_spreads_26 (by decide) ?_
          refine ta_iast C hK hP hD hS 6 rfl i (by omega) dX3_spreads_30 (fun H locs hP hD hS => ?_)
          have hP : va_P D.1 clAll [(o, .inr (0, [.int (iI thr), .ref b1, .ref b2, .ref b3, .ref b4, .ref b5, .ref b6, .int (iI (w : Int)), .int (iI (g : Int))])), (b1, .inl (D.2 0, 1024, .inl (fun x_ => zI (ik x_)))), (b2, .inl (D.2 0, 1024, .inl (fun x_ => zI (st x_)))), (b3, .inl (D.2 0, 1024, .inl (fun x_ => zI (kp x_)))), (b4, .inl (D.2 0, 1024, .inl (fun x_ => zI (go x_)))), (b5, .inl (D.2 1, 1024, .inl (fun x_ => iI (dp x_)))), (b6, .inl (D.2 1, 1024, .inl (fun x_ => iI ((va_up p1 i (i : Int)) x_))))] H := hP
          have hD : va_D A [(o, .inr (0, [.int (iI thr), .ref b1, .ref b2, .ref b3, .ref b4, .ref b5, .ref b6, .int (iI (w : Int)), .int (iI (g : Int))])), (b1, .inl (D.2 0, 1024, .inl (fun x_ => zI (ik x_)))), (b2, .inl (D.2 0, 1024, .inl (fun x_ => zI (st x_)))), (b3, .inl (D.2 0, 1024, .inl (fun x_ => zI (kp x_)))), (b4, .inl (D.2 0, 1024, .inl (fun x_ => zI (go x_)))), (b5, .inl (D.2 1, 1024, .inl (fun x_ => iI (dp x_)))), (b6, .inl (D.2 1, 1024, .inl (fun x_ => iI ((va_up p1 i (i : Int)) x_))))] := hD
          refine ti_iinc (a := (i : Int)) (lv' := [(2, .int (iI ((i : Int) + 1))), (0, .ref o), (1, .int (zI b))]) kx kb dX3_spreads_31 hl (k := 0) rfl (by decide) rfl (fun ls hl => ?_)
          refine lv_goto (tgt := 2) kx kb dX3_spreads_34 (by decide) ?_
          exact ih2 (i + 1) (va_up p1 i (i : Int)) (by omega) (by rw [hp1, ← flw_s]; simp [h22]) (by omega) H locs hP hD hS ls hl
  exact cut2 ((w * g - 0) + 1) 0 pt (by omega) (by rw [flw_0]) (Nat.lt_succ_self _) s0.heap [] hP hD hS ls hl
