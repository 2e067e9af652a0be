set_option maxRecDepth 100000
set_option maxHeartbeats 4000000 in
set_option maxRecDepth 100000 in
theorem met_J17_signum (l : Launch) (D : TG) (E : TE) (x : Int) (hx : -200 ≤ x ∧ x ≤ 200) : tRd l yJ17_signum cJ17_signum 1 (some .int) 0 0 [.int (iI x)] D E [] tY0 (some (.int (iI (tsg x)))) := by
  refine tu_rd (by decide +kernel) (Nat.le_of_ble_eq_true rfl) ?_
  intro p0 e0 s0 m0 below meth c0 A ls args Q hag hQ C hK hX hY hP hD hA hAe hl
  obtain ⟨kx, kb, hml, hown, hts, -⟩ := id C
  have hS : va_S A s0.heap s0.heap [] := va_S.rf
  have hl : lv_has ls 1 [(0, .int (iI x))] := hl
  refine lv_iload_n kx kb dJ17_signum_0 rfl (lv_at hl 0 rfl) ?_
  refine lv_bipush (v := iI 31) kx kb dJ17_signum_1 rfl ?_
  refine lv_ishr kx kb dJ17_signum_3 ?_
  refine lv_iload_n kx kb dJ17_signum_4 rfl (lv_at hl 0 rfl) ?_
  refine ti_ineg kx kb dJ17_signum_5 ?_
  refine lv_bipush (v := iI 31) kx kb dJ17_signum_6 rfl ?_
  refine lv_iushr kx kb dJ17_signum_8 rfl ?_
  refine lv_ior kx kb dJ17_signum_9 ?_
  subst hQ
  exact tr_iret C rfl (by rw [sg_eq hx]) dJ17_signum_10
set_option maxHeartbeats 4000000 in
set_option maxRecDepth 100000 in
theorem met_X3_eight (l : Launch) (D : TG) (E : TE) (o : Nat) (b1 : Nat) (b2 : Nat) (b3 : Nat) (b4 : Nat) (b5 : Nat) (b6 : Nat) (thr : Int) (w : Nat) (g : Nat) (ik : Nat → Bool) (st : Nat → Bool) (kp : Nat → Bool) (go : Nat → Bool) (dp : Nat → Int) (pt : Nat → Int) (cx : Int) (cy : Int) (u : Int) (v : Int) (bb : Bool) (hw : 1 ≤ w ∧ w ≤ 32) (hg : 1 ≤ g ∧ g ≤ 32) (hb4 : -200 ≤ cx ∧ cx ≤ 200 ∧ -200 ≤ cy ∧ cy ≤ 200 ∧ -200 ≤ u ∧ u ≤ 200 ∧ -200 ≤ v ∧ v ≤ 200) : tMet l yX3_eight cX3_eight 10 (some .int) 3 67 (0) (0) [.ref o, .int (iI cx), .int (iI cy), .int (iI u), .int (iI v), .int (zI bb)] D E [(o, .inr (0, [.int (iI thr), .ref b1, .ref b2, .ref b3, .ref b4, .ref b5, .ref b6, .int (iI (w : Int)), .int (iI (g : Int))])), (b1, .inl (D.2 0, 1024, .inl (fun x_ => zI (ik x_)))), (b2, .inl (D.2 0, 1024, .inl (fun x_ => zI (st x_)))), (b3, .inl (D.2 0, 1024, .inl (fun x_ => zI (kp x_)))), (b4, .inl (D.2 0, 1024, .inl (fun x_ => zI (go x_)))), (b5, .inl (D.2 1, 1024, .inl (fun x_ => iI (dp x_)))), (b6, .inl (D.2 1, 1024, .inl (fun x_ => iI (pt x_))))] tY0 (S := (Nat → Bool)) (fun u_ => u_ = drwL w g bb (eiL cx cy u v 8) ik) (fun u_ => some (.int (iI (cntL w g bb (eiL cx cy u v 8) ik)))) (fun u_ => [(o, .inr (0, [.int (iI thr), .ref b1, .ref b2, .ref b3, .ref b4, .ref b5, .ref b6, .int (iI (w : Int)), .int (iI (g : Int))])), (b1, .inl (D.2 0, 1024, .inl (fun x_ => zI (u_ x_)))), (b2, .inl (D.2 0, 1024, .inl (fun x_ => zI (st x_)))), (b3, .inl (D.2 0, 1024, .inl (fun x_ => zI (kp x_)))), (b4, .inl (D.2 0, 1024, .inl (fun x_ => zI (go x_)))), (b5, .inl (D.2 1, 1024, .inl (fun x_ => iI (dp x_)))), (b6, .inl (D.2 1, 1024, .inl (fun x_ => iI (pt x_))))]) := by
  refine tu_met (by decide +kernel) (Nat.le_of_ble_eq_true rfl) ?_
  intro p0 e0 s0 m0 below meth c0 A ls args Q hag hQ C hK hX hY hP hD hA hAe hl
  obtain ⟨kx, kb, hml, hown, hts, -⟩ := id C
  have hS : va_S A s0.heap s0.heap [] := va_S.rf
  have hl : lv_has ls 10 [(0, .ref o), (1, .int (iI cx)), (2, .int (iI cy)), (3, .int (iI u)), (4, .int (iI v)), (5, .int (zI bb))] := hl
  have hwg := wg_le hw hg
  refine lv_iconst (v := iI 0) kx kb dX3_eight_0 rfl ?_
  refine lv_istore (lv' := [(6, .int (iI 0)), (0, .ref o), (1, .int (iI cx)), (2, .int (iI cy)), (3, .int (iI u)), (4, .int (iI v)), (5, .int (zI bb))]) kx kb dX3_eight_1 hl (by decide) rfl (fun ls hl => ?_)
  refine lv_iconst (v := iI 0) kx kb dX3_eight_3 rfl ?_
  refine lv_istore (lv' := [(7, .int (iI 0)), (6, .int (iI 0)), (0, .ref o), (1, .int (iI cx)), (2, .int (iI cy)), (3, .int (iI u)), (4, .int (iI v)), (5, .int (zI bb))]) kx kb dX3_eight_4 hl (by decide) rfl (fun ls hl => ?_)
  have cut6 : ∀ (fuel : Nat) (i : Nat) (n : Int) (k1 : Nat → Bool), (i ≤ 8) → (n = cntL w g bb (eiL cx cy u v i) ik) → (k1 = drwL w g bb (eiL cx cy u v i) ik) → (8 - i) < fuel → ∀ (H : Heap) (locs : List Loc), va_P D.1 clAll [(o, .inr (0, [.int (iI thr), .ref b1, .ref b2, .ref b3, .ref b4, .ref b5, .ref b6, .int (iI (w : Int)), .int (iI (g : Int))])), (b1, .inl (D.2 0, 1024, .inl (fun x_ => zI (k1 x_)))), (b2, .inl (D.2 0, 1024, .inl (fun x_ => zI (st x_)))), (b3, .inl (D.2 0, 1024, .inl (fun x_ => zI (kp x_)))), (b4, .inl (D.2 0, 1024, .inl (fun x_ => zI (go x_)))), (b5, .inl (D.2 1, 1024, .inl (fun x_ => iI (dp x_)))), (b6, .inl (D.2 1, 1024, .inl (fun x_ => iI (pt x_))))] H → va_D A [(o, .inr (0, [.int (iI thr), .ref b1, .ref b2, .ref b3, .ref b4, .ref b5, .ref b6, .int (iI (w : Int)), .int (iI (g : Int))])), (b1, .inl (D.2 0, 1024, .inl (fun x_ => zI (k1 x_)))), (b2, .inl (D.2 0, 1024, .inl (fun x_ => zI (st x_)))), (b3, .inl (D.2 0, 1024, .inl (fun x_ => zI (kp x_)))), (b4, .inl (D.2 0, 1024, .inl (fun x_ => zI (go x_)))), (b5, .inl (D.2 1, 1024, .inl (fun x_ => iI (dp x_)))), (b6, .inl (D.2 1, 1024, .inl (fun x_ => iI (pt x_))))] → va_S A s0.heap H locs → ∀ ls : Array Slot, lv_has ls 10 [(7, .int (iI (i : Int))), (6, .int (iI n)), (0, .ref o), (1, .int (iI cx)), (2, .int (iI cy)), (3, .int (iI u)), (4, .int (iI v)), (5, .int (zI bb))] → W p0 l e0 ({ frames := 3, cells := 0, slots := 0, locals := 67 } : Room) s0 m0 args below meth c0 H locs (0) (0) Q (F0 m0 6 ls []) := by
    intro fuel
    induction fuel with
    | zero =>
      intro i n k1 hi hn hk1 hfuel6
      exact absurd hfuel6 (Nat.not_lt_zero _)
    | succ fuel ih6 =>
      intro i n k1 hi hn hk1 hfuel6 H locs hP hD hS ls hl
      refine lv_iload kx kb dX3_eight_6 (lv_at hl 0 rfl) ?_
      refine lv_bipush (v := iI 8) kx kb dX3_eight_8 rfl ?_
      refine ti_icmp_ge (tgt := 93) kx kb (by omega) dX3_eight_10 (by decide) (fun h10 => ?_) (fun h10 => ?_)
      · refine lv_iload kx kb dX3_eight_93 (lv_at hl 1 rfl) ?_
        subst hQ
        exact tm_iret C k1 (by rw [hk1, show i = 8 from by omega]) hP hD hS (show 0 ≤ 0 from by omega) (show 0 ≤ 0 from by omega) (by rw [hn, show i = 8 from by omega]) rfl dX3_eight_95
      · refine lv_iload kx kb dX3_eight_13 (lv_at hl 0 rfl) ?_
        refine lv_iconst (v := iI 4) kx kb dX3_eight_15 rfl ?_
        refine ti_icmp_ge (tgt := 23) kx kb (by omega) dX3_eight_16 (by decide) (fun h16 => ?_) (fun h16 => ?_)
        · refine lv_iload kx kb dX3_eight_23 (lv_at hl 6 rfl) ?_
          refine lv_istore (lv' := [(8, .int (iI v)), (7, .int (iI (i : Int))), (6, .int (iI n)), (0, .ref o), (1, .int (iI cx)), (2, .int (iI cy)), (3, .int (iI u)), (4, .int (iI v)), (5, .int (zI bb))]) kx kb dX3_eight_25 hl (by decide) rfl (fun ls hl => ?_)
          refine lv_iload kx kb dX3_eight_27 (lv_at hl 1 rfl) ?_
          refine lv_iconst (v := iI 4) kx kb dX3_eight_29 rfl ?_
          refine ti_icmp_ge (tgt := 38) kx kb (by omega) dX3_eight_30 (by decide) (fun h30 => ?_) (fun h30 => ?_)
          · refine lv_iload_n kx kb dX3_eight_38 rfl (lv_at hl 6 rfl) ?_
            refine lv_istore (lv' := [(9, .int (iI u)), (8, .int (iI v)), (7, .int (iI (i : Int))), (6, .int (iI n)), (0, .ref o), (1, .int (iI cx)), (2, .int (iI cy)), (3, .int (iI u)), (4, .int (iI v)), (5, .int (zI bb))]) kx kb dX3_eight_39 hl (by decide) rfl (fun ls hl => ?_)
            refine lv_iload kx kb dX3_eight_41 (lv_at hl 3 rfl) ?_
            refine lv_aload_n kx kb dX3_eight_43 rfl (lv_at hl 4 rfl) ?_
            refine lv_iload_n kx kb dX3_eight_44 rfl (lv_at hl 5 rfl) ?_
            refine lv_iload kx kb dX3_eight_45 (lv_at hl 2 rfl) ?_
            refine lv_iconst (v := iI 2) kx kb dX3_eight_47 rfl ?_
            refine ti_irem kx kb (by omega) dX3_eight_48 ?_
            refine ti_if_ne (tgt := 57) kx kb (by omega) dX3_eight_49 (by decide) (fun h49 => ?_) (fun h49 => ?_)
            · refine lv_iload kx kb dX3_eight_57 (lv_at hl 1 rfl) ?_
              refine ti_ineg kx kb dX3_eight_59 ?_
              refine ti_iadd kx kb dX3_eight_60 ?_
              refine lv_iload_n kx kb dX3_eight_61 rfl (lv_at hl 6 rfl) ?_
              refine lv_iload kx kb dX3_eight_62 (lv_at hl 2 rfl) ?_
              refine lv_iconst (v := iI 4) kx kb dX3_eight_64 rfl ?_
              refine ti_irem kx kb (by omega) dX3_eight_65 ?_
              refine lv_iconst (v := iI 2) kx kb dX3_eight_66 rfl ?_
              refine ti_icmp_ge (tgt := 75) kx kb (by omega) dX3_eight_67 (by decide) (fun h67 => ?_) (fun h67 => ?_)
              · refine lv_iload kx kb dX3_eight_75 (lv_at hl 0 rfl) ?_
                refine ti_ineg kx kb dX3_eight_77 ?_
                refine ti_iadd kx kb dX3_eight_78 ?_
                refine lv_iload kx kb dX3_eight_79 (lv_at hl 9 rfl) ?_
                have he : ei1 cx cy u v i = (cx + (-v), cy + (-u)) := by unfold ei1; exact Prod.ext (by simp only []; (repeat' split) <;> omega) (by simp only []; (repeat' split) <;> omega)
                refine t_callV (wr := []) C (met_X3_draws l D E o b1 b2 b3 b4 b5 b6 thr w g k1 st kp go dp pt (cx + (-v)) (cy + (-u)) bb (by first | assumption | omega) (by first | assumption | omega) (by first | assumption | omega) (by first | assumption | omega)) (cwV 3 hts (lw_V q1426 q1428 qs27 q62 q1429) rfl rfl rfl (by decide +kernel) ⟨Nat.le_of_ble_eq_true rfl, Nat.le_of_ble_eq_true rfl⟩) (va_recv hK hP (ci := 0) (q0 := 0) rfl rfl) hK hX hP hD hS hA [0, 1, 2, 3, 4, 5, 6] [] rfl rfl (by decide) (by decide) (by decide) tYb_0 (fun _ _ _ => trivial) rfl hl.1 rfl (Nat.le_of_ble_eq_true rfl) dX3_eight_81 ⟨(show 0 ≤ 0 from by omega), (show 0 ≤ 0 from by omega)⟩ (fun u_ H locs hp hP hD hS => ?_)
                obtain ⟨ik2_1, rfl⟩ : ∃ z, z = u_ := ⟨_, rfl⟩
                have hc81_1 : ik2_1 = drw w g (cx + (-v)) (cy + (-u)) bb k1 := hp
                subst hc81_1
                have hP : va_P D.1 clAll [(o, .inr (0, [.int (iI thr), .ref b1, .ref b2, .ref b3, .ref b4, .ref b5, .ref b6, .int (iI (w : Int)), .int (iI (g : Int))])), (b1, .inl (D.2 0, 1024, .inl (fun x_ => zI ((drw w g (cx + (-v)) (cy + (-u)) bb k1) x_)))), (b2, .inl (D.2 0, 1024, .inl (fun x_ => zI (st x_)))), (b3, .inl (D.2 0, 1024, .inl (fun x_ => zI (kp x_)))), (b4, .inl (D.2 0, 1024, .inl (fun x_ => zI (go x_)))), (b5, .inl (D.2 1, 1024, .inl (fun x_ => iI (dp x_)))), (b6, .inl (D.2 1, 1024, .inl (fun x_ => iI (pt x_))))] H := hP
                have hD : va_D A [(o, .inr (0, [.int (iI thr), .ref b1, .ref b2, .ref b3, .ref b4, .ref b5, .ref b6, .int (iI (w : Int)), .int (iI (g : Int))])), (b1, .inl (D.2 0, 1024, .inl (fun x_ => zI ((drw w g (cx + (-v)) (cy + (-u)) bb k1) x_)))), (b2, .inl (D.2 0, 1024, .inl (fun x_ => zI (st x_)))), (b3, .inl (D.2 0, 1024, .inl (fun x_ => zI (kp x_)))), (b4, .inl (D.2 0, 1024, .inl (fun x_ => zI (go x_)))), (b5, .inl (D.2 1, 1024, .inl (fun x_ => iI (dp x_)))), (b6, .inl (D.2 1, 1024, .inl (fun x_ => iI (pt x_))))] := hD
                refine W.eq (g2 := F0 m0 84 ls [.int (iI (drwN w g (cx + (-v)) (cy + (-u)) bb k1)), .int (iI n)]) rfl ?_
                refine ti_iadd kx kb dX3_eight_84 ?_
                refine lv_istore (lv' := [(6, .int (iI (n + (drwN w g (cx + (-v)) (cy + (-u)) bb k1)))), (9, .int (iI u)), (8, .int (iI v)), (7, .int (iI (i : Int))), (0, .ref o), (1, .int (iI cx)), (2, .int (iI cy)), (3, .int (iI u)), (4, .int (iI v)), (5, .int (zI bb))]) kx kb dX3_eight_85 hl (by decide) rfl (fun ls hl => ?_)
                refine ti_iinc (a := (i : Int)) (lv' := [(7, .int (iI ((i : Int) + 1))), (6, .int (iI (n + (drwN w g (cx + (-v)) (cy + (-u)) bb k1)))), (9, .int (iI u)), (8, .int (iI v)), (0, .ref o), (1, .int (iI cx)), (2, .int (iI cy)), (3, .int (iI u)), (4, .int (iI v)), (5, .int (zI bb))]) kx kb dX3_eight_87 hl (k := 3) rfl (by decide) rfl (fun ls hl => ?_)
                refine lv_goto (tgt := 6) kx kb dX3_eight_90 (by decide) ?_
                exact ih6 (i + 1) (n + (drwN w g (cx + (-v)) (cy + (-u)) bb k1)) (drw w g (cx + (-v)) (cy + (-u)) bb k1) (by omega) (by simp only [eiL]; rw [cntL_app, ← hk1, ← hn]; simp [cntL, he]) (by simp only [eiL]; rw [drwL_app, ← hk1]; simp [drwL, he]) (by omega) H locs hP hD hS ls (lv_sub hl [0, 1, 4, 5, 6, 7, 8, 9] rfl)
              · refine lv_iload kx kb dX3_eight_70 (lv_at hl 0 rfl) ?_
                refine lv_goto (tgt := 78) kx kb dX3_eight_72 (by decide) ?_
                refine ti_iadd kx kb dX3_eight_78 ?_
                refine lv_iload kx kb dX3_eight_79 (lv_at hl 9 rfl) ?_
                have he : ei1 cx cy u v i = (cx + (-v), cy + u) := by unfold ei1; exact Prod.ext (by simp only []; (repeat' split) <;> omega) (by simp only []; (repeat' split) <;> omega)
                refine t_callV (wr := []) C (met_X3_draws l D E o b1 b2 b3 b4 b5 b6 thr w g k1 st kp go dp pt (cx + (-v)) (cy + u) bb (by first | assumption | omega) (by first | assumption | omega) (by first | assumption | omega) (by first | assumption | omega)) (cwV 3 hts (lw_V q1426 q1428 qs27 q62 q1429) rfl rfl rfl (by decide +kernel) ⟨Nat.le_of_ble_eq_true rfl, Nat.le_of_ble_eq_true rfl⟩) (va_recv hK hP (ci := 0) (q0 := 0) rfl rfl) hK hX hP hD hS hA [0, 1, 2, 3, 4, 5, 6] [] rfl rfl (by decide) (by decide) (by decide) tYb_0 (fun _ _ _ => trivial) rfl hl.1 rfl (Nat.le_of_ble_eq_true rfl) dX3_eight_81 ⟨(show 0 ≤ 0 from by omega), (show 0 ≤ 0 from by omega)⟩ (fun u_ H locs hp hP hD hS => ?_)
                obtain ⟨ik2_2, rfl⟩ : ∃ z, z = u_ := ⟨_, rfl⟩
                have hc81_1 : ik2_2 = drw w g (cx + (-v)) (cy + u) bb k1 := hp
                subst hc81_1
                have hP : va_P D.1 clAll [(o, .inr (0, [.int (iI thr), .ref b1, .ref b2, .ref b3, .ref b4, .ref b5, .ref b6, .int (iI (w : Int)), .int (iI (g : Int))])), (b1, .inl (D.2 0, 1024, .inl (fun x_ => zI ((drw w g (cx + (-v)) (cy + u) bb k1) x_)))), (b2, .inl (D.2 0, 1024, .inl (fun x_ => zI (st x_)))), (b3, .inl (D.2 0, 1024, .inl (fun x_ => zI (kp x_)))), (b4, .inl (D.2 0, 1024, .inl (fun x_ => zI (go x_)))), (b5, .inl (D.2 1, 1024, .inl (fun x_ => iI (dp x_)))), (b6, .inl (D.2 1, 1024, .inl (fun x_ => iI (pt x_))))] H := hP
                have hD : va_D A [(o, .inr (0, [.int (iI thr), .ref b1, .ref b2, .ref b3, .ref b4, .ref b5, .ref b6, .int (iI (w : Int)), .int (iI (g : Int))])), (b1, .inl (D.2 0, 1024, .inl (fun x_ => zI ((drw w g (cx + (-v)) (cy + u) bb k1) x_)))), (b2, .inl (D.2 0, 1024, .inl (fun x_ => zI (st x_)))), (b3, .inl (D.2 0, 1024, .inl (fun x_ => zI (kp x_)))), (b4, .inl (D.2 0, 1024, .inl (fun x_ => zI (go x_)))), (b5, .inl (D.2 1, 1024, .inl (fun x_ => iI (dp x_)))), (b6, .inl (D.2 1, 1024, .inl (fun x_ => iI (pt x_))))] := hD
                refine W.eq (g2 := F0 m0 84 ls [.int (iI (drwN w g (cx + (-v)) (cy + u) bb k1)), .int (iI n)]) rfl ?_
                refine ti_iadd kx kb dX3_eight_84 ?_
                refine lv_istore (lv' := [(6, .int (iI (n + (drwN w g (cx + (-v)) (cy + u) bb k1)))), (9, .int (iI u)), (8, .int (iI v)), (7, .int (iI (i : Int))), (0, .ref o), (1, .int (iI cx)), (2, .int (iI cy)), (3, .int (iI u)), (4, .int (iI v)), (5, .int (zI bb))]) kx kb dX3_eight_85 hl (by decide) rfl (fun ls hl => ?_)
                refine ti_iinc (a := (i : Int)) (lv' := [(7, .int (iI ((i : Int) + 1))), (6, .int (iI (n + (drwN w g (cx + (-v)) (cy + u) bb k1)))), (9, .int (iI u)), (8, .int (iI v)), (0, .ref o), (1, .int (iI cx)), (2, .int (iI cy)), (3, .int (iI u)), (4, .int (iI v)), (5, .int (zI bb))]) kx kb dX3_eight_87 hl (k := 3) rfl (by decide) rfl (fun ls hl => ?_)
                refine lv_goto (tgt := 6) kx kb dX3_eight_90 (by decide) ?_
                exact ih6 (i + 1) (n + (drwN w g (cx + (-v)) (cy + u) bb k1)) (drw w g (cx + (-v)) (cy + u) bb k1) (by omega) (by simp only [eiL]; rw [cntL_app, ← hk1, ← hn]; simp [cntL, he]) (by simp only [eiL]; rw [drwL_app, ← hk1]; simp [drwL, he]) (by omega) H locs hP hD hS ls (lv_sub hl [0, 1, 4, 5, 6, 7, 8, 9] rfl)
            · refine lv_iload kx kb dX3_eight_52 (lv_at hl 1 rfl) ?_
              refine lv_goto (tgt := 60) kx kb dX3_eight_54 (by decide) ?_
              refine ti_iadd kx kb dX3_eight_60 ?_
              refine lv_iload_n kx kb dX3_eight_61 rfl (lv_at hl 6 rfl) ?_
              refine lv_iload kx kb dX3_eight_62 (lv_at hl 2 rfl) ?_
              refine lv_iconst (v := iI 4) kx kb dX3_eight_64 rfl ?_
              refine ti_irem kx kb (by omega) dX3_eight_65 ?_
              refine lv_iconst (v := iI 2) kx kb dX3_eight_66 rfl ?_
              refine ti_icmp_ge (tgt := 75) kx kb (by omega) dX3_eight_67 (by decide) (fun h67 => ?_) (fun h67 => ?_)
              · refine lv_iload kx kb dX3_eight_75 (lv_at hl 0 rfl) ?_
                refine ti_ineg kx kb dX3_eight_77 ?_
                refine ti_iadd kx kb dX3_eight_78 ?_
                refine lv_iload kx kb dX3_eight_79 (lv_at hl 9 rfl) ?_
                have he : ei1 cx cy u v i = (cx + v, cy + (-u)) := by unfold ei1; exact Prod.ext (by simp only []; (repeat' split) <;> omega) (by simp only []; (repeat' split) <;> omega)
                refine t_callV (wr := []) C (met_X3_draws l D E o b1 b2 b3 b4 b5 b6 thr w g k1 st kp go dp pt (cx + v) (cy + (-u)) bb (by first | assumption | omega) (by first | assumption | omega) (by first | assumption | omega) (by first | assumption | omega)) (cwV 3 hts (lw_V q1426 q1428 qs27 q62 q1429) rfl rfl rfl (by decide +kernel) ⟨Nat.le_of_ble_eq_true rfl, Nat.le_of_ble_eq_true rfl⟩) (va_recv hK hP (ci := 0) (q0 := 0) rfl rfl) hK hX hP hD hS hA [0, 1, 2, 3, 4, 5, 6] [] rfl rfl (by decide) (by decide) (by decide) tYb_0 (fun _ _ _ => trivial) rfl hl.1 rfl (Nat.le_of_ble_eq_true rfl) dX3_eight_81 ⟨(show 0 ≤ 0 from by omega), (show 0 ≤ 0 from by omega)⟩ (fun u_ H locs hp hP hD hS => ?_)
                obtain ⟨ik2_3, rfl⟩ : ∃ z, z = u_ := ⟨_, rfl⟩
                have hc81_1 : ik2_3 = drw w g (cx + v) (cy + (-u)) bb k1 := hp
                subst hc81_1
                have hP : va_P D.1 clAll [(o, .inr (0, [.int (iI thr), .ref b1, .ref b2, .ref b3, .ref b4, .ref b5, .ref b6, .int (iI (w : Int)), .int (iI (g : Int))])), (b1, .inl (D.2 0, 1024, .inl (fun x_ => zI ((drw w g (cx + v) (cy + (-u)) bb k1) x_)))), (b2, .inl (D.2 0, 1024, .inl (fun x_ => zI (st x_)))), (b3, .inl (D.2 0, 1024, .inl (fun x_ => zI (kp x_)))), (b4, .inl (D.2 0, 1024, .inl (fun x_ => zI (go x_)))), (b5, .inl (D.2 1, 1024, .inl (fun x_ => iI (dp x_)))), (b6, .inl (D.2 1, 1024, .inl (fun x_ => iI (pt x_))))] H := hP
                have hD : va_D A [(o, .inr (0, [.int (iI thr), .ref b1, .ref b2, .ref b3, .ref b4, .ref b5, .ref b6, .int (iI (w : Int)), .int (iI (g : Int))])), (b1, .inl (D.2 0, 1024, .inl (fun x_ => zI ((drw w g (cx + v) (cy + (-u)) bb k1) x_)))), (b2, .inl (D.2 0, 1024, .inl (fun x_ => zI (st x_)))), (b3, .inl (D.2 0, 1024, .inl (fun x_ => zI (kp x_)))), (b4, .inl (D.2 0, 1024, .inl (fun x_ => zI (go x_)))), (b5, .inl (D.2 1, 1024, .inl (fun x_ => iI (dp x_)))), (b6, .inl (D.2 1, 1024, .inl (fun x_ => iI (pt x_))))] := hD
                refine W.eq (g2 := F0 m0 84 ls [.int (iI (drwN w g (cx + v) (cy + (-u)) bb k1)), .int (iI n)]) rfl ?_
                refine ti_iadd kx kb dX3_eight_84 ?_
                refine lv_istore (lv' := [(6, .int (iI (n + (drwN w g (cx + v) (cy + (-u)) bb k1)))), (9, .int (iI u)), (8, .int (iI v)), (7, .int (iI (i : Int))), (0, .ref o), (1, .int (iI cx)), (2, .int (iI cy)), (3, .int (iI u)), (4, .int (iI v)), (5, .int (zI bb))]) kx kb dX3_eight_85 hl (by decide) rfl (fun ls hl => ?_)
                refine ti_iinc (a := (i : Int)) (lv' := [(7, .int (iI ((i : Int) + 1))), (6, .int (iI (n + (drwN w g (cx + v) (cy + (-u)) bb k1)))), (9, .int (iI u)), (8, .int (iI v)), (0, .ref o), (1, .int (iI cx)), (2, .int (iI cy)), (3, .int (iI u)), (4, .int (iI v)), (5, .int (zI bb))]) kx kb dX3_eight_87 hl (k := 3) rfl (by decide) rfl (fun ls hl => ?_)
                refine lv_goto (tgt := 6) kx kb dX3_eight_90 (by decide) ?_
                exact ih6 (i + 1) (n + (drwN w g (cx + v) (cy + (-u)) bb k1)) (drw w g (cx + v) (cy + (-u)) bb k1) (by omega) (by simp only [eiL]; rw [cntL_app, ← hk1, ← hn]; simp [cntL, he]) (by simp only [eiL]; rw [drwL_app, ← hk1]; simp [drwL, he]) (by omega) H locs hP hD hS ls (lv_sub hl [0, 1, 4, 5, 6, 7, 8, 9] rfl)
              · refine lv_iload kx kb dX3_eight_70 (lv_at hl 0 rfl) ?_
                refine lv_goto (tgt := 78) kx kb dX3_eight_72 (by decide) ?_
                refine ti_iadd kx kb dX3_eight_78 ?_
                refine lv_iload kx kb dX3_eight_79 (lv_at hl 9 rfl) ?_
                have he : ei1 cx cy u v i = (cx + v, cy + u) := by unfold ei1; exact Prod.ext (by simp only []; (repeat' split) <;> omega) (by simp only []; (repeat' split) <;> omega)
                refine t_callV (wr := []) C (met_X3_draws l D E o b1 b2 b3 b4 b5 b6 thr w g k1 st kp go dp pt (cx + v) (cy + u) bb (by first | assumption | omega) (by first | assumption | omega) (by first | assumption | omega) (by first | assumption | omega)) (cwV 3 hts (lw_V q1426 q1428 qs27 q62 q1429) rfl rfl rfl (by decide +kernel) ⟨Nat.le_of_ble_eq_true rfl, Nat.le_of_ble_eq_true rfl⟩) (va_recv hK hP (ci := 0) (q0 := 0) rfl rfl) hK hX hP hD hS hA [0, 1, 2, 3, 4, 5, 6] [] rfl rfl (by decide) (by decide) (by decide) tYb_0 (fun _ _ _ => trivial) rfl hl.1 rfl (Nat.le_of_ble_eq_true rfl) dX3_eight_81 ⟨(show 0 ≤ 0 from by omega), (show 0 ≤ 0 from by omega)⟩ (fun u_ H locs hp hP hD hS => ?_)
                obtain ⟨ik2_4, rfl⟩ : ∃ z, z = u_ := ⟨_, rfl⟩
                have hc81_1 : ik2_4 = drw w g (cx + v) (cy + u) bb k1 := hp
                subst hc81_1
                have hP : va_P D.1 clAll [(o, .inr (0, [.int (iI thr), .ref b1, .ref b2, .ref b3, .ref b4, .ref b5, .ref b6, .int (iI (w : Int)), .int (iI (g : Int))])), (b1, .inl (D.2 0, 1024, .inl (fun x_ => zI ((drw w g (cx + v) (cy + u) bb k1) x_)))), (b2, .inl (D.2 0, 1024, .inl (fun x_ => zI (st x_)))), (b3, .inl (D.2 0, 1024, .inl (fun x_ => zI (kp x_)))), (b4, .inl (D.2 0, 1024, .inl (fun x_ => zI (go x_)))), (b5, .inl (D.2 1, 1024, .inl (fun x_ => iI (dp x_)))), (b6, .inl (D.2 1, 1024, .inl (fun x_ => iI (pt x_))))] H := hP
                have hD : va_D A [(o, .inr (0, [.int (iI thr), .ref b1, .ref b2, .ref b3, .ref b4, .ref b5, .ref b6, .int (iI (w : Int)), .int (iI (g : Int))])), (b1, .inl (D.2 0, 1024, .inl (fun x_ => zI ((drw w g (cx + v) (cy + u) bb k1) x_)))), (b2, .inl (D.2 0, 1024, .inl (fun x_ => zI (st x_)))), (b3, .inl (D.2 0, 1024, .inl (fun x_ => zI (kp x_)))), (b4, .inl (D.2 0, 1024, .inl (fun x_ => zI (go x_)))), (b5, .inl (D.2 1, 1024, .inl (fun x_ => iI (dp x_)))), (b6, .inl (D.2 1, 1024, .inl (fun x_ => iI (pt x_))))] := hD
                refine W.eq (g2 := F0 m0 84 ls [.int (iI (drwN w g (cx + v) (cy + u) bb k1)), .int (iI n)]) rfl ?_
                refine ti_iadd kx kb dX3_eight_84 ?_
                refine lv_istore (lv' := [(6, .int (iI (n + (drwN w g (cx + v) (cy + u) bb k1)))), (9, .int (iI u)), (8, .int (iI v)), (7, .int (iI (i : Int))), (0, .ref o), (1, .int (iI cx)), (2, .int (iI cy)), (3, .int (iI u)), (4, .int (iI v)), (5, .int (zI bb))]) kx kb dX3_eight_85 hl (by decide) rfl (fun ls hl => ?_)
                refine ti_iinc (a := (i : Int)) (lv' := [(7, .int (iI ((i : Int) + 1))), (6, .int (iI (n + (drwN w g (cx + v) (cy + u) bb k1)))), (9, .int (iI u)), (8, .int (iI v)), (0, .ref o), (1, .int (iI cx)), (2, .int (iI cy)), (3, .int (iI u)), (4, .int (iI v)), (5, .int (zI bb))]) kx kb dX3_eight_87 hl (k := 3) rfl (by decide) rfl (fun ls hl => ?_)
                refine lv_goto (tgt := 6) kx kb dX3_eight_90 (by decide) ?_
                exact ih6 (i + 1) (n + (drwN w g (cx + v) (cy + u) bb k1)) (drw w g (cx + v) (cy + u) bb k1) (by omega) (by simp only [eiL]; rw [cntL_app, ← hk1, ← hn]; simp [cntL, he]) (by simp only [eiL]; rw [drwL_app, ← hk1]; simp [drwL, he]) (by omega) H locs hP hD hS ls (lv_sub hl [0, 1, 4, 5, 6, 7, 8, 9] rfl)
          · omega
        · refine lv_iload_n kx kb dX3_eight_19 rfl (lv_at hl 5 rfl) ?_
          refine lv_goto (tgt := 25) kx kb dX3_eight_20 (by decide) ?_
          refine lv_istore (lv' := [(8, .int (iI u)), (7, .int (iI (i : Int))), (6, .int (iI n)), (0, .ref o), (1, .int (iI cx)), (2, .int (iI cy)), (3, .int (iI u)), (4, .int (iI v)), (5, .int (zI bb))]) kx kb dX3_eight_25 hl (by decide) rfl (fun ls hl => ?_)
          refine lv_iload kx kb dX3_eight_27 (lv_at hl 1 rfl) ?_
          refine lv_iconst (v := iI 4) kx kb dX3_eight_29 rfl ?_
          refine ti_icmp_ge (tgt := 38) kx kb (by omega) dX3_eight_30 (by decide) (fun h30 => ?_) (fun h30 => ?_)
          · omega
          · refine lv_iload kx kb dX3_eight_33 (lv_at hl 7 rfl) ?_
            refine lv_goto (tgt := 39) kx kb dX3_eight_35 (by decide) ?_
            refine lv_istore (lv' := [(9, .int (iI v)), (8, .int (iI u)), (7, .int (iI (i : Int))), (6, .int (iI n)), (0, .ref o), (1, .int (iI cx)), (2, .int (iI cy)), (3, .int (iI u)), (4, .int (iI v)), (5, .int (zI bb))]) kx kb dX3_eight_39 hl (by decide) rfl (fun ls hl => ?_)
            refine lv_iload kx kb dX3_eight_41 (lv_at hl 3 rfl) ?_
            refine lv_aload_n kx kb dX3_eight_43 rfl (lv_at hl 4 rfl) ?_
            refine lv_iload_n kx kb dX3_eight_44 rfl (lv_at hl 5 rfl) ?_
            refine lv_iload kx kb dX3_eight_45 (lv_at hl 2 rfl) ?_
            refine lv_iconst (v := iI 2) kx kb dX3_eight_47 rfl ?_
            refine ti_irem kx kb (by omega) dX3_eight_48 ?_
            refine ti_if_ne (tgt := 57) kx kb (by omega) dX3_eight_49 (by decide) (fun h49 => ?_) (fun h49 => ?_)
            · refine lv_iload kx kb dX3_eight_57 (lv_at hl 1 rfl) ?_
              refine ti_ineg kx kb dX3_eight_59 ?_
              refine ti_iadd kx kb dX3_eight_60 ?_
              refine lv_iload_n kx kb dX3_eight_61 rfl (lv_at hl 6 rfl) ?_
              refine lv_iload kx kb dX3_eight_62 (lv_at hl 2 rfl) ?_
              refine lv_iconst (v := iI 4) kx kb dX3_eight_64 rfl ?_
              refine ti_irem kx kb (by omega) dX3_eight_65 ?_
              refine lv_iconst (v := iI 2) kx kb dX3_eight_66 rfl ?_
              refine ti_icmp_ge (tgt := 75) kx kb (by omega) dX3_eight_67 (by decide) (fun h67 => ?_) (fun h67 => ?_)
              · refine lv_iload kx kb dX3_eight_75 (lv_at hl 0 rfl) ?_
                refine ti_ineg kx kb dX3_eight_77 ?_
                refine ti_iadd kx kb dX3_eight_78 ?_
                refine lv_iload kx kb dX3_eight_79 (lv_at hl 9 rfl) ?_
                have he : ei1 cx cy u v i = (cx + (-u), cy + (-v)) := by unfold ei1; exact Prod.ext (by simp only []; (repeat' split) <;> omega) (by simp only []; (repeat' split) <;> omega)
                refine t_callV (wr := []) C (met_X3_draws l D E o b1 b2 b3 b4 b5 b6 thr w g k1 st kp go dp pt (cx + (-u)) (cy + (-v)) bb (by first | assumption | omega) (by first | assumption | omega) (by first | assumption | omega) (by first | assumption | omega)) (cwV 3 hts (lw_V q1426 q1428 qs27 q62 q1429) rfl rfl rfl (by decide +kernel) ⟨Nat.le_of_ble_eq_true rfl, Nat.le_of_ble_eq_true rfl⟩) (va_recv hK hP (ci := 0) (q0 := 0) rfl rfl) hK hX hP hD hS hA [0, 1, 2, 3, 4, 5, 6] [] rfl rfl (by decide) (by decide) (by decide) tYb_0 (fun _ _ _ => trivial) rfl hl.1 rfl (Nat.le_of_ble_eq_true rfl) dX3_eight_81 ⟨(show 0 ≤ 0 from by omega), (show 0 ≤ 0 from by omega)⟩ (fun u_ H locs hp hP hD hS => ?_)
                obtain ⟨ik2_5, rfl⟩ : ∃ z, z = u_ := ⟨_, rfl⟩
                have hc81_1 : ik2_5 = drw w g (cx + (-u)) (cy + (-v)) bb k1 := hp
                subst hc81_1
                have hP : va_P D.1 clAll [(o, .inr (0, [.int (iI thr), .ref b1, .ref b2, .ref b3, .ref b4, .ref b5, .ref b6, .int (iI (w : Int)), .int (iI (g : Int))])), (b1, .inl (D.2 0, 1024, .inl (fun x_ => zI ((drw w g (cx + (-u)) (cy + (-v)) bb k1) x_)))), (b2, .inl (D.2 0, 1024, .inl (fun x_ => zI (st x_)))), (b3, .inl (D.2 0, 1024, .inl (fun x_ => zI (kp x_)))), (b4, .inl (D.2 0, 1024, .inl (fun x_ => zI (go x_)))), (b5, .inl (D.2 1, 1024, .inl (fun x_ => iI (dp x_)))), (b6, .inl (D.2 1, 1024, .inl (fun x_ => iI (pt x_))))] H := hP
                have hD : va_D A [(o, .inr (0, [.int (iI thr), .ref b1, .ref b2, .ref b3, .ref b4, .ref b5, .ref b6, .int (iI (w : Int)), .int (iI (g : Int))])), (b1, .inl (D.2 0, 1024, .inl (fun x_ => zI ((drw w g (cx + (-u)) (cy + (-v)) bb k1) x_)))), (b2, .inl (D.2 0, 1024, .inl (fun x_ => zI (st x_)))), (b3, .inl (D.2 0, 1024, .inl (fun x_ => zI (kp x_)))), (b4, .inl (D.2 0, 1024, .inl (fun x_ => zI (go x_)))), (b5, .inl (D.2 1, 1024, .inl (fun x_ => iI (dp x_)))), (b6, .inl (D.2 1, 1024, .inl (fun x_ => iI (pt x_))))] := hD
                refine W.eq (g2 := F0 m0 84 ls [.int (iI (drwN w g (cx + (-u)) (cy + (-v)) bb k1)), .int (iI n)]) rfl ?_
                refine ti_iadd kx kb dX3_eight_84 ?_
                refine lv_istore (lv' := [(6, .int (iI (n + (drwN w g (cx + (-u)) (cy + (-v)) bb k1)))), (9, .int (iI v)), (8, .int (iI u)), (7, .int (iI (i : Int))), (0, .ref o), (1, .int (iI cx)), (2, .int (iI cy)), (3, .int (iI u)), (4, .int (iI v)), (5, .int (zI bb))]) kx kb dX3_eight_85 hl (by decide) rfl (fun ls hl => ?_)
                refine ti_iinc (a := (i : Int)) (lv' := [(7, .int (iI ((i : Int) + 1))), (6, .int (iI (n + (drwN w g (cx + (-u)) (cy + (-v)) bb k1)))), (9, .int (iI v)), (8, .int (iI u)), (0, .ref o), (1, .int (iI cx)), (2, .int (iI cy)), (3, .int (iI u)), (4, .int (iI v)), (5, .int (zI bb))]) kx kb dX3_eight_87 hl (k := 3) rfl (by decide) rfl (fun ls hl => ?_)
                refine lv_goto (tgt := 6) kx kb dX3_eight_90 (by decide) ?_
                exact ih6 (i + 1) (n + (drwN w g (cx + (-u)) (cy + (-v)) bb k1)) (drw w g (cx + (-u)) (cy + (-v)) bb k1) (by omega) (by simp only [eiL]; rw [cntL_app, ← hk1, ← hn]; simp [cntL, he]) (by simp only [eiL]; rw [drwL_app, ← hk1]; simp [drwL, he]) (by omega) H locs hP hD hS ls (lv_sub hl [0, 1, 4, 5, 6, 7, 8, 9] rfl)
              · refine lv_iload kx kb dX3_eight_70 (lv_at hl 0 rfl) ?_
                refine lv_goto (tgt := 78) kx kb dX3_eight_72 (by decide) ?_
                refine ti_iadd kx kb dX3_eight_78 ?_
                refine lv_iload kx kb dX3_eight_79 (lv_at hl 9 rfl) ?_
                have he : ei1 cx cy u v i = (cx + (-u), cy + v) := by unfold ei1; exact Prod.ext (by simp only []; (repeat' split) <;> omega) (by simp only []; (repeat' split) <;> omega)
                refine t_callV (wr := []) C (met_X3_draws l D E o b1 b2 b3 b4 b5 b6 thr w g k1 st kp go dp pt (cx + (-u)) (cy + v) bb (by first | assumption | omega) (by first | assumption | omega) (by first | assumption | omega) (by first | assumption | omega)) (cwV 3 hts (lw_V q1426 q1428 qs27 q62 q1429) rfl rfl rfl (by decide +kernel) ⟨Nat.le_of_ble_eq_true rfl, Nat.le_of_ble_eq_true rfl⟩) (va_recv hK hP (ci := 0) (q0 := 0) rfl rfl) hK hX hP hD hS hA [0, 1, 2, 3, 4, 5, 6] [] rfl rfl (by decide) (by decide) (by decide) tYb_0 (fun _ _ _ => trivial) rfl hl.1 rfl (Nat.le_of_ble_eq_true rfl) dX3_eight_81 ⟨(show 0 ≤ 0 from by omega), (show 0 ≤ 0 from by omega)⟩ (fun u_ H locs hp hP hD hS => ?_)
                obtain ⟨ik2_6, rfl⟩ : ∃ z, z = u_ := ⟨_, rfl⟩
                have hc81_1 : ik2_6 = drw w g (cx + (-u)) (cy + v) bb k1 := hp
                subst hc81_1
                have hP : va_P D.1 clAll [(o, .inr (0, [.int (iI thr), .ref b1, .ref b2, .ref b3, .ref b4, .ref b5, .ref b6, .int (iI (w : Int)), .int (iI (g : Int))])), (b1, .inl (D.2 0, 1024, .inl (fun x_ => zI ((drw w g (cx + (-u)) (cy + v) bb k1) x_)))), (b2, .inl (D.2 0, 1024, .inl (fun x_ => zI (st x_)))), (b3, .inl (D.2 0, 1024, .inl (fun x_ => zI (kp x_)))), (b4, .inl (D.2 0, 1024, .inl (fun x_ => zI (go x_)))), (b5, .inl (D.2 1, 1024, .inl (fun x_ => iI (dp x_)))), (b6, .inl (D.2 1, 1024, .inl (fun x_ => iI (pt x_))))] H := hP
                have hD : va_D A [(o, .inr (0, [.int (iI thr), .ref b1, .ref b2, .ref b3, .ref b4, .ref b5, .ref b6, .int (iI (w : Int)), .int (iI (g : Int))])), (b1, .inl (D.2 0, 1024, .inl (fun x_ => zI ((drw w g (cx + (-u)) (cy + v) bb k1) x_)))), (b2, .inl (D.2 0, 1024, .inl (fun x_ => zI (st x_)))), (b3, .inl (D.2 0, 1024, .inl (fun x_ => zI (kp x_)))), (b4, .inl (D.2 0, 1024, .inl (fun x_ => zI (go x_)))), (b5, .inl (D.2 1, 1024, .inl (fun x_ => iI (dp x_)))), (b6, .inl (D.2 1, 1024, .inl (fun x_ => iI (pt x_))))] := hD
                refine W.eq (g2 := F0 m0 84 ls [.int (iI (drwN w g (cx + (-u)) (cy + v) bb k1)), .int (iI n)]) rfl ?_
                refine ti_iadd kx kb dX3_eight_84 ?_
                refine lv_istore (lv' := [(6, .int (iI (n + (drwN w g (cx + (-u)) (cy + v) bb k1)))), (9, .int (iI v)), (8, .int (iI u)), (7, .int (iI (i : Int))), (0, .ref o), (1, .int (iI cx)), (2, .int (iI cy)), (3, .int (iI u)), (4, .int (iI v)), (5, .int (zI bb))]) kx kb dX3_eight_85 hl (by decide) rfl (fun ls hl => ?_)
                refine ti_iinc (a := (i : Int)) (lv' := [(7, .int (iI ((i : Int) + 1))), (6, .int (iI (n + (drwN w g (cx + (-u)) (cy + v) bb k1)))), (9, .int (iI v)), (8, .int (iI u)), (0, .ref o), (1, .int (iI cx)), (2, .int (iI cy)), (3, .int (iI u)), (4, .int (iI v)), (5, .int (zI bb))]) kx kb dX3_eight_87 hl (k := 3) rfl (by decide) rfl (fun ls hl => ?_)
                refine lv_goto (tgt := 6) kx kb dX3_eight_90 (by decide) ?_
                exact ih6 (i + 1) (n + (drwN w g (cx + (-u)) (cy + v) bb k1)) (drw w g (cx + (-u)) (cy + v) bb k1) (by omega) (by simp only [eiL]; rw [cntL_app, ← hk1, ← hn]; simp [cntL, he]) (by simp only [eiL]; rw [drwL_app, ← hk1]; simp [drwL, he]) (by omega) H locs hP hD hS ls (lv_sub hl [0, 1, 4, 5, 6, 7, 8, 9] rfl)
            · refine lv_iload kx kb dX3_eight_52 (lv_at hl 1 rfl) ?_
              refine lv_goto (tgt := 60) kx kb dX3_eight_54 (by decide) ?_
              refine ti_iadd kx kb dX3_eight_60 ?_
              refine lv_iload_n kx kb dX3_eight_61 rfl (lv_at hl 6 rfl) ?_
              refine lv_iload kx kb dX3_eight_62 (lv_at hl 2 rfl) ?_
              refine lv_iconst (v := iI 4) kx kb dX3_eight_64 rfl ?_
              refine ti_irem kx kb (by omega) dX3_eight_65 ?_
              refine lv_iconst (v := iI 2) kx kb dX3_eight_66 rfl ?_
              refine ti_icmp_ge (tgt := 75) kx kb (by omega) dX3_eight_67 (by decide) (fun h67 => ?_) (fun h67 => ?_)
              · refine lv_iload kx kb dX3_eight_75 (lv_at hl 0 rfl) ?_
                refine ti_ineg kx kb dX3_eight_77 ?_
                refine ti_iadd kx kb dX3_eight_78 ?_
                refine lv_iload kx kb dX3_eight_79 (lv_at hl 9 rfl) ?_
                have he : ei1 cx cy u v i = (cx + u, cy + (-v)) := by unfold ei1; exact Prod.ext (by simp only []; (repeat' split) <;> omega) (by simp only []; (repeat' split) <;> omega)
                refine t_callV (wr := []) C (met_X3_draws l D E o b1 b2 b3 b4 b5 b6 thr w g k1 st kp go dp pt (cx + u) (cy + (-v)) bb (by first | assumption | omega) (by first | assumption | omega) (by first | assumption | omega) (by first | assumption | omega)) (cwV 3 hts (lw_V q1426 q1428 qs27 q62 q1429) rfl rfl rfl (by decide +kernel) ⟨Nat.le_of_ble_eq_true rfl, Nat.le_of_ble_eq_true rfl⟩) (va_recv hK hP (ci := 0) (q0 := 0) rfl rfl) hK hX hP hD hS hA [0, 1, 2, 3, 4, 5, 6] [] rfl rfl (by decide) (by decide) (by decide) tYb_0 (fun _ _ _ => trivial) rfl hl.1 rfl (Nat.le_of_ble_eq_true rfl) dX3_eight_81 ⟨(show 0 ≤ 0 from by omega), (show 0 ≤ 0 from by omega)⟩ (fun u_ H locs hp hP hD hS => ?_)
                obtain ⟨ik2_7, rfl⟩ : ∃ z, z = u_ := ⟨_, rfl⟩
                have hc81_1 : ik2_7 = drw w g (cx + u) (cy + (-v)) bb k1 := hp
                subst hc81_1
                have hP : va_P D.1 clAll [(o, .inr (0, [.int (iI thr), .ref b1, .ref b2, .ref b3, .ref b4, .ref b5, .ref b6, .int (iI (w : Int)), .int (iI (g : Int))])), (b1, .inl (D.2 0, 1024, .inl (fun x_ => zI ((drw w g (cx + u) (cy + (-v)) bb k1) x_)))), (b2, .inl (D.2 0, 1024, .inl (fun x_ => zI (st x_)))), (b3, .inl (D.2 0, 1024, .inl (fun x_ => zI (kp x_)))), (b4, .inl (D.2 0, 1024, .inl (fun x_ => zI (go x_)))), (b5, .inl (D.2 1, 1024, .inl (fun x_ => iI (dp x_)))), (b6, .inl (D.2 1, 1024, .inl (fun x_ => iI (pt x_))))] H := hP
                have hD : va_D A [(o, .inr (0, [.int (iI thr), .ref b1, .ref b2, .ref b3, .ref b4, .ref b5, .ref b6, .int (iI (w : Int)), .int (iI (g : Int))])), (b1, .inl (D.2 0, 1024, .inl (fun x_ => zI ((drw w g (cx + u) (cy + (-v)) bb k1) x_)))), (b2, .inl (D.2 0, 1024, .inl (fun x_ => zI (st x_)))), (b3, .inl (D.2 0, 1024, .inl (fun x_ => zI (kp x_)))), (b4, .inl (D.2 0, 1024, .inl (fun x_ => zI (go x_)))), (b5, .inl (D.2 1, 1024, .inl (fun x_ => iI (dp x_)))), (b6, .inl (D.2 1, 1024, .inl (fun x_ => iI (pt x_))))] := hD
                refine W.eq (g2 := F0 m0 84 ls [.int (iI (drwN w g (cx + u) (cy + (-v)) bb k1)), .int (iI n)]) rfl ?_
                refine ti_iadd kx kb dX3_eight_84 ?_
                refine lv_istore (lv' := [(6, .int (iI (n + (drwN w g (cx + u) (cy + (-v)) bb k1)))), (9, .int (iI v)), (8, .int (iI u)), (7, .int (iI (i : Int))), (0, .ref o), (1, .int (iI cx)), (2, .int (iI cy)), (3, .int (iI u)), (4, .int (iI v)), (5, .int (zI bb))]) kx kb dX3_eight_85 hl (by decide) rfl (fun ls hl => ?_)
                refine ti_iinc (a := (i : Int)) (lv' := [(7, .int (iI ((i : Int) + 1))), (6, .int (iI (n + (drwN w g (cx + u) (cy + (-v)) bb k1)))), (9, .int (iI v)), (8, .int (iI u)), (0, .ref o), (1, .int (iI cx)), (2, .int (iI cy)), (3, .int (iI u)), (4, .int (iI v)), (5, .int (zI bb))]) kx kb dX3_eight_87 hl (k := 3) rfl (by decide) rfl (fun ls hl => ?_)
                refine lv_goto (tgt := 6) kx kb dX3_eight_90 (by decide) ?_
                exact ih6 (i + 1) (n + (drwN w g (cx + u) (cy + (-v)) bb k1)) (drw w g (cx + u) (cy + (-v)) bb k1) (by omega) (by simp only [eiL]; rw [cntL_app, ← hk1, ← hn]; simp [cntL, he]) (by simp only [eiL]; rw [drwL_app, ← hk1]; simp [drwL, he]) (by omega) H locs hP hD hS ls (lv_sub hl [0, 1, 4, 5, 6, 7, 8, 9] rfl)
              · refine lv_iload kx kb dX3_eight_70 (lv_at hl 0 rfl) ?_
                refine lv_goto (tgt := 78) kx kb dX3_eight_72 (by decide) ?_
                refine ti_iadd kx kb dX3_eight_78 ?_
                refine lv_iload kx kb dX3_eight_79 (lv_at hl 9 rfl) ?_
                have he : ei1 cx cy u v i = (cx + u, cy + v) := by unfold ei1; exact Prod.ext (by simp only []; (repeat' split) <;> omega) (by simp only []; (repeat' split) <;> omega)
                refine t_callV (wr := []) C (met_X3_draws l D E o b1 b2 b3 b4 b5 b6 thr w g k1 st kp go dp pt (cx + u) (cy + v) bb (by first | assumption | omega) (by first | assumption | omega) (by first | assumption | omega) (by first | assumption | omega)) (cwV 3 hts (lw_V q1426 q1428 qs27 q62 q1429) rfl rfl rfl (by decide +kernel) ⟨Nat.le_of_ble_eq_true rfl, Nat.le_of_ble_eq_true rfl⟩) (va_recv hK hP (ci := 0) (q0 := 0) rfl rfl) hK hX hP hD hS hA [0, 1, 2, 3, 4, 5, 6] [] rfl rfl (by decide) (by decide) (by decide) tYb_0 (fun _ _ _ => trivial) rfl hl.1 rfl (Nat.le_of_ble_eq_true rfl) dX3_eight_81 ⟨(show 0 ≤ 0 from by omega), (show 0 ≤ 0 from by omega)⟩ (fun u_ H locs hp hP hD hS => ?_)
                obtain ⟨ik2_8, rfl⟩ : ∃ z, z = u_ := ⟨_, rfl⟩
                have hc81_1 : ik2_8 = drw w g (cx + u) (cy + v) bb k1 := hp
                subst hc81_1
                have hP : va_P D.1 clAll [(o, .inr (0, [.int (iI thr), .ref b1, .ref b2, .ref b3, .ref b4, .ref b5, .ref b6, .int (iI (w : Int)), .int (iI (g : Int))])), (b1, .inl (D.2 0, 1024, .inl (fun x_ => zI ((drw w g (cx + u) (cy + v) bb k1) x_)))), (b2, .inl (D.2 0, 1024, .inl (fun x_ => zI (st x_)))), (b3, .inl (D.2 0, 1024, .inl (fun x_ => zI (kp x_)))), (b4, .inl (D.2 0, 1024, .inl (fun x_ => zI (go x_)))), (b5, .inl (D.2 1, 1024, .inl (fun x_ => iI (dp x_)))), (b6, .inl (D.2 1, 1024, .inl (fun x_ => iI (pt x_))))] H := hP
                have hD : va_D A [(o, .inr (0, [.int (iI thr), .ref b1, .ref b2, .ref b3, .ref b4, .ref b5, .ref b6, .int (iI (w : Int)), .int (iI (g : Int))])), (b1, .inl (D.2 0, 1024, .inl (fun x_ => zI ((drw w g (cx + u) (cy + v) bb k1) x_)))), (b2, .inl (D.2 0, 1024, .inl (fun x_ => zI (st x_)))), (b3, .inl (D.2 0, 1024, .inl (fun x_ => zI (kp x_)))), (b4, .inl (D.2 0, 1024, .inl (fun x_ => zI (go x_)))), (b5, .inl (D.2 1, 1024, .inl (fun x_ => iI (dp x_)))), (b6, .inl (D.2 1, 1024, .inl (fun x_ => iI (pt x_))))] := hD
                refine W.eq (g2 := F0 m0 84 ls [.int (iI (drwN w g (cx + u) (cy + v) bb k1)), .int (iI n)]) rfl ?_
                refine ti_iadd kx kb dX3_eight_84 ?_
                refine lv_istore (lv' := [(6, .int (iI (n + (drwN w g (cx + u) (cy + v) bb k1)))), (9, .int (iI v)), (8, .int (iI u)), (7, .int (iI (i : Int))), (0, .ref o), (1, .int (iI cx)), (2, .int (iI cy)), (3, .int (iI u)), (4, .int (iI v)), (5, .int (zI bb))]) kx kb dX3_eight_85 hl (by decide) rfl (fun ls hl => ?_)
                refine ti_iinc (a := (i : Int)) (lv' := [(7, .int (iI ((i : Int) + 1))), (6, .int (iI (n + (drwN w g (cx + u) (cy + v) bb k1)))), (9, .int (iI v)), (8, .int (iI u)), (0, .ref o), (1, .int (iI cx)), (2, .int (iI cy)), (3, .int (iI u)), (4, .int (iI v)), (5, .int (zI bb))]) kx kb dX3_eight_87 hl (k := 3) rfl (by decide) rfl (fun ls hl => ?_)
                refine lv_goto (tgt := 6) kx kb dX3_eight_90 (by decide) ?_
                exact ih6 (i + 1) (n + (drwN w g (cx + u) (cy + v) bb k1)) (drw w g (cx + u) (cy + v) bb k1) (by omega) (by simp only [eiL]; rw [cntL_app, ← hk1, ← hn]; simp [cntL, he]) (by simp only [eiL]; rw [drwL_app, ← hk1]; simp [drwL, he]) (by omega) H locs hP hD hS ls (lv_sub hl [0, 1, 4, 5, 6, 7, 8, 9] rfl)
  exact cut6 ((8 - 0) + 1) 0 0 ik (by omega) (by rfl) (by rfl) (Nat.lt_succ_self _) s0.heap [] hP hD hS ls hl
set_option maxHeartbeats 4000000 in
set_option maxRecDepth 100000 in
theorem met_X3_circles (l : Launch) (D : TG) (E : TE) (o : Nat) (b1 : Nat) (b2 : Nat) (b3 : Nat) (b4 : Nat) (b5 : Nat) (b6 : Nat) (thr : Int) (w : Nat) (g : Nat) (ik : Nat → Bool) (st : Nat → Bool) (kp : Nat → Bool) (go : Nat → Bool) (dp : Nat → Int) (pt : Nat → Int) (cx : Int) (cy : Int) (r : Int) (bb : Bool) (hw : 1 ≤ w ∧ w ≤ 32) (hg : 1 ≤ g ∧ g ≤ 32) (rcx : -40 ≤ cx ∧ cx ≤ 72) (rcy : -40 ≤ cy ∧ cy ≤ 72) (hr : 0 ≤ r ∧ r ≤ 40) : tMet l yX3_circles cX3_circles 9 (some .int) 4 96 (0) (0) [.ref o, .int (iI cx), .int (iI cy), .int (iI r), .int (zI bb)] D E [(o, .inr (0, [.int (iI thr), .ref b1, .ref b2, .ref b3, .ref b4, .ref b5, .ref b6, .int (iI (w : Int)), .int (iI (g : Int))])), (b1, .inl (D.2 0, 1024, .inl (fun x_ => zI (ik x_)))), (b2, .inl (D.2 0, 1024, .inl (fun x_ => zI (st x_)))), (b3, .inl (D.2 0, 1024, .inl (fun x_ => zI (kp x_)))), (b4, .inl (D.2 0, 1024, .inl (fun x_ => zI (go x_)))), (b5, .inl (D.2 1, 1024, .inl (fun x_ => iI (dp x_)))), (b6, .inl (D.2 1, 1024, .inl (fun x_ => iI (pt x_))))] tY0 (S := (Nat → Bool)) (fun u_ => u_ = drwL w g bb (crA cx cy r) ik) (fun u_ => some (.int (iI ((chg ik (drwL w g bb (crA cx cy r) ik) (w * g) : Nat) : Int)))) (fun u_ => [(o, .inr (0, [.int (iI thr), .ref b1, .ref b2, .ref b3, .ref b4, .ref b5, .ref b6, .int (iI (w : Int)), .int (iI (g : Int))])), (b1, .inl (D.2 0, 1024, .inl (fun x_ => zI (u_ x_)))), (b2, .inl (D.2 0, 1024, .inl (fun x_ => zI (st x_)))), (b3, .inl (D.2 0, 1024, .inl (fun x_ => zI (kp x_)))), (b4, .inl (D.2 0, 1024, .inl (fun x_ => zI (go x_)))), (b5, .inl (D.2 1, 1024, .inl (fun x_ => iI (dp x_)))), (b6, .inl (D.2 1, 1024, .inl (fun x_ => iI (pt x_))))]) := by
  refine tu_met (by decide +kernel) (Nat.le_of_ble_eq_true rfl) ?_
  intro p0 e0 s0 m0 below meth c0 A ls args Q hag hQ C hK hX hY hP hD hA hAe hl
  obtain ⟨kx, kb, hml, hown, hts, -⟩ := id C
  have hS : va_S A s0.heap s0.heap [] := va_S.rf
  have hl : lv_has ls 9 [(0, .ref o), (1, .int (iI cx)), (2, .int (iI cy)), (3, .int (iI r)), (4, .int (zI bb))] := hl
  have hwg := wg_le hw hg
  refine lv_iconst (v := iI 0) kx kb dX3_circles_0 rfl ?_
  refine lv_istore (lv' := [(5, .int (iI 0)), (0, .ref o), (1, .int (iI cx)), (2, .int (iI cy)), (3, .int (iI r)), (4, .int (zI bb))]) kx kb dX3_circles_1 hl (by decide) rfl (fun ls hl => ?_)
  refine lv_iload_n kx kb dX3_circles_3 rfl (lv_at hl 4 rfl) ?_
  refine lv_istore (lv' := [(6, .int (iI r)), (5, .int (iI 0)), (0, .ref o), (1, .int (iI cx)), (2, .int (iI cy)), (3, .int (iI r)), (4, .int (zI bb))]) kx kb dX3_circles_4 hl (by decide) rfl (fun ls hl => ?_)
  refine lv_iconst (v := iI 1) kx kb dX3_circles_6 rfl ?_
  refine lv_iload_n kx kb dX3_circles_7 rfl (lv_at hl 5 rfl) ?_
  refine ti_isub kx kb dX3_circles_8 ?_
  refine lv_istore (lv' := [(7, .int (iI (1 - r))), (6, .int (iI r)), (5, .int (iI 0)), (0, .ref o), (1, .int (iI cx)), (2, .int (iI cy)), (3, .int (iI r)), (4, .int (zI bb))]) kx kb dX3_circles_9 hl (by decide) rfl (fun ls hl => ?_)
  refine lv_iconst (v := iI 0) kx kb dX3_circles_11 rfl ?_
  refine lv_istore (lv' := [(8, .int (iI 0)), (7, .int (iI (1 - r))), (6, .int (iI r)), (5, .int (iI 0)), (0, .ref o), (1, .int (iI cx)), (2, .int (iI cy)), (3, .int (iI r)), (4, .int (zI bb))]) kx kb dX3_circles_12 hl (by decide) rfl (fun ls hl => ?_)
  have cut14 : ∀ (fuel : Nat) (u : Int) (v : Int) (e : Int) (n : Int) (k1 : Nat → Bool) (f : Nat), (0 ≤ v ∧ v ≤ 41 ∧ u ≤ r ∧ v - 2 ≤ u ∧ -100 ≤ e ∧ e ≤ 100 + 5 * v ∧ u - v + 1 ≤ (f : Int)) → (drwL w g bb (crL cx cy f u v e) k1 = drwL w g bb (crA cx cy r) ik) → (n + cntL w g bb (crL cx cy f u v e) k1 = cntL w g bb (crA cx cy r) ik) → ((u - v + 1).toNat) < fuel → ∀ (H : Heap) (locs : List Loc), va_P D.1 clAll [(o, .inr (0, [.int (iI thr), .ref b1, .ref b2, .ref b3, .ref b4, .ref b5, .ref b6, .int (iI (w : Int)), .int (iI (g : Int))])), (b1, .inl (D.2 0, 1024, .inl (fun x_ => zI (k1 x_)))), (b2, .inl (D.2 0, 1024, .inl (fun x_ => zI (st x_)))), (b3, .inl (D.2 0, 1024, .inl (fun x_ => zI (kp x_)))), (b4, .inl (D.2 0, 1024, .inl (fun x_ => zI (go x_)))), (b5, .inl (D.2 1, 1024, .inl (fun x_ => iI (dp x_)))), (b6, .inl (D.2 1, 1024, .inl (fun x_ => iI (pt x_))))] H → va_D A [(o, .inr (0, [.int (iI thr), .ref b1, .ref b2, .ref b3, .ref b4, .ref b5, .ref b6, .int (iI (w : Int)), .int (iI (g : Int))])), (b1, .inl (D.2 0, 1024, .inl (fun x_ => zI (k1 x_)))), (b2, .inl (D.2 0, 1024, .inl (fun x_ => zI (st x_)))), (b3, .inl (D.2 0, 1024, .inl (fun x_ => zI (kp x_)))), (b4, .inl (D.2 0, 1024, .inl (fun x_ => zI (go x_)))), (b5, .inl (D.2 1, 1024, .inl (fun x_ => iI (dp x_)))), (b6, .inl (D.2 1, 1024, .inl (fun x_ => iI (pt x_))))] → va_S A s0.heap H locs → ∀ ls : Array Slot, lv_has ls 9 [(8, .int (iI v)), (7, .int (iI e)), (6, .int (iI u)), (5, .int (iI n)), (0, .ref o), (1, .int (iI cx)), (2, .int (iI cy)), (3, .int (iI r)), (4, .int (zI bb))] → W p0 l e0 ({ frames := 4, cells := 0, slots := 0, locals := 96 } : Room) s0 m0 args below meth c0 H locs (0) (0) Q (F0 m0 14 ls []) := by
    intro fuel
    induction fuel with
    | zero =>
      intro u v e n k1 f hu hT hn hfuel14
      exact absurd hfuel14 (Nat.not_lt_zero _)
    | succ fuel ih14 =>
      intro u v e n k1 f hu hT hn hfuel14 H locs hP hD hS ls hl
      refine lv_iload kx kb dX3_circles_14 (lv_at hl 2 rfl) ?_
      refine lv_iload kx kb dX3_circles_16 (lv_at hl 0 rfl) ?_
      refine ti_icmp_lt (tgt := 80) kx kb (by omega) dX3_circles_18 (by decide) (fun h18 => ?_) (fun h18 => ?_)
      · rw [crL_end h18] at hT hn
        have hT : k1 = drwL w g bb (crA cx cy r) ik := hT
        have hn : n + 0 = cntL w g bb (crA cx cy r) ik := hn
        refine lv_iload kx kb dX3_circles_80 (lv_at hl 3 rfl) ?_
        subst hQ
        exact tm_iret C k1 (by exact hT) hP hD hS (show 0 ≤ 0 from by omega) (show 0 ≤ 0 from by omega) (by rw [← cntL_eq, ← hn, Int.add_zero]) rfl dX3_circles_82
      · obtain ⟨f2, hf2, hgo⟩ := crL_go (cx := cx) (cy := cy) (e := e) h18 hu.2.2.2.2.2.2
        refine lv_iload kx kb dX3_circles_21 (lv_at hl 3 rfl) ?_
        refine lv_aload_n kx kb dX3_circles_23 rfl (lv_at hl 4 rfl) ?_
        refine lv_iload_n kx kb dX3_circles_24 rfl (lv_at hl 5 rfl) ?_
        refine lv_iload_n kx kb dX3_circles_25 rfl (lv_at hl 6 rfl) ?_
        refine lv_iload kx kb dX3_circles_26 (lv_at hl 2 rfl) ?_
        refine lv_iload kx kb dX3_circles_28 (lv_at hl 0 rfl) ?_
        refine lv_iload kx kb dX3_circles_30 (lv_at hl 8 rfl) ?_
        refine t_callV (wr := []) C (met_X3_eight l D E o b1 b2 b3 b4 b5 b6 thr w g k1 st kp go dp pt cx cy u v bb (by first | assumption | omega) (by first | assumption | omega) (by first | assumption | omega)) (cwV 5 hts (lw_V q1451 q1453 qs30 q62 q1454) rfl rfl rfl (by decide +kernel) ⟨Nat.le_of_ble_eq_true rfl, Nat.le_of_ble_eq_true rfl⟩) (va_recv hK hP (ci := 0) (q0 := 0) rfl rfl) hK hX hP hD hS hA [0, 1, 2, 3, 4, 5, 6] [] rfl rfl (by decide) (by decide) (by decide) tYb_0 (fun _ _ _ => trivial) rfl hl.1 rfl (Nat.le_of_ble_eq_true rfl) dX3_circles_32 ⟨(show 0 ≤ 0 from by omega), (show 0 ≤ 0 from by omega)⟩ (fun u_ H locs hp hP hD hS => ?_)
        obtain ⟨ik2_1, rfl⟩ : ∃ z, z = u_ := ⟨_, rfl⟩
        have hc32_1 : ik2_1 = drwL w g bb (eiL cx cy u v 8) k1 := hp
        subst hc32_1
        have hP : va_P D.1 clAll [(o, .inr (0, [.int (iI thr), .ref b1, .ref b2, .ref b3, .ref b4, .ref b5, .ref b6, .int (iI (w : Int)), .int (iI (g : Int))])), (b1, .inl (D.2 0, 1024, .inl (fun x_ => zI ((drwL w g bb (eiL cx cy u v 8) k1) x_)))), (b2, .inl (D.2 0, 1024, .inl (fun x_ => zI (st x_)))), (b3, .inl (D.2 0, 1024, .inl (fun x_ => zI (kp x_)))), (b4, .inl (D.2 0, 1024, .inl (fun x_ => zI (go x_)))), (b5, .inl (D.2 1, 1024, .inl (fun x_ => iI (dp x_)))), (b6, .inl (D.2 1, 1024, .inl (fun x_ => iI (pt x_))))] H := hP
        have hD : va_D A [(o, .inr (0, [.int (iI thr), .ref b1, .ref b2, .ref b3, .ref b4, .ref b5, .ref b6, .int (iI (w : Int)), .int (iI (g : Int))])), (b1, .inl (D.2 0, 1024, .inl (fun x_ => zI ((drwL w g bb (eiL cx cy u v 8) k1) x_)))), (b2, .inl (D.2 0, 1024, .inl (fun x_ => zI (st x_)))), (b3, .inl (D.2 0, 1024, .inl (fun x_ => zI (kp x_)))), (b4, .inl (D.2 0, 1024, .inl (fun x_ => zI (go x_)))), (b5, .inl (D.2 1, 1024, .inl (fun x_ => iI (dp x_)))), (b6, .inl (D.2 1, 1024, .inl (fun x_ => iI (pt x_))))] := hD
        refine W.eq (g2 := F0 m0 35 ls [.int (iI (cntL w g bb (eiL cx cy u v 8) k1)), .int (iI n)]) rfl ?_
        refine ti_iadd kx kb dX3_circles_35 ?_
        refine lv_istore (lv' := [(5, .int (iI (n + (cntL w g bb (eiL cx cy u v 8) k1)))), (8, .int (iI v)), (7, .int (iI e)), (6, .int (iI u)), (0, .ref o), (1, .int (iI cx)), (2, .int (iI cy)), (3, .int (iI r)), (4, .int (zI bb))]) kx kb dX3_circles_36 hl (by decide) rfl (fun ls hl => ?_)
        refine ti_iinc (a := v) (lv' := [(8, .int (iI (v + 1))), (5, .int (iI (n + (cntL w g bb (eiL cx cy u v 8) k1)))), (7, .int (iI e)), (6, .int (iI u)), (0, .ref o), (1, .int (iI cx)), (2, .int (iI cy)), (3, .int (iI r)), (4, .int (zI bb))]) kx kb dX3_circles_38 hl (k := 1) rfl (by decide) rfl (fun ls hl => ?_)
        refine lv_iload kx kb dX3_circles_41 (lv_at hl 2 rfl) ?_
        refine ti_if_ge (tgt := 60) kx kb (by omega) dX3_circles_43 (by decide) (fun h43 => ?_) (fun h43 => ?_)
        · refine ti_iinc (a := u) (lv' := [(6, .int (iI (u + (-1)))), (8, .int (iI (v + 1))), (5, .int (iI (n + (cntL w g bb (eiL cx cy u v 8) k1)))), (7, .int (iI e)), (0, .ref o), (1, .int (iI cx)), (2, .int (iI cy)), (3, .int (iI r)), (4, .int (zI bb))]) kx kb dX3_circles_60 hl (k := 3) rfl (by decide) rfl (fun ls hl => ?_)
          refine lv_iload kx kb dX3_circles_63 (lv_at hl 3 rfl) ?_
          refine lv_iconst (v := iI 2) kx kb dX3_circles_65 rfl ?_
          refine lv_iload kx kb dX3_circles_66 (lv_at hl 1 rfl) ?_
          refine lv_iload kx kb dX3_circles_68 (lv_at hl 0 rfl) ?_
          refine ti_isub kx kb dX3_circles_70 ?_
          refine ti_imul kx kb dX3_circles_71 ?_
          refine lv_iconst (v := iI 1) kx kb dX3_circles_72 rfl ?_
          refine ti_iadd kx kb dX3_circles_73 ?_
          refine ti_iadd kx kb dX3_circles_74 ?_
          refine lv_istore (lv' := [(7, .int (iI (e + ((2 * ((v + 1) - (u + (-1)))) + 1)))), (6, .int (iI (u + (-1)))), (8, .int (iI (v + 1))), (5, .int (iI (n + (cntL w g bb (eiL cx cy u v 8) k1)))), (0, .ref o), (1, .int (iI cx)), (2, .int (iI cy)), (3, .int (iI r)), (4, .int (zI bb))]) kx kb dX3_circles_75 hl (by decide) rfl (fun ls hl => ?_)
          refine lv_goto (tgt := 14) kx kb dX3_circles_77 (by decide) ?_
          exact ih14 (u + (-1)) (v + 1) (e + ((2 * ((v + 1) - (u + (-1)))) + 1)) (n + (cntL w g bb (eiL cx cy u v 8) k1)) (drwL w g bb (eiL cx cy u v 8) k1) f2 (by omega) (by rw [hgo, drwL_app] at hT; (first | rw [if_pos h43] at hT | rw [if_neg (by omega)] at hT); exact hT) (by rw [hgo, cntL_app] at hn; (first | rw [if_pos h43] at hn | rw [if_neg (by omega)] at hn); omega) (by omega) H locs hP hD hS ls (lv_sub hl [2, 0, 1, 3, 4, 5, 6, 7, 8] rfl)
        · refine lv_iload kx kb dX3_circles_46 (lv_at hl 2 rfl) ?_
          refine lv_iconst (v := iI 2) kx kb dX3_circles_48 rfl ?_
          refine lv_iload kx kb dX3_circles_49 (lv_at hl 0 rfl) ?_
          refine ti_imul kx kb dX3_circles_51 ?_
          refine lv_iconst (v := iI 1) kx kb dX3_circles_52 rfl ?_
          refine ti_iadd kx kb dX3_circles_53 ?_
          refine ti_iadd kx kb dX3_circles_54 ?_
          refine lv_istore (lv' := [(7, .int (iI (e + ((2 * (v + 1)) + 1)))), (8, .int (iI (v + 1))), (5, .int (iI (n + (cntL w g bb (eiL cx cy u v 8) k1)))), (6, .int (iI u)), (0, .ref o), (1, .int (iI cx)), (2, .int (iI cy)), (3, .int (iI r)), (4, .int (zI bb))]) kx kb dX3_circles_55 hl (by decide) rfl (fun ls hl => ?_)
          refine lv_goto (tgt := 14) kx kb dX3_circles_57 (by decide) ?_
          exact ih14 u (v + 1) (e + ((2 * (v + 1)) + 1)) (n + (cntL w g bb (eiL cx cy u v 8) k1)) (drwL w g bb (eiL cx cy u v 8) k1) f2 (by omega) (by rw [hgo, drwL_app] at hT; (first | rw [if_pos h43] at hT | rw [if_neg (by omega)] at hT); exact hT) (by rw [hgo, cntL_app] at hn; (first | rw [if_pos h43] at hn | rw [if_neg (by omega)] at hn); omega) (by omega) H locs hP hD hS ls (lv_sub hl [1, 0, 3, 2, 4, 5, 6, 7, 8] rfl)
  exact cut14 (((r - 0 + 1).toNat) + 1) r 0 (1 - r) 0 ik ((r + 1).toNat) (by omega) (by rfl) (by rw [Int.zero_add]; rfl) (Nat.lt_succ_self _) s0.heap [] hP hD hS ls hl
set_option maxHeartbeats 4000000 in
set_option maxRecDepth 100000 in
theorem met_X3_lines (l : Launch) (D : TG) (E : TE) (o : Nat) (b1 : Nat) (b2 : Nat) (b3 : Nat) (b4 : Nat) (b5 : Nat) (b6 : Nat) (thr : Int) (w : Nat) (g : Nat) (ik : Nat → Bool) (st : Nat → Bool) (kp : Nat → Bool) (go : Nat → Bool) (dp : Nat → Int) (pt : Nat → Int) (x1 : Int) (y1 : Int) (x2 : Int) (y2 : Int) (bb : Bool) (hw : 1 ≤ w ∧ w ≤ 32) (hg : 1 ≤ g ∧ g ≤ 32) (rx1 : -40 ≤ x1 ∧ x1 ≤ 72) (ry1 : -40 ≤ y1 ∧ y1 ≤ 72) (rx2 : -40 ≤ x2 ∧ x2 ≤ 72) (ry2 : -40 ≤ y2 ∧ y2 ≤ 72) : tMet l yX3_lines cX3_lines 13 (some .int) 3 67 (0) (0) [.ref o, .int (iI x1), .int (iI y1), .int (iI x2), .int (iI y2), .int (zI bb)] D E [(o, .inr (0, [.int (iI thr), .ref b1, .ref b2, .ref b3, .ref b4, .ref b5, .ref b6, .int (iI (w : Int)), .int (iI (g : Int))])), (b1, .inl (D.2 0, 1024, .inl (fun x_ => zI (ik x_)))), (b2, .inl (D.2 0, 1024, .inl (fun x_ => zI (st x_)))), (b3, .inl (D.2 0, 1024, .inl (fun x_ => zI (kp x_)))), (b4, .inl (D.2 0, 1024, .inl (fun x_ => zI (go x_)))), (b5, .inl (D.2 1, 1024, .inl (fun x_ => iI (dp x_)))), (b6, .inl (D.2 1, 1024, .inl (fun x_ => iI (pt x_))))] tY0 (S := (Nat → Bool)) (fun u_ => u_ = drwL w g bb (lnL x1 y1 x2 y2) ik) (fun u_ => some (.int (iI ((chg ik (drwL w g bb (lnL x1 y1 x2 y2) ik) (w * g) : Nat) : Int)))) (fun u_ => [(o, .inr (0, [.int (iI thr), .ref b1, .ref b2, .ref b3, .ref b4, .ref b5, .ref b6, .int (iI (w : Int)), .int (iI (g : Int))])), (b1, .inl (D.2 0, 1024, .inl (fun x_ => zI (u_ x_)))), (b2, .inl (D.2 0, 1024, .inl (fun x_ => zI (st x_)))), (b3, .inl (D.2 0, 1024, .inl (fun x_ => zI (kp x_)))), (b4, .inl (D.2 0, 1024, .inl (fun x_ => zI (go x_)))), (b5, .inl (D.2 1, 1024, .inl (fun x_ => iI (dp x_)))), (b6, .inl (D.2 1, 1024, .inl (fun x_ => iI (pt x_))))]) := by
  refine tu_met (by decide +kernel) (Nat.le_of_ble_eq_true rfl) ?_
  intro p0 e0 s0 m0 below meth c0 A ls args Q hag hQ C hK hX hY hP hD hA hAe hl
  obtain ⟨kx, kb, hml, hown, hts, -⟩ := id C
  have hS : va_S A s0.heap s0.heap [] := va_S.rf
  have hl : lv_has ls 13 [(0, .ref o), (1, .int (iI x1)), (2, .int (iI y1)), (3, .int (iI x2)), (4, .int (iI y2)), (5, .int (zI bb))] := hl
  have hwg := wg_le hw hg
  refine lv_iload_n kx kb dX3_lines_0 rfl (lv_at hl 3 rfl) ?_
  refine lv_iload_n kx kb dX3_lines_1 rfl (lv_at hl 1 rfl) ?_
  refine ti_isub kx kb dX3_lines_2 ?_
  refine ti_mabs kx kb (hml.trans hl.1.symm) hown (hts _ q1441) (hts _ q996) (hts _ q74) (hts _ q997) (Nat.le_of_ble_eq_true rfl) (Nat.le_of_ble_eq_true rfl) (show 0 ≤ 0 from by omega) (show 0 ≤ 0 from by omega) (by omega) dX3_lines_3 ?_
  refine lv_istore (lv' := [(6, .int (iI (tabs (x2 - x1)))), (0, .ref o), (1, .int (iI x1)), (2, .int (iI y1)), (3, .int (iI x2)), (4, .int (iI y2)), (5, .int (zI bb))]) kx kb dX3_lines_6 hl (by decide) rfl (fun ls hl => ?_)
  refine lv_iload kx kb dX3_lines_8 (lv_at hl 5 rfl) ?_
  refine lv_iload_n kx kb dX3_lines_10 rfl (lv_at hl 3 rfl) ?_
  refine ti_isub kx kb dX3_lines_11 ?_
  refine ti_mabs kx kb (hml.trans hl.1.symm) hown (hts _ q1441) (hts _ q996) (hts _ q74) (hts _ q997) (Nat.le_of_ble_eq_true rfl) (Nat.le_of_ble_eq_true rfl) (show 0 ≤ 0 from by omega) (show 0 ≤ 0 from by omega) (by omega) dX3_lines_12 ?_
  refine lv_istore (lv' := [(7, .int (iI (tabs (y2 - y1)))), (6, .int (iI (tabs (x2 - x1)))), (0, .ref o), (1, .int (iI x1)), (2, .int (iI y1)), (3, .int (iI x2)), (4, .int (iI y2)), (5, .int (zI bb))]) kx kb dX3_lines_15 hl (by decide) rfl (fun ls hl => ?_)
  refine lv_iload kx kb dX3_lines_17 (lv_at hl 1 rfl) ?_
  have hdx := tabs_nat (x2 - x1)
  have hdy := tabs_nat (y2 - y1)
  refine lv_iload kx kb dX3_lines_19 (lv_at hl 0 rfl) ?_
  refine ti_isub kx kb dX3_lines_21 ?_
  refine lv_istore (lv' := [(8, .int (iI ((tabs (x2 - x1)) - (tabs (y2 - y1))))), (7, .int (iI (tabs (y2 - y1)))), (6, .int (iI (tabs (x2 - x1)))), (0, .ref o), (1, .int (iI x1)), (2, .int (iI y1)), (3, .int (iI x2)), (4, .int (iI y2)), (5, .int (zI bb))]) kx kb dX3_lines_22 hl (by decide) rfl (fun ls hl => ?_)
  refine lv_iload_n kx kb dX3_lines_24 rfl (lv_at hl 4 rfl) ?_
  refine lv_istore (lv' := [(9, .int (iI x1)), (8, .int (iI ((tabs (x2 - x1)) - (tabs (y2 - y1))))), (7, .int (iI (tabs (y2 - y1)))), (6, .int (iI (tabs (x2 - x1)))), (0, .ref o), (1, .int (iI x1)), (2, .int (iI y1)), (3, .int (iI x2)), (4, .int (iI y2)), (5, .int (zI bb))]) kx kb dX3_lines_25 hl (by decide) rfl (fun ls hl => ?_)
  refine lv_iload_n kx kb dX3_lines_27 rfl (lv_at hl 6 rfl) ?_
  refine lv_istore (lv' := [(10, .int (iI y1)), (9, .int (iI x1)), (8, .int (iI ((tabs (x2 - x1)) - (tabs (y2 - y1))))), (7, .int (iI (tabs (y2 - y1)))), (6, .int (iI (tabs (x2 - x1)))), (0, .ref o), (1, .int (iI x1)), (2, .int (iI y1)), (3, .int (iI x2)), (4, .int (iI y2)), (5, .int (zI bb))]) kx kb dX3_lines_28 hl (by decide) rfl (fun ls hl => ?_)
  refine lv_aload_n kx kb dX3_lines_30 rfl (lv_at hl 5 rfl) ?_
  refine lv_iload kx kb dX3_lines_31 (lv_at hl 1 rfl) ?_
  refine lv_iload kx kb dX3_lines_33 (lv_at hl 0 rfl) ?_
  refine lv_iload kx kb dX3_lines_35 (lv_at hl 10 rfl) ?_
  refine t_callV (wr := []) C (met_X3_draws l D E o b1 b2 b3 b4 b5 b6 thr w g ik st kp go dp pt x1 y1 bb (by first | assumption | omega) (by first | assumption | omega) (by first | assumption | omega) (by first | assumption | omega)) (cwV 3 hts (lw_V q1426 q1428 qs27 q62 q1429) rfl rfl rfl (by decide +kernel) ⟨Nat.le_of_ble_eq_true rfl, Nat.le_of_ble_eq_true rfl⟩) (va_recv hK hP (ci := 0) (q0 := 0) rfl rfl) hK hX hP hD hS hA [0, 1, 2, 3, 4, 5, 6] [] rfl rfl (by decide) (by decide) (by decide) tYb_0 (fun _ _ _ => trivial) rfl hl.1 rfl (Nat.le_of_ble_eq_true rfl) dX3_lines_37 ⟨(show 0 ≤ 0 from by omega), (show 0 ≤ 0 from by omega)⟩ (fun u_ H locs hp hP hD hS => ?_)
  obtain ⟨ik2_1, rfl⟩ : ∃ z, z = u_ := ⟨_, rfl⟩
  have hc37_1 : ik2_1 = drw w g x1 y1 bb ik := hp
  subst hc37_1
  have hP : va_P D.1 clAll [(o, .inr (0, [.int (iI thr), .ref b1, .ref b2, .ref b3, .ref b4, .ref b5, .ref b6, .int (iI (w : Int)), .int (iI (g : Int))])), (b1, .inl (D.2 0, 1024, .inl (fun x_ => zI ((drw w g x1 y1 bb ik) x_)))), (b2, .inl (D.2 0, 1024, .inl (fun x_ => zI (st x_)))), (b3, .inl (D.2 0, 1024, .inl (fun x_ => zI (kp x_)))), (b4, .inl (D.2 0, 1024, .inl (fun x_ => zI (go x_)))), (b5, .inl (D.2 1, 1024, .inl (fun x_ => iI (dp x_)))), (b6, .inl (D.2 1, 1024, .inl (fun x_ => iI (pt x_))))] H := hP
  have hD : va_D A [(o, .inr (0, [.int (iI thr), .ref b1, .ref b2, .ref b3, .ref b4, .ref b5, .ref b6, .int (iI (w : Int)), .int (iI (g : Int))])), (b1, .inl (D.2 0, 1024, .inl (fun x_ => zI ((drw w g x1 y1 bb ik) x_)))), (b2, .inl (D.2 0, 1024, .inl (fun x_ => zI (st x_)))), (b3, .inl (D.2 0, 1024, .inl (fun x_ => zI (kp x_)))), (b4, .inl (D.2 0, 1024, .inl (fun x_ => zI (go x_)))), (b5, .inl (D.2 1, 1024, .inl (fun x_ => iI (dp x_)))), (b6, .inl (D.2 1, 1024, .inl (fun x_ => iI (pt x_))))] := hD
  refine W.eq (g2 := F0 m0 40 ls [.int (iI (drwN w g x1 y1 bb ik))]) rfl ?_
  refine lv_istore (lv' := [(11, .int (iI (drwN w g x1 y1 bb ik))), (10, .int (iI y1)), (9, .int (iI x1)), (8, .int (iI ((tabs (x2 - x1)) - (tabs (y2 - y1))))), (7, .int (iI (tabs (y2 - y1)))), (6, .int (iI (tabs (x2 - x1)))), (0, .ref o), (1, .int (iI x1)), (2, .int (iI y1)), (3, .int (iI x2)), (4, .int (iI y2)), (5, .int (zI bb))]) kx kb dX3_lines_40 hl (by decide) rfl (fun ls hl => ?_)
  have cut42 : ∀ (fuel : Nat) (a : Nat) (b : Nat) (f : Nat) (e : Int) (x : Int) (y : Int) (n : Int) (k1 : Nat → Bool), (a ≤ (x2 - x1).natAbs) → (b ≤ (y2 - y1).natAbs) → (((x2 - x1).natAbs - a) + ((y2 - y1).natAbs - b) ≤ f) → (e = lnE (x2 - x1).natAbs (y2 - y1).natAbs a b) → (x = x1 + tsg (x2 - x1) * (a : Int)) → (y = y1 + tsg (y2 - y1) * (b : Int)) → (drwL w g bb (lnT x1 y1 (tsg (x2 - x1)) (tsg (y2 - y1)) (x2 - x1).natAbs (y2 - y1).natAbs f a b) k1 = drwL w g bb (lnL x1 y1 x2 y2) ik) → (n + cntL w g bb (lnT x1 y1 (tsg (x2 - x1)) (tsg (y2 - y1)) (x2 - x1).natAbs (y2 - y1).natAbs f a b) k1 = cntL w g bb (lnL x1 y1 x2 y2) ik) → (((x2 - x1).natAbs - a) + ((y2 - y1).natAbs - b)) < fuel → ∀ (H : Heap) (locs : List Loc), va_P D.1 clAll [(o, .inr (0, [.int (iI thr), .ref b1, .ref b2, .ref b3, .ref b4, .ref b5, .ref b6, .int (iI (w : Int)), .int (iI (g : Int))])), (b1, .inl (D.2 0, 1024, .inl (fun x_ => zI (k1 x_)))), (b2, .inl (D.2 0, 1024, .inl (fun x_ => zI (st x_)))), (b3, .inl (D.2 0, 1024, .inl (fun x_ => zI (kp x_)))), (b4, .inl (D.2 0, 1024, .inl (fun x_ => zI (go x_)))), (b5, .inl (D.2 1, 1024, .inl (fun x_ => iI (dp x_)))), (b6, .inl (D.2 1, 1024, .inl (fun x_ => iI (pt x_))))] H → va_D A [(o, .inr (0, [.int (iI thr), .ref b1, .ref b2, .ref b3, .ref b4, .ref b5, .ref b6, .int (iI (w : Int)), .int (iI (g : Int))])), (b1, .inl (D.2 0, 1024, .inl (fun x_ => zI (k1 x_)))), (b2, .inl (D.2 0, 1024, .inl (fun x_ => zI (st x_)))), (b3, .inl (D.2 0, 1024, .inl (fun x_ => zI (kp x_)))), (b4, .inl (D.2 0, 1024, .inl (fun x_ => zI (go x_)))), (b5, .inl (D.2 1, 1024, .inl (fun x_ => iI (dp x_)))), (b6, .inl (D.2 1, 1024, .inl (fun x_ => iI (pt x_))))] → va_S A s0.heap H locs → ∀ ls : Array Slot, lv_has ls 13 [(11, .int (iI n)), (10, .int (iI y)), (9, .int (iI x)), (8, .int (iI e)), (7, .int (iI (tabs (y2 - y1)))), (6, .int (iI (tabs (x2 - x1)))), (0, .ref o), (1, .int (iI x1)), (2, .int (iI y1)), (3, .int (iI x2)), (4, .int (iI y2)), (5, .int (zI bb))] → W p0 l e0 ({ frames := 3, cells := 0, slots := 0, locals := 67 } : Room) s0 m0 args below meth c0 H locs (0) (0) Q (F0 m0 42 ls []) := by
    intro fuel
    induction fuel with
    | zero =>
      intro a b f e x y n k1 ha hb hf he hx hy hT hn hfuel42
      exact absurd hfuel42 (Nat.not_lt_zero _)
    | succ fuel ih42 =>
      intro a b f e x y n k1 ha hb hf he hx hy hT hn hfuel42 H locs hP hD hS ls hl
      have hta := tsg_mul (x2 - x1) a
      have htb := tsg_mul (y2 - y1) b
      have hrg := lnE_rng (a := a) (b := b) (dx := (x2 - x1).natAbs) (dy := (y2 - y1).natAbs) (by omega) (by omega) ha hb
      have hdx := tabs_nat (x2 - x1)
      have hdy := tabs_nat (y2 - y1)
      have hea := tsg_end ha
      have heb := tsg_end hb
      refine lv_iload kx kb dX3_lines_42 (lv_at hl 2 rfl) ?_
      refine lv_iload_n kx kb dX3_lines_44 rfl (lv_at hl 9 rfl) ?_
      refine ti_icmp_ne (tgt := 55) kx kb (by omega) dX3_lines_45 (by decide) (fun h45 => ?_) (fun h45 => ?_)
      · have hnd : ¬ (a = (x2 - x1).natAbs ∧ b = (y2 - y1).natAbs) := by omega
        have hst := ln_step ha hb hnd
        obtain ⟨f2, hf2, hgo⟩ := lnT_go (x1 := x1) (y1 := y1) (sx := tsg (x2 - x1)) (sy := tsg (y2 - y1)) ha hb hnd hf
        refine lv_iconst (v := iI 2) kx kb dX3_lines_55 rfl ?_
        refine lv_iload kx kb dX3_lines_56 (lv_at hl 3 rfl) ?_
        refine ti_imul kx kb dX3_lines_58 ?_
        refine lv_istore (lv' := [(12, .int (iI (2 * e))), (11, .int (iI n)), (10, .int (iI y)), (9, .int (iI x)), (8, .int (iI e)), (7, .int (iI (tabs (y2 - y1)))), (6, .int (iI (tabs (x2 - x1)))), (0, .ref o), (1, .int (iI x1)), (2, .int (iI y1)), (3, .int (iI x2)), (4, .int (iI y2)), (5, .int (zI bb))]) kx kb dX3_lines_59 hl (by decide) rfl (fun ls hl => ?_)
        refine lv_iload kx kb dX3_lines_61 (lv_at hl 0 rfl) ?_
        refine lv_iload kx kb dX3_lines_63 (lv_at hl 5 rfl) ?_
        refine ti_ineg kx kb dX3_lines_65 ?_
        refine ti_icmp_le (tgt := 87) kx kb (by omega) dX3_lines_66 (by decide) (fun h66 => ?_) (fun h66 => ?_)
        · refine lv_iload kx kb dX3_lines_87 (lv_at hl 0 rfl) ?_
          refine lv_iload kx kb dX3_lines_89 (lv_at hl 6 rfl) ?_
          refine ti_icmp_ge (tgt := 113) kx kb (by omega) dX3_lines_91 (by decide) (fun h91 => ?_) (fun h91 => ?_)
          · omega
          · refine lv_iload kx kb dX3_lines_94 (lv_at hl 4 rfl) ?_
            refine lv_iload kx kb dX3_lines_96 (lv_at hl 6 rfl) ?_
            refine ti_iadd kx kb dX3_lines_98 ?_
            refine lv_istore (lv' := [(8, .int (iI (e + (tabs (x2 - x1))))), (12, .int (iI (2 * e))), (11, .int (iI n)), (10, .int (iI y)), (9, .int (iI x)), (7, .int (iI (tabs (y2 - y1)))), (6, .int (iI (tabs (x2 - x1)))), (0, .ref o), (1, .int (iI x1)), (2, .int (iI y1)), (3, .int (iI x2)), (4, .int (iI y2)), (5, .int (zI bb))]) kx kb dX3_lines_99 hl (by decide) rfl (fun ls hl => ?_)
            refine lv_iload kx kb dX3_lines_101 (lv_at hl 3 rfl) ?_
            refine lv_iload kx kb dX3_lines_103 (lv_at hl 11 rfl) ?_
            refine lv_iload_n kx kb dX3_lines_105 rfl (lv_at hl 9 rfl) ?_
            refine ti_isub kx kb dX3_lines_106 ?_
            refine t_callRS C (met_J17_signum l D E (y2 - y1) (by first | assumption | omega)) (va_cwS 1 hts (lw_S q1442 q1250 q80 q1251) rfl rfl rfl (by decide +kernel) ⟨Nat.le_of_ble_eq_true rfl, Nat.le_of_ble_eq_true rfl⟩) hK hX hP hD hS hA [] rfl (by decide) tYb_0 (fun _ _ _ => trivial) rfl hl.1 rfl (Nat.le_of_ble_eq_true rfl) dX3_lines_107 ⟨(show 0 ≤ 0 from by omega), (show 0 ≤ 0 from by omega)⟩ ?_
            refine W.eq (g2 := F0 m0 110 ls [.int (iI (tsg (y2 - y1))), .int (iI y)]) rfl ?_
            refine ti_iadd kx kb dX3_lines_110 ?_
            refine lv_istore (lv' := [(10, .int (iI (y + (tsg (y2 - y1))))), (8, .int (iI (e + (tabs (x2 - x1))))), (12, .int (iI (2 * e))), (11, .int (iI n)), (9, .int (iI x)), (7, .int (iI (tabs (y2 - y1)))), (6, .int (iI (tabs (x2 - x1)))), (0, .ref o), (1, .int (iI x1)), (2, .int (iI y1)), (3, .int (iI x2)), (4, .int (iI y2)), (5, .int (zI bb))]) kx kb dX3_lines_111 hl (by decide) rfl (fun ls hl => ?_)
            refine lv_iload kx kb dX3_lines_113 (lv_at hl 3 rfl) ?_
            refine lv_aload_n kx kb dX3_lines_115 rfl (lv_at hl 7 rfl) ?_
            refine lv_iload kx kb dX3_lines_116 (lv_at hl 4 rfl) ?_
            refine lv_iload kx kb dX3_lines_118 (lv_at hl 0 rfl) ?_
            refine lv_iload kx kb dX3_lines_120 (lv_at hl 12 rfl) ?_
            have hqa : lnA (x2 - x1).natAbs (y2 - y1).natAbs a b = a := by unfold lnA; rw [if_neg (by omega)]
            have hqb : lnB (x2 - x1).natAbs (y2 - y1).natAbs a b = b + 1 := by unfold lnB; rw [if_pos (by omega)]
            have hX2 : x = x1 + tsg (x2 - x1) * ((lnA (x2 - x1).natAbs (y2 - y1).natAbs a b : Nat) : Int) := by rw [hqa, hx]
            have hY2 : y + (tsg (y2 - y1)) = y1 + tsg (y2 - y1) * ((lnB (x2 - x1).natAbs (y2 - y1).natAbs a b : Nat) : Int) := by rw [hqb, hy]; rw [Int.natCast_add, Int.mul_add]; omega
            have hE : e + (tabs (x2 - x1)) = lnE (x2 - x1).natAbs (y2 - y1).natAbs (lnA (x2 - x1).natAbs (y2 - y1).natAbs a b) (lnB (x2 - x1).natAbs (y2 - y1).natAbs a b) := by rw [hqa, hqb]; rw [lnE_b]; omega
            have hta2 := tsg_mul (x2 - x1) (lnA (x2 - x1).natAbs (y2 - y1).natAbs a b)
            have htb2 := tsg_mul (y2 - y1) (lnB (x2 - x1).natAbs (y2 - y1).natAbs a b)
            have hst1 := hst.1
            have hst2 := hst.2.1
            have hst3 := hst.2.2
            refine t_callV (wr := []) C (met_X3_draws l D E o b1 b2 b3 b4 b5 b6 thr w g k1 st kp go dp pt x (y + (tsg (y2 - y1))) bb (by first | assumption | omega) (by first | assumption | omega) (by first | assumption | omega) (by first | assumption | omega)) (cwV 3 hts (lw_V q1426 q1428 qs27 q62 q1429) rfl rfl rfl (by decide +kernel) ⟨Nat.le_of_ble_eq_true rfl, Nat.le_of_ble_eq_true rfl⟩) (va_recv hK hP (ci := 0) (q0 := 0) rfl rfl) hK hX hP hD hS hA [0, 1, 2, 3, 4, 5, 6] [] rfl rfl (by decide) (by decide) (by decide) tYb_0 (fun _ _ _ => trivial) rfl hl.1 rfl (Nat.le_of_ble_eq_true rfl) dX3_lines_122 ⟨(show 0 ≤ 0 from by omega), (show 0 ≤ 0 from by omega)⟩ (fun u_ H locs hp hP hD hS => ?_)
            obtain ⟨ik2_2, rfl⟩ : ∃ z, z = u_ := ⟨_, rfl⟩
            have hc122_1 : ik2_2 = drw w g x (y + (tsg (y2 - y1))) bb k1 := hp
            subst hc122_1
            have hP : va_P D.1 clAll [(o, .inr (0, [.int (iI thr), .ref b1, .ref b2, .ref b3, .ref b4, .ref b5, .ref b6, .int (iI (w : Int)), .int (iI (g : Int))])), (b1, .inl (D.2 0, 1024, .inl (fun x_ => zI ((drw w g x (y + (tsg (y2 - y1))) bb k1) x_)))), (b2, .inl (D.2 0, 1024, .inl (fun x_ => zI (st x_)))), (b3, .inl (D.2 0, 1024, .inl (fun x_ => zI (kp x_)))), (b4, .inl (D.2 0, 1024, .inl (fun x_ => zI (go x_)))), (b5, .inl (D.2 1, 1024, .inl (fun x_ => iI (dp x_)))), (b6, .inl (D.2 1, 1024, .inl (fun x_ => iI (pt x_))))] H := hP
            have hD : va_D A [(o, .inr (0, [.int (iI thr), .ref b1, .ref b2, .ref b3, .ref b4, .ref b5, .ref b6, .int (iI (w : Int)), .int (iI (g : Int))])), (b1, .inl (D.2 0, 1024, .inl (fun x_ => zI ((drw w g x (y + (tsg (y2 - y1))) bb k1) x_)))), (b2, .inl (D.2 0, 1024, .inl (fun x_ => zI (st x_)))), (b3, .inl (D.2 0, 1024, .inl (fun x_ => zI (kp x_)))), (b4, .inl (D.2 0, 1024, .inl (fun x_ => zI (go x_)))), (b5, .inl (D.2 1, 1024, .inl (fun x_ => iI (dp x_)))), (b6, .inl (D.2 1, 1024, .inl (fun x_ => iI (pt x_))))] := hD
            refine W.eq (g2 := F0 m0 125 ls [.int (iI (drwN w g x (y + (tsg (y2 - y1))) bb k1)), .int (iI n)]) rfl ?_
            refine ti_iadd kx kb dX3_lines_125 ?_
            refine lv_istore (lv' := [(11, .int (iI (n + (drwN w g x (y + (tsg (y2 - y1))) bb k1)))), (10, .int (iI (y + (tsg (y2 - y1))))), (8, .int (iI (e + (tabs (x2 - x1))))), (12, .int (iI (2 * e))), (9, .int (iI x)), (7, .int (iI (tabs (y2 - y1)))), (6, .int (iI (tabs (x2 - x1)))), (0, .ref o), (1, .int (iI x1)), (2, .int (iI y1)), (3, .int (iI x2)), (4, .int (iI y2)), (5, .int (zI bb))]) kx kb dX3_lines_126 hl (by decide) rfl (fun ls hl => ?_)
            refine lv_goto (tgt := 42) kx kb dX3_lines_128 (by decide) ?_
            exact ih42 (lnA (x2 - x1).natAbs (y2 - y1).natAbs a b) (lnB (x2 - x1).natAbs (y2 - y1).natAbs a b) f2 (e + (tabs (x2 - x1))) x (y + (tsg (y2 - y1))) (n + (drwN w g x (y + (tsg (y2 - y1))) bb k1)) (drw w g x (y + (tsg (y2 - y1))) bb k1) (hst.1) (hst.2.1) (by omega) (by exact hE) (by exact hX2) (by exact hY2) (by rw [hgo] at hT; rw [hX2, hY2]; exact hT) (by rw [hgo] at hn; simp only [cntL] at hn; rw [hX2, hY2]; omega) (by omega) H locs hP hD hS ls (lv_sub hl [0, 1, 4, 2, 5, 6, 7, 8, 9, 10, 11, 12] rfl)
        · refine lv_iload kx kb dX3_lines_69 (lv_at hl 4 rfl) ?_
          refine lv_iload kx kb dX3_lines_71 (lv_at hl 5 rfl) ?_
          refine ti_isub kx kb dX3_lines_73 ?_
          refine lv_istore (lv' := [(8, .int (iI (e - (tabs (y2 - y1))))), (12, .int (iI (2 * e))), (11, .int (iI n)), (10, .int (iI y)), (9, .int (iI x)), (7, .int (iI (tabs (y2 - y1)))), (6, .int (iI (tabs (x2 - x1)))), (0, .ref o), (1, .int (iI x1)), (2, .int (iI y1)), (3, .int (iI x2)), (4, .int (iI y2)), (5, .int (zI bb))]) kx kb dX3_lines_74 hl (by decide) rfl (fun ls hl => ?_)
          refine lv_iload kx kb dX3_lines_76 (lv_at hl 4 rfl) ?_
          refine lv_iload_n kx kb dX3_lines_78 rfl (lv_at hl 10 rfl) ?_
          refine lv_iload_n kx kb dX3_lines_79 rfl (lv_at hl 8 rfl) ?_
          refine ti_isub kx kb dX3_lines_80 ?_
          refine t_callRS C (met_J17_signum l D E (x2 - x1) (by first | assumption | omega)) (va_cwS 1 hts (lw_S q1442 q1250 q80 q1251) rfl rfl rfl (by decide +kernel) ⟨Nat.le_of_ble_eq_true rfl, Nat.le_of_ble_eq_true rfl⟩) hK hX hP hD hS hA [] rfl (by decide) tYb_0 (fun _ _ _ => trivial) rfl hl.1 rfl (Nat.le_of_ble_eq_true rfl) dX3_lines_81 ⟨(show 0 ≤ 0 from by omega), (show 0 ≤ 0 from by omega)⟩ ?_
          refine W.eq (g2 := F0 m0 84 ls [.int (iI (tsg (x2 - x1))), .int (iI x)]) rfl ?_
          refine ti_iadd kx kb dX3_lines_84 ?_
          refine lv_istore (lv' := [(9, .int (iI (x + (tsg (x2 - x1))))), (8, .int (iI (e - (tabs (y2 - y1))))), (12, .int (iI (2 * e))), (11, .int (iI n)), (10, .int (iI y)), (7, .int (iI (tabs (y2 - y1)))), (6, .int (iI (tabs (x2 - x1)))), (0, .ref o), (1, .int (iI x1)), (2, .int (iI y1)), (3, .int (iI x2)), (4, .int (iI y2)), (5, .int (zI bb))]) kx kb dX3_lines_85 hl (by decide) rfl (fun ls hl => ?_)
          refine lv_iload kx kb dX3_lines_87 (lv_at hl 2 rfl) ?_
          refine lv_iload kx kb dX3_lines_89 (lv_at hl 6 rfl) ?_
          refine ti_icmp_ge (tgt := 113) kx kb (by omega) dX3_lines_91 (by decide) (fun h91 => ?_) (fun h91 => ?_)
          · refine lv_iload kx kb dX3_lines_113 (lv_at hl 3 rfl) ?_
            refine lv_aload_n kx kb dX3_lines_115 rfl (lv_at hl 7 rfl) ?_
            refine lv_iload kx kb dX3_lines_116 (lv_at hl 0 rfl) ?_
            refine lv_iload kx kb dX3_lines_118 (lv_at hl 4 rfl) ?_
            refine lv_iload kx kb dX3_lines_120 (lv_at hl 12 rfl) ?_
            have hqa : lnA (x2 - x1).natAbs (y2 - y1).natAbs a b = a + 1 := by unfold lnA; rw [if_pos (by omega)]
            have hqb : lnB (x2 - x1).natAbs (y2 - y1).natAbs a b = b := by unfold lnB; rw [if_neg (by omega)]
            have hX2 : x + (tsg (x2 - x1)) = x1 + tsg (x2 - x1) * ((lnA (x2 - x1).natAbs (y2 - y1).natAbs a b : Nat) : Int) := by rw [hqa, hx]; rw [Int.natCast_add, Int.mul_add]; omega
            have hY2 : y = y1 + tsg (y2 - y1) * ((lnB (x2 - x1).natAbs (y2 - y1).natAbs a b : Nat) : Int) := by rw [hqb, hy]
            have hE : e - (tabs (y2 - y1)) = lnE (x2 - x1).natAbs (y2 - y1).natAbs (lnA (x2 - x1).natAbs (y2 - y1).natAbs a b) (lnB (x2 - x1).natAbs (y2 - y1).natAbs a b) := by rw [hqa, hqb]; rw [lnE_a]; omega
            have hta2 := tsg_mul (x2 - x1) (lnA (x2 - x1).natAbs (y2 - y1).natAbs a b)
            have htb2 := tsg_mul (y2 - y1) (lnB (x2 - x1).natAbs (y2 - y1).natAbs a b)
            have hst1 := hst.1
            have hst2 := hst.2.1
            have hst3 := hst.2.2
            refine t_callV (wr := []) C (met_X3_draws l D E o b1 b2 b3 b4 b5 b6 thr w g k1 st kp go dp pt (x + (tsg (x2 - x1))) y bb (by first | assumption | omega) (by first | assumption | omega) (by first | assumption | omega) (by first | assumption | omega)) (cwV 3 hts (lw_V q1426 q1428 qs27 q62 q1429) rfl rfl rfl (by decide +kernel) ⟨Nat.le_of_ble_eq_true rfl, Nat.le_of_ble_eq_true rfl⟩) (va_recv hK hP (ci := 0) (q0 := 0) rfl rfl) hK hX hP hD hS hA [0, 1, 2, 3, 4, 5, 6] [] rfl rfl (by decide) (by decide) (by decide) tYb_0 (fun _ _ _ => trivial) rfl hl.1 rfl (Nat.le_of_ble_eq_true rfl) dX3_lines_122 ⟨(show 0 ≤ 0 from by omega), (show 0 ≤ 0 from by omega)⟩ (fun u_ H locs hp hP hD hS => ?_)
            obtain ⟨ik2_3, rfl⟩ : ∃ z, z = u_ := ⟨_, rfl⟩
            have hc122_1 : ik2_3 = drw w g (x + (tsg (x2 - x1))) y bb k1 := hp
            subst hc122_1
            have hP : va_P D.1 clAll [(o, .inr (0, [.int (iI thr), .ref b1, .ref b2, .ref b3, .ref b4, .ref b5, .ref b6, .int (iI (w : Int)), .int (iI (g : Int))])), (b1, .inl (D.2 0, 1024, .inl (fun x_ => zI ((drw w g (x + (tsg (x2 - x1))) y bb k1) x_)))), (b2, .inl (D.2 0, 1024, .inl (fun x_ => zI (st x_)))), (b3, .inl (D.2 0, 1024, .inl (fun x_ => zI (kp x_)))), (b4, .inl (D.2 0, 1024, .inl (fun x_ => zI (go x_)))), (b5, .inl (D.2 1, 1024, .inl (fun x_ => iI (dp x_)))), (b6, .inl (D.2 1, 1024, .inl (fun x_ => iI (pt x_))))] H := hP
            have hD : va_D A [(o, .inr (0, [.int (iI thr), .ref b1, .ref b2, .ref b3, .ref b4, .ref b5, .ref b6, .int (iI (w : Int)), .int (iI (g : Int))])), (b1, .inl (D.2 0, 1024, .inl (fun x_ => zI ((drw w g (x + (tsg (x2 - x1))) y bb k1) x_)))), (b2, .inl (D.2 0, 1024, .inl (fun x_ => zI (st x_)))), (b3, .inl (D.2 0, 1024, .inl (fun x_ => zI (kp x_)))), (b4, .inl (D.2 0, 1024, .inl (fun x_ => zI (go x_)))), (b5, .inl (D.2 1, 1024, .inl (fun x_ => iI (dp x_)))), (b6, .inl (D.2 1, 1024, .inl (fun x_ => iI (pt x_))))] := hD
            refine W.eq (g2 := F0 m0 125 ls [.int (iI (drwN w g (x + (tsg (x2 - x1))) y bb k1)), .int (iI n)]) rfl ?_
            refine ti_iadd kx kb dX3_lines_125 ?_
            refine lv_istore (lv' := [(11, .int (iI (n + (drwN w g (x + (tsg (x2 - x1))) y bb k1)))), (9, .int (iI (x + (tsg (x2 - x1))))), (8, .int (iI (e - (tabs (y2 - y1))))), (12, .int (iI (2 * e))), (10, .int (iI y)), (7, .int (iI (tabs (y2 - y1)))), (6, .int (iI (tabs (x2 - x1)))), (0, .ref o), (1, .int (iI x1)), (2, .int (iI y1)), (3, .int (iI x2)), (4, .int (iI y2)), (5, .int (zI bb))]) kx kb dX3_lines_126 hl (by decide) rfl (fun ls hl => ?_)
            refine lv_goto (tgt := 42) kx kb dX3_lines_128 (by decide) ?_
            exact ih42 (lnA (x2 - x1).natAbs (y2 - y1).natAbs a b) (lnB (x2 - x1).natAbs (y2 - y1).natAbs a b) f2 (e - (tabs (y2 - y1))) (x + (tsg (x2 - x1))) y (n + (drwN w g (x + (tsg (x2 - x1))) y bb k1)) (drw w g (x + (tsg (x2 - x1))) y bb k1) (hst.1) (hst.2.1) (by omega) (by exact hE) (by exact hX2) (by exact hY2) (by rw [hgo] at hT; rw [hX2, hY2]; exact hT) (by rw [hgo] at hn; simp only [cntL] at hn; rw [hX2, hY2]; omega) (by omega) H locs hP hD hS ls (lv_sub hl [0, 4, 1, 2, 5, 6, 7, 8, 9, 10, 11, 12] rfl)
          · refine lv_iload kx kb dX3_lines_94 (lv_at hl 1 rfl) ?_
            refine lv_iload kx kb dX3_lines_96 (lv_at hl 6 rfl) ?_
            refine ti_iadd kx kb dX3_lines_98 ?_
            refine lv_istore (lv' := [(8, .int (iI ((e - (tabs (y2 - y1))) + (tabs (x2 - x1))))), (9, .int (iI (x + (tsg (x2 - x1))))), (12, .int (iI (2 * e))), (11, .int (iI n)), (10, .int (iI y)), (7, .int (iI (tabs (y2 - y1)))), (6, .int (iI (tabs (x2 - x1)))), (0, .ref o), (1, .int (iI x1)), (2, .int (iI y1)), (3, .int (iI x2)), (4, .int (iI y2)), (5, .int (zI bb))]) kx kb dX3_lines_99 hl (by decide) rfl (fun ls hl => ?_)
            refine lv_iload kx kb dX3_lines_101 (lv_at hl 4 rfl) ?_
            refine lv_iload kx kb dX3_lines_103 (lv_at hl 11 rfl) ?_
            refine lv_iload_n kx kb dX3_lines_105 rfl (lv_at hl 9 rfl) ?_
            refine ti_isub kx kb dX3_lines_106 ?_
            refine t_callRS C (met_J17_signum l D E (y2 - y1) (by first | assumption | omega)) (va_cwS 1 hts (lw_S q1442 q1250 q80 q1251) rfl rfl rfl (by decide +kernel) ⟨Nat.le_of_ble_eq_true rfl, Nat.le_of_ble_eq_true rfl⟩) hK hX hP hD hS hA [] rfl (by decide) tYb_0 (fun _ _ _ => trivial) rfl hl.1 rfl (Nat.le_of_ble_eq_true rfl) dX3_lines_107 ⟨(show 0 ≤ 0 from by omega), (show 0 ≤ 0 from by omega)⟩ ?_
            refine W.eq (g2 := F0 m0 110 ls [.int (iI (tsg (y2 - y1))), .int (iI y)]) rfl ?_
            refine ti_iadd kx kb dX3_lines_110 ?_
            refine lv_istore (lv' := [(10, .int (iI (y + (tsg (y2 - y1))))), (8, .int (iI ((e - (tabs (y2 - y1))) + (tabs (x2 - x1))))), (9, .int (iI (x + (tsg (x2 - x1))))), (12, .int (iI (2 * e))), (11, .int (iI n)), (7, .int (iI (tabs (y2 - y1)))), (6, .int (iI (tabs (x2 - x1)))), (0, .ref o), (1, .int (iI x1)), (2, .int (iI y1)), (3, .int (iI x2)), (4, .int (iI y2)), (5, .int (zI bb))]) kx kb dX3_lines_111 hl (by decide) rfl (fun ls hl => ?_)
            refine lv_iload kx kb dX3_lines_113 (lv_at hl 4 rfl) ?_
            refine lv_aload_n kx kb dX3_lines_115 rfl (lv_at hl 7 rfl) ?_
            refine lv_iload kx kb dX3_lines_116 (lv_at hl 2 rfl) ?_
            refine lv_iload kx kb dX3_lines_118 (lv_at hl 0 rfl) ?_
            refine lv_iload kx kb dX3_lines_120 (lv_at hl 12 rfl) ?_
            have hqa : lnA (x2 - x1).natAbs (y2 - y1).natAbs a b = a + 1 := by unfold lnA; rw [if_pos (by omega)]
            have hqb : lnB (x2 - x1).natAbs (y2 - y1).natAbs a b = b + 1 := by unfold lnB; rw [if_pos (by omega)]
            have hX2 : x + (tsg (x2 - x1)) = x1 + tsg (x2 - x1) * ((lnA (x2 - x1).natAbs (y2 - y1).natAbs a b : Nat) : Int) := by rw [hqa, hx]; rw [Int.natCast_add, Int.mul_add]; omega
            have hY2 : y + (tsg (y2 - y1)) = y1 + tsg (y2 - y1) * ((lnB (x2 - x1).natAbs (y2 - y1).natAbs a b : Nat) : Int) := by rw [hqb, hy]; rw [Int.natCast_add, Int.mul_add]; omega
            have hE : (e - (tabs (y2 - y1))) + (tabs (x2 - x1)) = lnE (x2 - x1).natAbs (y2 - y1).natAbs (lnA (x2 - x1).natAbs (y2 - y1).natAbs a b) (lnB (x2 - x1).natAbs (y2 - y1).natAbs a b) := by rw [hqa, hqb]; rw [lnE_a, lnE_b]; omega
            have hta2 := tsg_mul (x2 - x1) (lnA (x2 - x1).natAbs (y2 - y1).natAbs a b)
            have htb2 := tsg_mul (y2 - y1) (lnB (x2 - x1).natAbs (y2 - y1).natAbs a b)
            have hst1 := hst.1
            have hst2 := hst.2.1
            have hst3 := hst.2.2
            refine t_callV (wr := []) C (met_X3_draws l D E o b1 b2 b3 b4 b5 b6 thr w g k1 st kp go dp pt (x + (tsg (x2 - x1))) (y + (tsg (y2 - y1))) bb (by first | assumption | omega) (by first | assumption | omega) (by first | assumption | omega) (by first | assumption | omega)) (cwV 3 hts (lw_V q1426 q1428 qs27 q62 q1429) rfl rfl rfl (by decide +kernel) ⟨Nat.le_of_ble_eq_true rfl, Nat.le_of_ble_eq_true rfl⟩) (va_recv hK hP (ci := 0) (q0 := 0) rfl rfl) hK hX hP hD hS hA [0, 1, 2, 3, 4, 5, 6] [] rfl rfl (by decide) (by decide) (by decide) tYb_0 (fun _ _ _ => trivial) rfl hl.1 rfl (Nat.le_of_ble_eq_true rfl) dX3_lines_122 ⟨(show 0 ≤ 0 from by omega), (show 0 ≤ 0 from by omega)⟩ (fun u_ H locs hp hP hD hS => ?_)
            obtain ⟨ik2_4, rfl⟩ : ∃ z, z = u_ := ⟨_, rfl⟩
            have hc122_1 : ik2_4 = drw w g (x + (tsg (x2 - x1))) (y + (tsg (y2 - y1))) bb k1 := hp
            subst hc122_1
            have hP : va_P D.1 clAll [(o, .inr (0, [.int (iI thr), .ref b1, .ref b2, .ref b3, .ref b4, .ref b5, .ref b6, .int (iI (w : Int)), .int (iI (g : Int))])), (b1, .inl (D.2 0, 1024, .inl (fun x_ => zI ((drw w g (x + (tsg (x2 - x1))) (y + (tsg (y2 - y1))) bb k1) x_)))), (b2, .inl (D.2 0, 1024, .inl (fun x_ => zI (st x_)))), (b3, .inl (D.2 0, 1024, .inl (fun x_ => zI (kp x_)))), (b4, .inl (D.2 0, 1024, .inl (fun x_ => zI (go x_)))), (b5, .inl (D.2 1, 1024, .inl (fun x_ => iI (dp x_)))), (b6, .inl (D.2 1, 1024, .inl (fun x_ => iI (pt x_))))] H := hP
            have hD : va_D A [(o, .inr (0, [.int (iI thr), .ref b1, .ref b2, .ref b3, .ref b4, .ref b5, .ref b6, .int (iI (w : Int)), .int (iI (g : Int))])), (b1, .inl (D.2 0, 1024, .inl (fun x_ => zI ((drw w g (x + (tsg (x2 - x1))) (y + (tsg (y2 - y1))) bb k1) x_)))), (b2, .inl (D.2 0, 1024, .inl (fun x_ => zI (st x_)))), (b3, .inl (D.2 0, 1024, .inl (fun x_ => zI (kp x_)))), (b4, .inl (D.2 0, 1024, .inl (fun x_ => zI (go x_)))), (b5, .inl (D.2 1, 1024, .inl (fun x_ => iI (dp x_)))), (b6, .inl (D.2 1, 1024, .inl (fun x_ => iI (pt x_))))] := hD
            refine W.eq (g2 := F0 m0 125 ls [.int (iI (drwN w g (x + (tsg (x2 - x1))) (y + (tsg (y2 - y1))) bb k1)), .int (iI n)]) rfl ?_
            refine ti_iadd kx kb dX3_lines_125 ?_
            refine lv_istore (lv' := [(11, .int (iI (n + (drwN w g (x + (tsg (x2 - x1))) (y + (tsg (y2 - y1))) bb k1)))), (10, .int (iI (y + (tsg (y2 - y1))))), (8, .int (iI ((e - (tabs (y2 - y1))) + (tabs (x2 - x1))))), (9, .int (iI (x + (tsg (x2 - x1))))), (12, .int (iI (2 * e))), (7, .int (iI (tabs (y2 - y1)))), (6, .int (iI (tabs (x2 - x1)))), (0, .ref o), (1, .int (iI x1)), (2, .int (iI y1)), (3, .int (iI x2)), (4, .int (iI y2)), (5, .int (zI bb))]) kx kb dX3_lines_126 hl (by decide) rfl (fun ls hl => ?_)
            refine lv_goto (tgt := 42) kx kb dX3_lines_128 (by decide) ?_
            exact ih42 (lnA (x2 - x1).natAbs (y2 - y1).natAbs a b) (lnB (x2 - x1).natAbs (y2 - y1).natAbs a b) f2 ((e - (tabs (y2 - y1))) + (tabs (x2 - x1))) (x + (tsg (x2 - x1))) (y + (tsg (y2 - y1))) (n + (drwN w g (x + (tsg (x2 - x1))) (y + (tsg (y2 - y1))) bb k1)) (drw w g (x + (tsg (x2 - x1))) (y + (tsg (y2 - y1))) bb k1) (hst.1) (hst.2.1) (by omega) (by exact hE) (by exact hX2) (by exact hY2) (by rw [hgo] at hT; rw [hX2, hY2]; exact hT) (by rw [hgo] at hn; simp only [cntL] at hn; rw [hX2, hY2]; omega) (by omega) H locs hP hD hS ls (lv_sub hl [0, 1, 3, 2, 5, 6, 7, 8, 9, 10, 11, 12] rfl)
      · refine lv_iload kx kb dX3_lines_48 (lv_at hl 1 rfl) ?_
        refine lv_iload kx kb dX3_lines_50 (lv_at hl 10 rfl) ?_
        refine ti_icmp_eq (tgt := 131) kx kb (by omega) dX3_lines_52 (by decide) (fun h52 => ?_) (fun h52 => ?_)
        · have hfa : a = (x2 - x1).natAbs ∧ b = (y2 - y1).natAbs := by omega
          rw [hfa.1, hfa.2, lnT_end] at hT hn
          have hT : k1 = drwL w g bb (lnL x1 y1 x2 y2) ik := hT
          have hn : n + 0 = cntL w g bb (lnL x1 y1 x2 y2) ik := hn
          refine lv_iload kx kb dX3_lines_131 (lv_at hl 0 rfl) ?_
          subst hQ
          exact tm_iret C k1 (by exact hT) hP hD hS (show 0 ≤ 0 from by omega) (show 0 ≤ 0 from by omega) (by rw [← cntL_eq, ← hn, Int.add_zero]) rfl dX3_lines_133
        · have hnd : ¬ (a = (x2 - x1).natAbs ∧ b = (y2 - y1).natAbs) := by omega
          have hst := ln_step ha hb hnd
          obtain ⟨f2, hf2, hgo⟩ := lnT_go (x1 := x1) (y1 := y1) (sx := tsg (x2 - x1)) (sy := tsg (y2 - y1)) ha hb hnd hf
          refine lv_iconst (v := iI 2) kx kb dX3_lines_55 rfl ?_
          refine lv_iload kx kb dX3_lines_56 (lv_at hl 3 rfl) ?_
          refine ti_imul kx kb dX3_lines_58 ?_
          refine lv_istore (lv' := [(12, .int (iI (2 * e))), (11, .int (iI n)), (10, .int (iI y)), (9, .int (iI x)), (8, .int (iI e)), (7, .int (iI (tabs (y2 - y1)))), (6, .int (iI (tabs (x2 - x1)))), (0, .ref o), (1, .int (iI x1)), (2, .int (iI y1)), (3, .int (iI x2)), (4, .int (iI y2)), (5, .int (zI bb))]) kx kb dX3_lines_59 hl (by decide) rfl (fun ls hl => ?_)
          refine lv_iload kx kb dX3_lines_61 (lv_at hl 0 rfl) ?_
          refine lv_iload kx kb dX3_lines_63 (lv_at hl 5 rfl) ?_
          refine ti_ineg kx kb dX3_lines_65 ?_
          refine ti_icmp_le (tgt := 87) kx kb (by omega) dX3_lines_66 (by decide) (fun h66 => ?_) (fun h66 => ?_)
          · refine lv_iload kx kb dX3_lines_87 (lv_at hl 0 rfl) ?_
            refine lv_iload kx kb dX3_lines_89 (lv_at hl 6 rfl) ?_
            refine ti_icmp_ge (tgt := 113) kx kb (by omega) dX3_lines_91 (by decide) (fun h91 => ?_) (fun h91 => ?_)
            · omega
            · refine lv_iload kx kb dX3_lines_94 (lv_at hl 4 rfl) ?_
              refine lv_iload kx kb dX3_lines_96 (lv_at hl 6 rfl) ?_
              refine ti_iadd kx kb dX3_lines_98 ?_
              refine lv_istore (lv' := [(8, .int (iI (e + (tabs (x2 - x1))))), (12, .int (iI (2 * e))), (11, .int (iI n)), (10, .int (iI y)), (9, .int (iI x)), (7, .int (iI (tabs (y2 - y1)))), (6, .int (iI (tabs (x2 - x1)))), (0, .ref o), (1, .int (iI x1)), (2, .int (iI y1)), (3, .int (iI x2)), (4, .int (iI y2)), (5, .int (zI bb))]) kx kb dX3_lines_99 hl (by decide) rfl (fun ls hl => ?_)
              refine lv_iload kx kb dX3_lines_101 (lv_at hl 3 rfl) ?_
              refine lv_iload kx kb dX3_lines_103 (lv_at hl 11 rfl) ?_
              refine lv_iload_n kx kb dX3_lines_105 rfl (lv_at hl 9 rfl) ?_
              refine ti_isub kx kb dX3_lines_106 ?_
              refine t_callRS C (met_J17_signum l D E (y2 - y1) (by first | assumption | omega)) (va_cwS 1 hts (lw_S q1442 q1250 q80 q1251) rfl rfl rfl (by decide +kernel) ⟨Nat.le_of_ble_eq_true rfl, Nat.le_of_ble_eq_true rfl⟩) hK hX hP hD hS hA [] rfl (by decide) tYb_0 (fun _ _ _ => trivial) rfl hl.1 rfl (Nat.le_of_ble_eq_true rfl) dX3_lines_107 ⟨(show 0 ≤ 0 from by omega), (show 0 ≤ 0 from by omega)⟩ ?_
              refine W.eq (g2 := F0 m0 110 ls [.int (iI (tsg (y2 - y1))), .int (iI y)]) rfl ?_
              refine ti_iadd kx kb dX3_lines_110 ?_
              refine lv_istore (lv' := [(10, .int (iI (y + (tsg (y2 - y1))))), (8, .int (iI (e + (tabs (x2 - x1))))), (12, .int (iI (2 * e))), (11, .int (iI n)), (9, .int (iI x)), (7, .int (iI (tabs (y2 - y1)))), (6, .int (iI (tabs (x2 - x1)))), (0, .ref o), (1, .int (iI x1)), (2, .int (iI y1)), (3, .int (iI x2)), (4, .int (iI y2)), (5, .int (zI bb))]) kx kb dX3_lines_111 hl (by decide) rfl (fun ls hl => ?_)
              refine lv_iload kx kb dX3_lines_113 (lv_at hl 3 rfl) ?_
              refine lv_aload_n kx kb dX3_lines_115 rfl (lv_at hl 7 rfl) ?_
              refine lv_iload kx kb dX3_lines_116 (lv_at hl 4 rfl) ?_
              refine lv_iload kx kb dX3_lines_118 (lv_at hl 0 rfl) ?_
              refine lv_iload kx kb dX3_lines_120 (lv_at hl 12 rfl) ?_
              have hqa : lnA (x2 - x1).natAbs (y2 - y1).natAbs a b = a := by unfold lnA; rw [if_neg (by omega)]
              have hqb : lnB (x2 - x1).natAbs (y2 - y1).natAbs a b = b + 1 := by unfold lnB; rw [if_pos (by omega)]
              have hX2 : x = x1 + tsg (x2 - x1) * ((lnA (x2 - x1).natAbs (y2 - y1).natAbs a b : Nat) : Int) := by rw [hqa, hx]
              have hY2 : y + (tsg (y2 - y1)) = y1 + tsg (y2 - y1) * ((lnB (x2 - x1).natAbs (y2 - y1).natAbs a b : Nat) : Int) := by rw [hqb, hy]; rw [Int.natCast_add, Int.mul_add]; omega
              have hE : e + (tabs (x2 - x1)) = lnE (x2 - x1).natAbs (y2 - y1).natAbs (lnA (x2 - x1).natAbs (y2 - y1).natAbs a b) (lnB (x2 - x1).natAbs (y2 - y1).natAbs a b) := by rw [hqa, hqb]; rw [lnE_b]; omega
              have hta2 := tsg_mul (x2 - x1) (lnA (x2 - x1).natAbs (y2 - y1).natAbs a b)
              have htb2 := tsg_mul (y2 - y1) (lnB (x2 - x1).natAbs (y2 - y1).natAbs a b)
              have hst1 := hst.1
              have hst2 := hst.2.1
              have hst3 := hst.2.2
              refine t_callV (wr := []) C (met_X3_draws l D E o b1 b2 b3 b4 b5 b6 thr w g k1 st kp go dp pt x (y + (tsg (y2 - y1))) bb (by first | assumption | omega) (by first | assumption | omega) (by first | assumption | omega) (by first | assumption | omega)) (cwV 3 hts (lw_V q1426 q1428 qs27 q62 q1429) rfl rfl rfl (by decide +kernel) ⟨Nat.le_of_ble_eq_true rfl, Nat.le_of_ble_eq_true rfl⟩) (va_recv hK hP (ci := 0) (q0 := 0) rfl rfl) hK hX hP hD hS hA [0, 1, 2, 3, 4, 5, 6] [] rfl rfl (by decide) (by decide) (by decide) tYb_0 (fun _ _ _ => trivial) rfl hl.1 rfl (Nat.le_of_ble_eq_true rfl) dX3_lines_122 ⟨(show 0 ≤ 0 from by omega), (show 0 ≤ 0 from by omega)⟩ (fun u_ H locs hp hP hD hS => ?_)
              obtain ⟨ik2_5, rfl⟩ : ∃ z, z = u_ := ⟨_, rfl⟩
              have hc122_1 : ik2_5 = drw w g x (y + (tsg (y2 - y1))) bb k1 := hp
              subst hc122_1
              have hP : va_P D.1 clAll [(o, .inr (0, [.int (iI thr), .ref b1, .ref b2, .ref b3, .ref b4, .ref b5, .ref b6, .int (iI (w : Int)), .int (iI (g : Int))])), (b1, .inl (D.2 0, 1024, .inl (fun x_ => zI ((drw w g x (y + (tsg (y2 - y1))) bb k1) x_)))), (b2, .inl (D.2 0, 1024, .inl (fun x_ => zI (st x_)))), (b3, .inl (D.2 0, 1024, .inl (fun x_ => zI (kp x_)))), (b4, .inl (D.2 0, 1024, .inl (fun x_ => zI (go x_)))), (b5, .inl (D.2 1, 1024, .inl (fun x_ => iI (dp x_)))), (b6, .inl (D.2 1, 1024, .inl (fun x_ => iI (pt x_))))] H := hP
              have hD : va_D A [(o, .inr (0, [.int (iI thr), .ref b1, .ref b2, .ref b3, .ref b4, .ref b5, .ref b6, .int (iI (w : Int)), .int (iI (g : Int))])), (b1, .inl (D.2 0, 1024, .inl (fun x_ => zI ((drw w g x (y + (tsg (y2 - y1))) bb k1) x_)))), (b2, .inl (D.2 0, 1024, .inl (fun x_ => zI (st x_)))), (b3, .inl (D.2 0, 1024, .inl (fun x_ => zI (kp x_)))), (b4, .inl (D.2 0, 1024, .inl (fun x_ => zI (go x_)))), (b5, .inl (D.2 1, 1024, .inl (fun x_ => iI (dp x_)))), (b6, .inl (D.2 1, 1024, .inl (fun x_ => iI (pt x_))))] := hD
              refine W.eq (g2 := F0 m0 125 ls [.int (iI (drwN w g x (y + (tsg (y2 - y1))) bb k1)), .int (iI n)]) rfl ?_
              refine ti_iadd kx kb dX3_lines_125 ?_
              refine lv_istore (lv' := [(11, .int (iI (n + (drwN w g x (y + (tsg (y2 - y1))) bb k1)))), (10, .int (iI (y + (tsg (y2 - y1))))), (8, .int (iI (e + (tabs (x2 - x1))))), (12, .int (iI (2 * e))), (9, .int (iI x)), (7, .int (iI (tabs (y2 - y1)))), (6, .int (iI (tabs (x2 - x1)))), (0, .ref o), (1, .int (iI x1)), (2, .int (iI y1)), (3, .int (iI x2)), (4, .int (iI y2)), (5, .int (zI bb))]) kx kb dX3_lines_126 hl (by decide) rfl (fun ls hl => ?_)
              refine lv_goto (tgt := 42) kx kb dX3_lines_128 (by decide) ?_
              exact ih42 (lnA (x2 - x1).natAbs (y2 - y1).natAbs a b) (lnB (x2 - x1).natAbs (y2 - y1).natAbs a b) f2 (e + (tabs (x2 - x1))) x (y + (tsg (y2 - y1))) (n + (drwN w g x (y + (tsg (y2 - y1))) bb k1)) (drw w g x (y + (tsg (y2 - y1))) bb k1) (hst.1) (hst.2.1) (by omega) (by exact hE) (by exact hX2) (by exact hY2) (by rw [hgo] at hT; rw [hX2, hY2]; exact hT) (by rw [hgo] at hn; simp only [cntL] at hn; rw [hX2, hY2]; omega) (by omega) H locs hP hD hS ls (lv_sub hl [0, 1, 4, 2, 5, 6, 7, 8, 9, 10, 11, 12] rfl)
          · refine lv_iload kx kb dX3_lines_69 (lv_at hl 4 rfl) ?_
            refine lv_iload kx kb dX3_lines_71 (lv_at hl 5 rfl) ?_
            refine ti_isub kx kb dX3_lines_73 ?_
            refine lv_istore (lv' := [(8, .int (iI (e - (tabs (y2 - y1))))), (12, .int (iI (2 * e))), (11, .int (iI n)), (10, .int (iI y)), (9, .int (iI x)), (7, .int (iI (tabs (y2 - y1)))), (6, .int (iI (tabs (x2 - x1)))), (0, .ref o), (1, .int (iI x1)), (2, .int (iI y1)), (3, .int (iI x2)), (4, .int (iI y2)), (5, .int (zI bb))]) kx kb dX3_lines_74 hl (by decide) rfl (fun ls hl => ?_)
            refine lv_iload kx kb dX3_lines_76 (lv_at hl 4 rfl) ?_
            refine lv_iload_n kx kb dX3_lines_78 rfl (lv_at hl 10 rfl) ?_
            refine lv_iload_n kx kb dX3_lines_79 rfl (lv_at hl 8 rfl) ?_
            refine ti_isub kx kb dX3_lines_80 ?_
            refine t_callRS C (met_J17_signum l D E (x2 - x1) (by first | assumption | omega)) (va_cwS 1 hts (lw_S q1442 q1250 q80 q1251) rfl rfl rfl (by decide +kernel) ⟨Nat.le_of_ble_eq_true rfl, Nat.le_of_ble_eq_true rfl⟩) hK hX hP hD hS hA [] rfl (by decide) tYb_0 (fun _ _ _ => trivial) rfl hl.1 rfl (Nat.le_of_ble_eq_true rfl) dX3_lines_81 ⟨(show 0 ≤ 0 from by omega), (show 0 ≤ 0 from by omega)⟩ ?_
            refine W.eq (g2 := F0 m0 84 ls [.int (iI (tsg (x2 - x1))), .int (iI x)]) rfl ?_
            refine ti_iadd kx kb dX3_lines_84 ?_
            refine lv_istore (lv' := [(9, .int (iI (x + (tsg (x2 - x1))))), (8, .int (iI (e - (tabs (y2 - y1))))), (12, .int (iI (2 * e))), (11, .int (iI n)), (10, .int (iI y)), (7, .int (iI (tabs (y2 - y1)))), (6, .int (iI (tabs (x2 - x1)))), (0, .ref o), (1, .int (iI x1)), (2, .int (iI y1)), (3, .int (iI x2)), (4, .int (iI y2)), (5, .int (zI bb))]) kx kb dX3_lines_85 hl (by decide) rfl (fun ls hl => ?_)
            refine lv_iload kx kb dX3_lines_87 (lv_at hl 2 rfl) ?_
            refine lv_iload kx kb dX3_lines_89 (lv_at hl 6 rfl) ?_
            refine ti_icmp_ge (tgt := 113) kx kb (by omega) dX3_lines_91 (by decide) (fun h91 => ?_) (fun h91 => ?_)
            · refine lv_iload kx kb dX3_lines_113 (lv_at hl 3 rfl) ?_
              refine lv_aload_n kx kb dX3_lines_115 rfl (lv_at hl 7 rfl) ?_
              refine lv_iload kx kb dX3_lines_116 (lv_at hl 0 rfl) ?_
              refine lv_iload kx kb dX3_lines_118 (lv_at hl 4 rfl) ?_
              refine lv_iload kx kb dX3_lines_120 (lv_at hl 12 rfl) ?_
              have hqa : lnA (x2 - x1).natAbs (y2 - y1).natAbs a b = a + 1 := by unfold lnA; rw [if_pos (by omega)]
              have hqb : lnB (x2 - x1).natAbs (y2 - y1).natAbs a b = b := by unfold lnB; rw [if_neg (by omega)]
              have hX2 : x + (tsg (x2 - x1)) = x1 + tsg (x2 - x1) * ((lnA (x2 - x1).natAbs (y2 - y1).natAbs a b : Nat) : Int) := by rw [hqa, hx]; rw [Int.natCast_add, Int.mul_add]; omega
              have hY2 : y = y1 + tsg (y2 - y1) * ((lnB (x2 - x1).natAbs (y2 - y1).natAbs a b : Nat) : Int) := by rw [hqb, hy]
              have hE : e - (tabs (y2 - y1)) = lnE (x2 - x1).natAbs (y2 - y1).natAbs (lnA (x2 - x1).natAbs (y2 - y1).natAbs a b) (lnB (x2 - x1).natAbs (y2 - y1).natAbs a b) := by rw [hqa, hqb]; rw [lnE_a]; omega
              have hta2 := tsg_mul (x2 - x1) (lnA (x2 - x1).natAbs (y2 - y1).natAbs a b)
              have htb2 := tsg_mul (y2 - y1) (lnB (x2 - x1).natAbs (y2 - y1).natAbs a b)
              have hst1 := hst.1
              have hst2 := hst.2.1
              have hst3 := hst.2.2
              refine t_callV (wr := []) C (met_X3_draws l D E o b1 b2 b3 b4 b5 b6 thr w g k1 st kp go dp pt (x + (tsg (x2 - x1))) y bb (by first | assumption | omega) (by first | assumption | omega) (by first | assumption | omega) (by first | assumption | omega)) (cwV 3 hts (lw_V q1426 q1428 qs27 q62 q1429) rfl rfl rfl (by decide +kernel) ⟨Nat.le_of_ble_eq_true rfl, Nat.le_of_ble_eq_true rfl⟩) (va_recv hK hP (ci := 0) (q0 := 0) rfl rfl) hK hX hP hD hS hA [0, 1, 2, 3, 4, 5, 6] [] rfl rfl (by decide) (by decide) (by decide) tYb_0 (fun _ _ _ => trivial) rfl hl.1 rfl (Nat.le_of_ble_eq_true rfl) dX3_lines_122 ⟨(show 0 ≤ 0 from by omega), (show 0 ≤ 0 from by omega)⟩ (fun u_ H locs hp hP hD hS => ?_)
              obtain ⟨ik2_6, rfl⟩ : ∃ z, z = u_ := ⟨_, rfl⟩
              have hc122_1 : ik2_6 = drw w g (x + (tsg (x2 - x1))) y bb k1 := hp
              subst hc122_1
              have hP : va_P D.1 clAll [(o, .inr (0, [.int (iI thr), .ref b1, .ref b2, .ref b3, .ref b4, .ref b5, .ref b6, .int (iI (w : Int)), .int (iI (g : Int))])), (b1, .inl (D.2 0, 1024, .inl (fun x_ => zI ((drw w g (x + (tsg (x2 - x1))) y bb k1) x_)))), (b2, .inl (D.2 0, 1024, .inl (fun x_ => zI (st x_)))), (b3, .inl (D.2 0, 1024, .inl (fun x_ => zI (kp x_)))), (b4, .inl (D.2 0, 1024, .inl (fun x_ => zI (go x_)))), (b5, .inl (D.2 1, 1024, .inl (fun x_ => iI (dp x_)))), (b6, .inl (D.2 1, 1024, .inl (fun x_ => iI (pt x_))))] H := hP
              have hD : va_D A [(o, .inr (0, [.int (iI thr), .ref b1, .ref b2, .ref b3, .ref b4, .ref b5, .ref b6, .int (iI (w : Int)), .int (iI (g : Int))])), (b1, .inl (D.2 0, 1024, .inl (fun x_ => zI ((drw w g (x + (tsg (x2 - x1))) y bb k1) x_)))), (b2, .inl (D.2 0, 1024, .inl (fun x_ => zI (st x_)))), (b3, .inl (D.2 0, 1024, .inl (fun x_ => zI (kp x_)))), (b4, .inl (D.2 0, 1024, .inl (fun x_ => zI (go x_)))), (b5, .inl (D.2 1, 1024, .inl (fun x_ => iI (dp x_)))), (b6, .inl (D.2 1, 1024, .inl (fun x_ => iI (pt x_))))] := hD
              refine W.eq (g2 := F0 m0 125 ls [.int (iI (drwN w g (x + (tsg (x2 - x1))) y bb k1)), .int (iI n)]) rfl ?_
              refine ti_iadd kx kb dX3_lines_125 ?_
              refine lv_istore (lv' := [(11, .int (iI (n + (drwN w g (x + (tsg (x2 - x1))) y bb k1)))), (9, .int (iI (x + (tsg (x2 - x1))))), (8, .int (iI (e - (tabs (y2 - y1))))), (12, .int (iI (2 * e))), (10, .int (iI y)), (7, .int (iI (tabs (y2 - y1)))), (6, .int (iI (tabs (x2 - x1)))), (0, .ref o), (1, .int (iI x1)), (2, .int (iI y1)), (3, .int (iI x2)), (4, .int (iI y2)), (5, .int (zI bb))]) kx kb dX3_lines_126 hl (by decide) rfl (fun ls hl => ?_)
              refine lv_goto (tgt := 42) kx kb dX3_lines_128 (by decide) ?_
              exact ih42 (lnA (x2 - x1).natAbs (y2 - y1).natAbs a b) (lnB (x2 - x1).natAbs (y2 - y1).natAbs a b) f2 (e - (tabs (y2 - y1))) (x + (tsg (x2 - x1))) y (n + (drwN w g (x + (tsg (x2 - x1))) y bb k1)) (drw w g (x + (tsg (x2 - x1))) y bb k1) (hst.1) (hst.2.1) (by omega) (by exact hE) (by exact hX2) (by exact hY2) (by rw [hgo] at hT; rw [hX2, hY2]; exact hT) (by rw [hgo] at hn; simp only [cntL] at hn; rw [hX2, hY2]; omega) (by omega) H locs hP hD hS ls (lv_sub hl [0, 4, 1, 2, 5, 6, 7, 8, 9, 10, 11, 12] rfl)
            · refine lv_iload kx kb dX3_lines_94 (lv_at hl 1 rfl) ?_
              refine lv_iload kx kb dX3_lines_96 (lv_at hl 6 rfl) ?_
              refine ti_iadd kx kb dX3_lines_98 ?_
              refine lv_istore (lv' := [(8, .int (iI ((e - (tabs (y2 - y1))) + (tabs (x2 - x1))))), (9, .int (iI (x + (tsg (x2 - x1))))), (12, .int (iI (2 * e))), (11, .int (iI n)), (10, .int (iI y)), (7, .int (iI (tabs (y2 - y1)))), (6, .int (iI (tabs (x2 - x1)))), (0, .ref o), (1, .int (iI x1)), (2, .int (iI y1)), (3, .int (iI x2)), (4, .int (iI y2)), (5, .int (zI bb))]) kx kb dX3_lines_99 hl (by decide) rfl (fun ls hl => ?_)
              refine lv_iload kx kb dX3_lines_101 (lv_at hl 4 rfl) ?_
              refine lv_iload kx kb dX3_lines_103 (lv_at hl 11 rfl) ?_
              refine lv_iload_n kx kb dX3_lines_105 rfl (lv_at hl 9 rfl) ?_
              refine ti_isub kx kb dX3_lines_106 ?_
              refine t_callRS C (met_J17_signum l D E (y2 - y1) (by first | assumption | omega)) (va_cwS 1 hts (lw_S q1442 q1250 q80 q1251) rfl rfl rfl (by decide +kernel) ⟨Nat.le_of_ble_eq_true rfl, Nat.le_of_ble_eq_true rfl⟩) hK hX hP hD hS hA [] rfl (by decide) tYb_0 (fun _ _ _ => trivial) rfl hl.1 rfl (Nat.le_of_ble_eq_true rfl) dX3_lines_107 ⟨(show 0 ≤ 0 from by omega), (show 0 ≤ 0 from by omega)⟩ ?_
              refine W.eq (g2 := F0 m0 110 ls [.int (iI (tsg (y2 - y1))), .int (iI y)]) rfl ?_
              refine ti_iadd kx kb dX3_lines_110 ?_
              refine lv_istore (lv' := [(10, .int (iI (y + (tsg (y2 - y1))))), (8, .int (iI ((e - (tabs (y2 - y1))) + (tabs (x2 - x1))))), (9, .int (iI (x + (tsg (x2 - x1))))), (12, .int (iI (2 * e))), (11, .int (iI n)), (7, .int (iI (tabs (y2 - y1)))), (6, .int (iI (tabs (x2 - x1)))), (0, .ref o), (1, .int (iI x1)), (2, .int (iI y1)), (3, .int (iI x2)), (4, .int (iI y2)), (5, .int (zI bb))]) kx kb dX3_lines_111 hl (by decide) rfl (fun ls hl => ?_)
              refine lv_iload kx kb dX3_lines_113 (lv_at hl 4 rfl) ?_
              refine lv_aload_n kx kb dX3_lines_115 rfl (lv_at hl 7 rfl) ?_
              refine lv_iload kx kb dX3_lines_116 (lv_at hl 2 rfl) ?_
              refine lv_iload kx kb dX3_lines_118 (lv_at hl 0 rfl) ?_
              refine lv_iload kx kb dX3_lines_120 (lv_at hl 12 rfl) ?_
              have hqa : lnA (x2 - x1).natAbs (y2 - y1).natAbs a b = a + 1 := by unfold lnA; rw [if_pos (by omega)]
              have hqb : lnB (x2 - x1).natAbs (y2 - y1).natAbs a b = b + 1 := by unfold lnB; rw [if_pos (by omega)]
              have hX2 : x + (tsg (x2 - x1)) = x1 + tsg (x2 - x1) * ((lnA (x2 - x1).natAbs (y2 - y1).natAbs a b : Nat) : Int) := by rw [hqa, hx]; rw [Int.natCast_add, Int.mul_add]; omega
              have hY2 : y + (tsg (y2 - y1)) = y1 + tsg (y2 - y1) * ((lnB (x2 - x1).natAbs (y2 - y1).natAbs a b : Nat) : Int) := by rw [hqb, hy]; rw [Int.natCast_add, Int.mul_add]; omega
              have hE : (e - (tabs (y2 - y1))) + (tabs (x2 - x1)) = lnE (x2 - x1).natAbs (y2 - y1).natAbs (lnA (x2 - x1).natAbs (y2 - y1).natAbs a b) (lnB (x2 - x1).natAbs (y2 - y1).natAbs a b) := by rw [hqa, hqb]; rw [lnE_a, lnE_b]; omega
              have hta2 := tsg_mul (x2 - x1) (lnA (x2 - x1).natAbs (y2 - y1).natAbs a b)
              have htb2 := tsg_mul (y2 - y1) (lnB (x2 - x1).natAbs (y2 - y1).natAbs a b)
              have hst1 := hst.1
              have hst2 := hst.2.1
              have hst3 := hst.2.2
              refine t_callV (wr := []) C (met_X3_draws l D E o b1 b2 b3 b4 b5 b6 thr w g k1 st kp go dp pt (x + (tsg (x2 - x1))) (y + (tsg (y2 - y1))) bb (by first | assumption | omega) (by first | assumption | omega) (by first | assumption | omega) (by first | assumption | omega)) (cwV 3 hts (lw_V q1426 q1428 qs27 q62 q1429) rfl rfl rfl (by decide +kernel) ⟨Nat.le_of_ble_eq_true rfl, Nat.le_of_ble_eq_true rfl⟩) (va_recv hK hP (ci := 0) (q0 := 0) rfl rfl) hK hX hP hD hS hA [0, 1, 2, 3, 4, 5, 6] [] rfl rfl (by decide) (by decide) (by decide) tYb_0 (fun _ _ _ => trivial) rfl hl.1 rfl (Nat.le_of_ble_eq_true rfl) dX3_lines_122 ⟨(show 0 ≤ 0 from by omega), (show 0 ≤ 0 from by omega)⟩ (fun u_ H locs hp hP hD hS => ?_)
              obtain ⟨ik2_7, rfl⟩ : ∃ z, z = u_ := ⟨_, rfl⟩
              have hc122_1 : ik2_7 = drw w g (x + (tsg (x2 - x1))) (y + (tsg (y2 - y1))) bb k1 := hp
              subst hc122_1
              have hP : va_P D.1 clAll [(o, .inr (0, [.int (iI thr), .ref b1, .ref b2, .ref b3, .ref b4, .ref b5, .ref b6, .int (iI (w : Int)), .int (iI (g : Int))])), (b1, .inl (D.2 0, 1024, .inl (fun x_ => zI ((drw w g (x + (tsg (x2 - x1))) (y + (tsg (y2 - y1))) bb k1) x_)))), (b2, .inl (D.2 0, 1024, .inl (fun x_ => zI (st x_)))), (b3, .inl (D.2 0, 1024, .inl (fun x_ => zI (kp x_)))), (b4, .inl (D.2 0, 1024, .inl (fun x_ => zI (go x_)))), (b5, .inl (D.2 1, 1024, .inl (fun x_ => iI (dp x_)))), (b6, .inl (D.2 1, 1024, .inl (fun x_ => iI (pt x_))))] H := hP
              have hD : va_D A [(o, .inr (0, [.int (iI thr), .ref b1, .ref b2, .ref b3, .ref b4, .ref b5, .ref b6, .int (iI (w : Int)), .int (iI (g : Int))])), (b1, .inl (D.2 0, 1024, .inl (fun x_ => zI ((drw w g (x + (tsg (x2 - x1))) (y + (tsg (y2 - y1))) bb k1) x_)))), (b2, .inl (D.2 0, 1024, .inl (fun x_ => zI (st x_)))), (b3, .inl (D.2 0, 1024, .inl (fun x_ => zI (kp x_)))), (b4, .inl (D.2 0, 1024, .inl (fun x_ => zI (go x_)))), (b5, .inl (D.2 1, 1024, .inl (fun x_ => iI (dp x_)))), (b6, .inl (D.2 1, 1024, .inl (fun x_ => iI (pt x_))))] := hD
              refine W.eq (g2 := F0 m0 125 ls [.int (iI (drwN w g (x + (tsg (x2 - x1))) (y + (tsg (y2 - y1))) bb k1)), .int (iI n)]) rfl ?_
              refine ti_iadd kx kb dX3_lines_125 ?_
              refine lv_istore (lv' := [(11, .int (iI (n + (drwN w g (x + (tsg (x2 - x1))) (y + (tsg (y2 - y1))) bb k1)))), (10, .int (iI (y + (tsg (y2 - y1))))), (8, .int (iI ((e - (tabs (y2 - y1))) + (tabs (x2 - x1))))), (9, .int (iI (x + (tsg (x2 - x1))))), (12, .int (iI (2 * e))), (7, .int (iI (tabs (y2 - y1)))), (6, .int (iI (tabs (x2 - x1)))), (0, .ref o), (1, .int (iI x1)), (2, .int (iI y1)), (3, .int (iI x2)), (4, .int (iI y2)), (5, .int (zI bb))]) kx kb dX3_lines_126 hl (by decide) rfl (fun ls hl => ?_)
              refine lv_goto (tgt := 42) kx kb dX3_lines_128 (by decide) ?_
              exact ih42 (lnA (x2 - x1).natAbs (y2 - y1).natAbs a b) (lnB (x2 - x1).natAbs (y2 - y1).natAbs a b) f2 ((e - (tabs (y2 - y1))) + (tabs (x2 - x1))) (x + (tsg (x2 - x1))) (y + (tsg (y2 - y1))) (n + (drwN w g (x + (tsg (x2 - x1))) (y + (tsg (y2 - y1))) bb k1)) (drw w g (x + (tsg (x2 - x1))) (y + (tsg (y2 - y1))) bb k1) (hst.1) (hst.2.1) (by omega) (by exact hE) (by exact hX2) (by exact hY2) (by rw [hgo] at hT; rw [hX2, hY2]; exact hT) (by rw [hgo] at hn; simp only [cntL] at hn; rw [hX2, hY2]; omega) (by omega) H locs hP hD hS ls (lv_sub hl [0, 1, 3, 2, 5, 6, 7, 8, 9, 10, 11, 12] rfl)
  exact cut42 ((((x2 - x1).natAbs - 0) + ((y2 - y1).natAbs - 0)) + 1) 0 0 ((x2 - x1).natAbs + (y2 - y1).natAbs) ((tabs (x2 - x1)) - (tabs (y2 - y1))) x1 y1 (drwN w g x1 y1 bb ik) (drw w g x1 y1 bb ik) (by omega) (by omega) (by omega) (by rw [tabs_nat, tabs_nat]; simp [lnE]) (by simp) (by simp) (by rfl) (by rfl) (Nat.lt_succ_self _) H locs hP hD hS ls hl
set_option maxHeartbeats 4000000 in
set_option maxRecDepth 100000 in
theorem met_X3_line_ok (l : Launch) (D : TG) (E : TE) (o : Nat) (b1 : Nat) (b2 : Nat) (b3 : Nat) (b4 : Nat) (b5 : Nat) (b6 : Nat) (thr : Int) (w : Nat) (g : Nat) (ik : Nat → Bool) (st : Nat → Bool) (kp : Nat → Bool) (go : Nat → Bool) (dp : Nat → Int) (pt : Nat → Int) (x1 : Int) (y1 : Int) (x2 : Int) (y2 : Int) (bb : Bool) (hw : 1 ≤ w ∧ w ≤ 32) (hg : 1 ≤ g ∧ g ≤ 32) (rx1 : -40 ≤ x1 ∧ x1 ≤ 72) (ry1 : -40 ≤ y1 ∧ y1 ≤ 72) (rx2 : -40 ≤ x2 ∧ x2 ≤ 72) (ry2 : -40 ≤ y2 ∧ y2 ≤ 72) : tMet l yX3_line cX3_line 6 (some .int) 4 99 (0) (0) [.ref o, .int (iI x1), .int (iI y1), .int (iI x2), .int (iI y2), .int (zI bb)] D E [(o, .inr (0, [.int (iI thr), .ref b1, .ref b2, .ref b3, .ref b4, .ref b5, .ref b6, .int (iI (w : Int)), .int (iI (g : Int))])), (b1, .inl (D.2 0, 1024, .inl (fun x_ => zI (ik x_)))), (b2, .inl (D.2 0, 1024, .inl (fun x_ => zI (st x_)))), (b3, .inl (D.2 0, 1024, .inl (fun x_ => zI (kp x_)))), (b4, .inl (D.2 0, 1024, .inl (fun x_ => zI (go x_)))), (b5, .inl (D.2 1, 1024, .inl (fun x_ => iI (dp x_)))), (b6, .inl (D.2 1, 1024, .inl (fun x_ => iI (pt x_))))] tY0 (S := (Nat → Bool)) (fun u_ => u_ = drwL w g bb (lnL x1 y1 x2 y2) ik) (fun u_ => some (.int (iI ((chg ik (drwL w g bb (lnL x1 y1 x2 y2) ik) (w * g) : Nat) : Int)))) (fun u_ => [(o, .inr (0, [.int (iI 0), .ref b1, .ref b2, .ref b3, .ref b4, .ref b5, .ref b6, .int (iI (w : Int)), .int (iI (g : Int))])), (b1, .inl (D.2 0, 1024, .inl (fun x_ => zI (u_ x_)))), (b2, .inl (D.2 0, 1024, .inl (fun x_ => zI (st x_)))), (b3, .inl (D.2 0, 1024, .inl (fun x_ => zI (kp x_)))), (b4, .inl (D.2 0, 1024, .inl (fun x_ => zI (go x_)))), (b5, .inl (D.2 1, 1024, .inl (fun x_ => iI (dp x_)))), (b6, .inl (D.2 1, 1024, .inl (fun x_ => iI (pt x_))))]) := by
  refine tu_met (by decide +kernel) (Nat.le_of_ble_eq_true rfl) ?_
  intro p0 e0 s0 m0 below meth c0 A ls args Q hag hQ C hK hX hY hP hD hA hAe hl
  obtain ⟨kx, kb, hml, hown, hts, -⟩ := id C
  have hS : va_S A s0.heap s0.heap [] := va_S.rf
  have hl : lv_has ls 6 [(0, .ref o), (1, .int (iI x1)), (2, .int (iI y1)), (3, .int (iI x2)), (4, .int (iI y2)), (5, .int (zI bb))] := hl
  have hwg := wg_le hw hg
  refine lv_aload_n kx kb dX3_line_0 rfl (lv_at hl 0 rfl) ?_
  refine lv_iconst (v := iI 0) kx kb dX3_line_1 rfl ?_
  refine va_put (D := D.1) (ci := 0) (v := .int (iI 0)) (ty := .int) (C := RX3) (T := TX3) (N := 9) kx kb hts in_X3 tyX3 tyX3_ok nmX3 hown hK hP hD hS 0 rfl rfl 0 (by decide) (hts _ q1370) (fun _ h9 => h9) rfl (by decide +kernel) rfl rfl (Nat.le_of_ble_eq_true rfl) dX3_line_2 (fun H locs hP hD hS => ?_)
  have hP : va_P D.1 clAll [(o, .inr (0, [.int (iI 0), .ref b1, .ref b2, .ref b3, .ref b4, .ref b5, .ref b6, .int (iI (w : Int)), .int (iI (g : Int))])), (b1, .inl (D.2 0, 1024, .inl (fun x_ => zI (ik x_)))), (b2, .inl (D.2 0, 1024, .inl (fun x_ => zI (st x_)))), (b3, .inl (D.2 0, 1024, .inl (fun x_ => zI (kp x_)))), (b4, .inl (D.2 0, 1024, .inl (fun x_ => zI (go x_)))), (b5, .inl (D.2 1, 1024, .inl (fun x_ => iI (dp x_)))), (b6, .inl (D.2 1, 1024, .inl (fun x_ => iI (pt x_))))] H := hP
  have hD : va_D A [(o, .inr (0, [.int (iI 0), .ref b1, .ref b2, .ref b3, .ref b4, .ref b5, .ref b6, .int (iI (w : Int)), .int (iI (g : Int))])), (b1, .inl (D.2 0, 1024, .inl (fun x_ => zI (ik x_)))), (b2, .inl (D.2 0, 1024, .inl (fun x_ => zI (st x_)))), (b3, .inl (D.2 0, 1024, .inl (fun x_ => zI (kp x_)))), (b4, .inl (D.2 0, 1024, .inl (fun x_ => zI (go x_)))), (b5, .inl (D.2 1, 1024, .inl (fun x_ => iI (dp x_)))), (b6, .inl (D.2 1, 1024, .inl (fun x_ => iI (pt x_))))] := hD
  refine lv_aload_n kx kb dX3_line_5 rfl (lv_at hl 0 rfl) ?_
  refine lv_iload_n kx kb dX3_line_6 rfl (lv_at hl 1 rfl) ?_
  refine t_callRS C (met_X3_isNear l D E x1 (by first | assumption | omega)) (va_cwS 1 hts (lw_S q1434 q1435 q62 q1436) rfl rfl rfl (by decide +kernel) ⟨Nat.le_of_ble_eq_true rfl, Nat.le_of_ble_eq_true rfl⟩) hK hX hP hD hS hA [] rfl (by decide) tYb_0 (fun _ _ _ => trivial) rfl hl.1 rfl (Nat.le_of_ble_eq_true rfl) dX3_line_7 ⟨(show 0 ≤ 0 from by omega), (show 0 ≤ 0 from by omega)⟩ ?_
  refine W.eq (g2 := F0 m0 10 ls [.int (zI (decide (-40 ≤ x1 ∧ x1 ≤ 72))), .ref o]) rfl ?_
  refine tz_if_eq (tgt := 39) kx kb dX3_line_10 (by decide) (fun h10 => ?_) (fun h10 => ?_)
  · simp only [decide_eq_false_iff_not] at h10; omega
  · simp only [decide_eq_true_eq, decide_eq_false_iff_not] at h10
    refine lv_iload_n kx kb dX3_line_13 rfl (lv_at hl 2 rfl) ?_
    refine t_callRS C (met_X3_isNear l D E y1 (by first | assumption | omega)) (va_cwS 1 hts (lw_S q1434 q1435 q62 q1436) rfl rfl rfl (by decide +kernel) ⟨Nat.le_of_ble_eq_true rfl, Nat.le_of_ble_eq_true rfl⟩) hK hX hP hD hS hA [] rfl (by decide) tYb_0 (fun _ _ _ => trivial) rfl hl.1 rfl (Nat.le_of_ble_eq_true rfl) dX3_line_14 ⟨(show 0 ≤ 0 from by omega), (show 0 ≤ 0 from by omega)⟩ ?_
    refine W.eq (g2 := F0 m0 17 ls [.int (zI (decide (-40 ≤ y1 ∧ y1 ≤ 72))), .ref o]) rfl ?_
    refine tz_if_eq (tgt := 39) kx kb dX3_line_17 (by decide) (fun h17 => ?_) (fun h17 => ?_)
    · simp only [decide_eq_false_iff_not] at h17; omega
    · simp only [decide_eq_true_eq, decide_eq_false_iff_not] at h17
      refine lv_iload_n kx kb dX3_line_20 rfl (lv_at hl 3 rfl) ?_
      refine t_callRS C (met_X3_isNear l D E x2 (by first | assumption | omega)) (va_cwS 1 hts (lw_S q1434 q1435 q62 q1436) rfl rfl rfl (by decide +kernel) ⟨Nat.le_of_ble_eq_true rfl, Nat.le_of_ble_eq_true rfl⟩) hK hX hP hD hS hA [] rfl (by decide) tYb_0 (fun _ _ _ => trivial) rfl hl.1 rfl (Nat.le_of_ble_eq_true rfl) dX3_line_21 ⟨(show 0 ≤ 0 from by omega), (show 0 ≤ 0 from by omega)⟩ ?_
      refine W.eq (g2 := F0 m0 24 ls [.int (zI (decide (-40 ≤ x2 ∧ x2 ≤ 72))), .ref o]) rfl ?_
      refine tz_if_eq (tgt := 39) kx kb dX3_line_24 (by decide) (fun h24 => ?_) (fun h24 => ?_)
      · simp only [decide_eq_false_iff_not] at h24; omega
      · simp only [decide_eq_true_eq, decide_eq_false_iff_not] at h24
        refine lv_iload kx kb dX3_line_27 (lv_at hl 4 rfl) ?_
        refine t_callRS C (met_X3_isNear l D E y2 (by first | assumption | omega)) (va_cwS 1 hts (lw_S q1434 q1435 q62 q1436) rfl rfl rfl (by decide +kernel) ⟨Nat.le_of_ble_eq_true rfl, Nat.le_of_ble_eq_true rfl⟩) hK hX hP hD hS hA [] rfl (by decide) tYb_0 (fun _ _ _ => trivial) rfl hl.1 rfl (Nat.le_of_ble_eq_true rfl) dX3_line_29 ⟨(show 0 ≤ 0 from by omega), (show 0 ≤ 0 from by omega)⟩ ?_
        refine W.eq (g2 := F0 m0 32 ls [.int (zI (decide (-40 ≤ y2 ∧ y2 ≤ 72))), .ref o]) rfl ?_
        refine tz_if_eq (tgt := 39) kx kb dX3_line_32 (by decide) (fun h32 => ?_) (fun h32 => ?_)
        · simp only [decide_eq_false_iff_not] at h32; omega
        · simp only [decide_eq_true_eq, decide_eq_false_iff_not] at h32
          refine lv_iconst (v := iI 1) kx kb dX3_line_35 rfl ?_
          refine lv_goto (tgt := 40) kx kb dX3_line_36 (by decide) ?_
          refine lv_iconst (v := iI 1) kx kb dX3_line_40 rfl ?_
          refine t_callV (wr := []) C (met_X3_right l D E o b1 b2 b3 b4 b5 b6 w g ik st kp go dp pt true 1 (by first | assumption | omega) (by first | assumption | omega) (by first | assumption | omega)) (cwV 2 hts (lw_V q1410 q1412 qs24 q62 q1413) rfl rfl rfl (by decide +kernel) ⟨Nat.le_of_ble_eq_true rfl, Nat.le_of_ble_eq_true rfl⟩) (va_recv hK hP (ci := 0) (q0 := 0) rfl rfl) hK hX hP hD hS hA [0, 1, 2, 3, 4, 5, 6] [] rfl rfl (by decide) (by decide) (by decide) tYb_0 (fun _ _ _ => trivial) rfl hl.1 rfl (Nat.le_of_ble_eq_true rfl) dX3_line_41 ⟨(show 0 ≤ 0 from by omega), (show 0 ≤ 0 from by omega)⟩ (fun u_ H locs hp hP hD hS => ?_)
          obtain ⟨t2_1, rfl⟩ : ∃ z, z = u_ := ⟨_, rfl⟩
          have hc41_1 : t2_1 = if true then 0 else 1 := hp
          subst hc41_1
          have hP : va_P D.1 clAll [(o, .inr (0, [.int (iI (if true then 0 else 1)), .ref b1, .ref b2, .ref b3, .ref b4, .ref b5, .ref b6, .int (iI (w : Int)), .int (iI (g : Int))])), (b1, .inl (D.2 0, 1024, .inl (fun x_ => zI (ik x_)))), (b2, .inl (D.2 0, 1024, .inl (fun x_ => zI (st x_)))), (b3, .inl (D.2 0, 1024, .inl (fun x_ => zI (kp x_)))), (b4, .inl (D.2 0, 1024, .inl (fun x_ => zI (go x_)))), (b5, .inl (D.2 1, 1024, .inl (fun x_ => iI (dp x_)))), (b6, .inl (D.2 1, 1024, .inl (fun x_ => iI (pt x_))))] H := hP
          have hD : va_D A [(o, .inr (0, [.int (iI (if true then 0 else 1)), .ref b1, .ref b2, .ref b3, .ref b4, .ref b5, .ref b6, .int (iI (w : Int)), .int (iI (g : Int))])), (b1, .inl (D.2 0, 1024, .inl (fun x_ => zI (ik x_)))), (b2, .inl (D.2 0, 1024, .inl (fun x_ => zI (st x_)))), (b3, .inl (D.2 0, 1024, .inl (fun x_ => zI (kp x_)))), (b4, .inl (D.2 0, 1024, .inl (fun x_ => zI (go x_)))), (b5, .inl (D.2 1, 1024, .inl (fun x_ => iI (dp x_)))), (b6, .inl (D.2 1, 1024, .inl (fun x_ => iI (pt x_))))] := hD
          refine W.eq (g2 := F0 m0 44 ls [.int (zI true)]) rfl ?_
          refine tz_if_eq (tgt := 61) kx kb dX3_line_44 (by decide) (fun h44 => ?_) (fun h44 => ?_)
          · cases h44
          · refine lv_aload_n kx kb dX3_line_47 rfl (lv_at hl 0 rfl) ?_
            refine lv_iload_n kx kb dX3_line_48 rfl (lv_at hl 1 rfl) ?_
            refine lv_iload_n kx kb dX3_line_49 rfl (lv_at hl 2 rfl) ?_
            refine lv_iload_n kx kb dX3_line_50 rfl (lv_at hl 3 rfl) ?_
            refine lv_iload kx kb dX3_line_51 (lv_at hl 4 rfl) ?_
            refine lv_iload kx kb dX3_line_53 (lv_at hl 5 rfl) ?_
            refine t_callV (wr := []) C (met_X3_lines l D E o b1 b2 b3 b4 b5 b6 (if true then 0 else 1) w g ik st kp go dp pt x1 y1 x2 y2 bb (by first | assumption | omega) (by first | assumption | omega) (by first | assumption | omega) (by first | assumption | omega) (by first | assumption | omega) (by first | assumption | omega)) (cwV 5 hts (lw_V q1437 q1439 qs28 q62 q1440) rfl rfl rfl (by decide +kernel) ⟨Nat.le_of_ble_eq_true rfl, Nat.le_of_ble_eq_true rfl⟩) (va_recv hK hP (ci := 0) (q0 := 0) rfl rfl) hK hX hP hD hS hA [0, 1, 2, 3, 4, 5, 6] [] rfl rfl (by decide) (by decide) (by decide) tYb_0 (fun _ _ _ => trivial) rfl hl.1 rfl (Nat.le_of_ble_eq_true rfl) dX3_line_55 ⟨(show 0 ≤ 0 from by omega), (show 0 ≤ 0 from by omega)⟩ (fun u_ H locs hp hP hD hS => ?_)
            obtain ⟨ik2_2, rfl⟩ : ∃ z, z = u_ := ⟨_, rfl⟩
            have hc55_1 : ik2_2 = drwL w g bb (lnL x1 y1 x2 y2) ik := hp
            subst hc55_1
            have hP : va_P D.1 clAll [(o, .inr (0, [.int (iI (if true then 0 else 1)), .ref b1, .ref b2, .ref b3, .ref b4, .ref b5, .ref b6, .int (iI (w : Int)), .int (iI (g : Int))])), (b1, .inl (D.2 0, 1024, .inl (fun x_ => zI ((drwL w g bb (lnL x1 y1 x2 y2) ik) x_)))), (b2, .inl (D.2 0, 1024, .inl (fun x_ => zI (st x_)))), (b3, .inl (D.2 0, 1024, .inl (fun x_ => zI (kp x_)))), (b4, .inl (D.2 0, 1024, .inl (fun x_ => zI (go x_)))), (b5, .inl (D.2 1, 1024, .inl (fun x_ => iI (dp x_)))), (b6, .inl (D.2 1, 1024, .inl (fun x_ => iI (pt x_))))] H := hP
            have hD : va_D A [(o, .inr (0, [.int (iI (if true then 0 else 1)), .ref b1, .ref b2, .ref b3, .ref b4, .ref b5, .ref b6, .int (iI (w : Int)), .int (iI (g : Int))])), (b1, .inl (D.2 0, 1024, .inl (fun x_ => zI ((drwL w g bb (lnL x1 y1 x2 y2) ik) x_)))), (b2, .inl (D.2 0, 1024, .inl (fun x_ => zI (st x_)))), (b3, .inl (D.2 0, 1024, .inl (fun x_ => zI (kp x_)))), (b4, .inl (D.2 0, 1024, .inl (fun x_ => zI (go x_)))), (b5, .inl (D.2 1, 1024, .inl (fun x_ => iI (dp x_)))), (b6, .inl (D.2 1, 1024, .inl (fun x_ => iI (pt x_))))] := hD
            refine W.eq (g2 := F0 m0 58 ls [.int (iI ((chg ik (drwL w g bb (lnL x1 y1 x2 y2) ik) (w * g) : Nat) : Int))]) rfl ?_
            refine lv_goto (tgt := 62) kx kb dX3_line_58 (by decide) ?_
            subst hQ
            exact tm_iret C (drwL w g bb (lnL x1 y1 x2 y2) ik) (by first | rfl | assumption) hP hD hS (show 0 ≤ 0 from by omega) (show 0 ≤ 0 from by omega) rfl rfl dX3_line_62
set_option maxHeartbeats 4000000 in
set_option maxRecDepth 100000 in
theorem met_X3_line_no (l : Launch) (D : TG) (E : TE) (o : Nat) (b1 : Nat) (b2 : Nat) (b3 : Nat) (b4 : Nat) (b5 : Nat) (b6 : Nat) (thr : Int) (w : Nat) (g : Nat) (ik : Nat → Bool) (st : Nat → Bool) (kp : Nat → Bool) (go : Nat → Bool) (dp : Nat → Int) (pt : Nat → Int) (x1 : Int) (y1 : Int) (x2 : Int) (y2 : Int) (bb : Bool) (hw : 1 ≤ w ∧ w ≤ 32) (hg : 1 ≤ g ∧ g ≤ 32) (rx1 : -2147483648 ≤ x1 ∧ x1 < 2147483648) (ry1 : -2147483648 ≤ y1 ∧ y1 < 2147483648) (rx2 : -2147483648 ≤ x2 ∧ x2 < 2147483648) (ry2 : -2147483648 ≤ y2 ∧ y2 < 2147483648) (hv : ¬ ((-40 ≤ x1 ∧ x1 ≤ 72) ∧ (-40 ≤ y1 ∧ y1 ≤ 72) ∧ (-40 ≤ x2 ∧ x2 ≤ 72) ∧ (-40 ≤ y2 ∧ y2 ≤ 72))) : tMet l yX3_line cX3_line 6 (some .int) 4 99 (0) (0) [.ref o, .int (iI x1), .int (iI y1), .int (iI x2), .int (iI y2), .int (zI bb)] D E [(o, .inr (0, [.int (iI thr), .ref b1, .ref b2, .ref b3, .ref b4, .ref b5, .ref b6, .int (iI (w : Int)), .int (iI (g : Int))])), (b1, .inl (D.2 0, 1024, .inl (fun x_ => zI (ik x_)))), (b2, .inl (D.2 0, 1024, .inl (fun x_ => zI (st x_)))), (b3, .inl (D.2 0, 1024, .inl (fun x_ => zI (kp x_)))), (b4, .inl (D.2 0, 1024, .inl (fun x_ => zI (go x_)))), (b5, .inl (D.2 1, 1024, .inl (fun x_ => iI (dp x_)))), (b6, .inl (D.2 1, 1024, .inl (fun x_ => iI (pt x_))))] tY0 (S := Unit) (fun u_ => True) (fun u_ => some (.int (iI 0))) (fun u_ => [(o, .inr (0, [.int (iI 1), .ref b1, .ref b2, .ref b3, .ref b4, .ref b5, .ref b6, .int (iI (w : Int)), .int (iI (g : Int))])), (b1, .inl (D.2 0, 1024, .inl (fun x_ => zI (ik x_)))), (b2, .inl (D.2 0, 1024, .inl (fun x_ => zI (st x_)))), (b3, .inl (D.2 0, 1024, .inl (fun x_ => zI (kp x_)))), (b4, .inl (D.2 0, 1024, .inl (fun x_ => zI (go x_)))), (b5, .inl (D.2 1, 1024, .inl (fun x_ => iI (dp x_)))), (b6, .inl (D.2 1, 1024, .inl (fun x_ => iI (pt x_))))]) := by
  refine tu_met (by decide +kernel) (Nat.le_of_ble_eq_true rfl) ?_
  intro p0 e0 s0 m0 below meth c0 A ls args Q hag hQ C hK hX hY hP hD hA hAe hl
  obtain ⟨kx, kb, hml, hown, hts, -⟩ := id C
  have hS : va_S A s0.heap s0.heap [] := va_S.rf
  have hl : lv_has ls 6 [(0, .ref o), (1, .int (iI x1)), (2, .int (iI y1)), (3, .int (iI x2)), (4, .int (iI y2)), (5, .int (zI bb))] := hl
  have hwg := wg_le hw hg
  refine lv_aload_n kx kb dX3_line_0 rfl (lv_at hl 0 rfl) ?_
  refine lv_iconst (v := iI 0) kx kb dX3_line_1 rfl ?_
  refine va_put (D := D.1) (ci := 0) (v := .int (iI 0)) (ty := .int) (C := RX3) (T := TX3) (N := 9) kx kb hts in_X3 tyX3 tyX3_ok nmX3 hown hK hP hD hS 0 rfl rfl 0 (by decide) (hts _ q1370) (fun _ h9 => h9) rfl (by decide +kernel) rfl rfl (Nat.le_of_ble_eq_true rfl) dX3_line_2 (fun H locs hP hD hS => ?_)
  have hP : va_P D.1 clAll [(o, .inr (0, [.int (iI 0), .ref b1, .ref b2, .ref b3, .ref b4, .ref b5, .ref b6, .int (iI (w : Int)), .int (iI (g : Int))])), (b1, .inl (D.2 0, 1024, .inl (fun x_ => zI (ik x_)))), (b2, .inl (D.2 0, 1024, .inl (fun x_ => zI (st x_)))), (b3, .inl (D.2 0, 1024, .inl (fun x_ => zI (kp x_)))), (b4, .inl (D.2 0, 1024, .inl (fun x_ => zI (go x_)))), (b5, .inl (D.2 1, 1024, .inl (fun x_ => iI (dp x_)))), (b6, .inl (D.2 1, 1024, .inl (fun x_ => iI (pt x_))))] H := hP
  have hD : va_D A [(o, .inr (0, [.int (iI 0), .ref b1, .ref b2, .ref b3, .ref b4, .ref b5, .ref b6, .int (iI (w : Int)), .int (iI (g : Int))])), (b1, .inl (D.2 0, 1024, .inl (fun x_ => zI (ik x_)))), (b2, .inl (D.2 0, 1024, .inl (fun x_ => zI (st x_)))), (b3, .inl (D.2 0, 1024, .inl (fun x_ => zI (kp x_)))), (b4, .inl (D.2 0, 1024, .inl (fun x_ => zI (go x_)))), (b5, .inl (D.2 1, 1024, .inl (fun x_ => iI (dp x_)))), (b6, .inl (D.2 1, 1024, .inl (fun x_ => iI (pt x_))))] := hD
  refine lv_aload_n kx kb dX3_line_5 rfl (lv_at hl 0 rfl) ?_
  refine lv_iload_n kx kb dX3_line_6 rfl (lv_at hl 1 rfl) ?_
  refine t_callRS C (met_X3_isNear l D E x1 (by first | assumption | omega)) (va_cwS 1 hts (lw_S q1434 q1435 q62 q1436) rfl rfl rfl (by decide +kernel) ⟨Nat.le_of_ble_eq_true rfl, Nat.le_of_ble_eq_true rfl⟩) hK hX hP hD hS hA [] rfl (by decide) tYb_0 (fun _ _ _ => trivial) rfl hl.1 rfl (Nat.le_of_ble_eq_true rfl) dX3_line_7 ⟨(show 0 ≤ 0 from by omega), (show 0 ≤ 0 from by omega)⟩ ?_
  refine W.eq (g2 := F0 m0 10 ls [.int (zI (decide (-40 ≤ x1 ∧ x1 ≤ 72))), .ref o]) rfl ?_
  refine tz_if_eq (tgt := 39) kx kb dX3_line_10 (by decide) (fun h10 => ?_) (fun h10 => ?_)
  · simp only [decide_eq_true_eq, decide_eq_false_iff_not] at h10
    refine lv_iconst (v := iI 0) kx kb dX3_line_39 rfl ?_
    refine lv_iconst (v := iI 1) kx kb dX3_line_40 rfl ?_
    refine t_callV (wr := []) C (met_X3_right l D E o b1 b2 b3 b4 b5 b6 w g ik st kp go dp pt false 1 (by first | assumption | omega) (by first | assumption | omega) (by first | assumption | omega)) (cwV 2 hts (lw_V q1410 q1412 qs24 q62 q1413) rfl rfl rfl (by decide +kernel) ⟨Nat.le_of_ble_eq_true rfl, Nat.le_of_ble_eq_true rfl⟩) (va_recv hK hP (ci := 0) (q0 := 0) rfl rfl) hK hX hP hD hS hA [0, 1, 2, 3, 4, 5, 6] [] rfl rfl (by decide) (by decide) (by decide) tYb_0 (fun _ _ _ => trivial) rfl hl.1 rfl (Nat.le_of_ble_eq_true rfl) dX3_line_41 ⟨(show 0 ≤ 0 from by omega), (show 0 ≤ 0 from by omega)⟩ (fun u_ H locs hp hP hD hS => ?_)
    obtain ⟨t2_1, rfl⟩ : ∃ z, z = u_ := ⟨_, rfl⟩
    have hc41_1 : t2_1 = if false then 0 else 1 := hp
    subst hc41_1
    have hP : va_P D.1 clAll [(o, .inr (0, [.int (iI (if false then 0 else 1)), .ref b1, .ref b2, .ref b3, .ref b4, .ref b5, .ref b6, .int (iI (w : Int)), .int (iI (g : Int))])), (b1, .inl (D.2 0, 1024, .inl (fun x_ => zI (ik x_)))), (b2, .inl (D.2 0, 1024, .inl (fun x_ => zI (st x_)))), (b3, .inl (D.2 0, 1024, .inl (fun x_ => zI (kp x_)))), (b4, .inl (D.2 0, 1024, .inl (fun x_ => zI (go x_)))), (b5, .inl (D.2 1, 1024, .inl (fun x_ => iI (dp x_)))), (b6, .inl (D.2 1, 1024, .inl (fun x_ => iI (pt x_))))] H := hP
    have hD : va_D A [(o, .inr (0, [.int (iI (if false then 0 else 1)), .ref b1, .ref b2, .ref b3, .ref b4, .ref b5, .ref b6, .int (iI (w : Int)), .int (iI (g : Int))])), (b1, .inl (D.2 0, 1024, .inl (fun x_ => zI (ik x_)))), (b2, .inl (D.2 0, 1024, .inl (fun x_ => zI (st x_)))), (b3, .inl (D.2 0, 1024, .inl (fun x_ => zI (kp x_)))), (b4, .inl (D.2 0, 1024, .inl (fun x_ => zI (go x_)))), (b5, .inl (D.2 1, 1024, .inl (fun x_ => iI (dp x_)))), (b6, .inl (D.2 1, 1024, .inl (fun x_ => iI (pt x_))))] := hD
    refine W.eq (g2 := F0 m0 44 ls [.int (zI false)]) rfl ?_
    refine tz_if_eq (tgt := 61) kx kb dX3_line_44 (by decide) (fun h44 => ?_) (fun h44 => ?_)
    · refine lv_iconst (v := iI 0) kx kb dX3_line_61 rfl ?_
      subst hQ
      exact tm_iret C () trivial hP hD hS (show 0 ≤ 0 from by omega) (show 0 ≤ 0 from by omega) rfl rfl dX3_line_62
    · cases h44
  · simp only [decide_eq_true_eq, decide_eq_false_iff_not] at h10
    refine lv_iload_n kx kb dX3_line_13 rfl (lv_at hl 2 rfl) ?_
    refine t_callRS C (met_X3_isNear l D E y1 (by first | assumption | omega)) (va_cwS 1 hts (lw_S q1434 q1435 q62 q1436) rfl rfl rfl (by decide +kernel) ⟨Nat.le_of_ble_eq_true rfl, Nat.le_of_ble_eq_true rfl⟩) hK hX hP hD hS hA [] rfl (by decide) tYb_0 (fun _ _ _ => trivial) rfl hl.1 rfl (Nat.le_of_ble_eq_true rfl) dX3_line_14 ⟨(show 0 ≤ 0 from by omega), (show 0 ≤ 0 from by omega)⟩ ?_
    refine W.eq (g2 := F0 m0 17 ls [.int (zI (decide (-40 ≤ y1 ∧ y1 ≤ 72))), .ref o]) rfl ?_
    refine tz_if_eq (tgt := 39) kx kb dX3_line_17 (by decide) (fun h17 => ?_) (fun h17 => ?_)
    · simp only [decide_eq_true_eq, decide_eq_false_iff_not] at h17
      refine lv_iconst (v := iI 0) kx kb dX3_line_39 rfl ?_
      refine lv_iconst (v := iI 1) kx kb dX3_line_40 rfl ?_
      refine t_callV (wr := []) C (met_X3_right l D E o b1 b2 b3 b4 b5 b6 w g ik st kp go dp pt false 1 (by first | assumption | omega) (by first | assumption | omega) (by first | assumption | omega)) (cwV 2 hts (lw_V q1410 q1412 qs24 q62 q1413) rfl rfl rfl (by decide +kernel) ⟨Nat.le_of_ble_eq_true rfl, Nat.le_of_ble_eq_true rfl⟩) (va_recv hK hP (ci := 0) (q0 := 0) rfl rfl) hK hX hP hD hS hA [0, 1, 2, 3, 4, 5, 6] [] rfl rfl (by decide) (by decide) (by decide) tYb_0 (fun _ _ _ => trivial) rfl hl.1 rfl (Nat.le_of_ble_eq_true rfl) dX3_line_41 ⟨(show 0 ≤ 0 from by omega), (show 0 ≤ 0 from by omega)⟩ (fun u_ H locs hp hP hD hS => ?_)
      obtain ⟨t2_2, rfl⟩ : ∃ z, z = u_ := ⟨_, rfl⟩
      have hc41_1 : t2_2 = if false then 0 else 1 := hp
      subst hc41_1
      have hP : va_P D.1 clAll [(o, .inr (0, [.int (iI (if false then 0 else 1)), .ref b1, .ref b2, .ref b3, .ref b4, .ref b5, .ref b6, .int (iI (w : Int)), .int (iI (g : Int))])), (b1, .inl (D.2 0, 1024, .inl (fun x_ => zI (ik x_)))), (b2, .inl (D.2 0, 1024, .inl (fun x_ => zI (st x_)))), (b3, .inl (D.2 0, 1024, .inl (fun x_ => zI (kp x_)))), (b4, .inl (D.2 0, 1024, .inl (fun x_ => zI (go x_)))), (b5, .inl (D.2 1, 1024, .inl (fun x_ => iI (dp x_)))), (b6, .inl (D.2 1, 1024, .inl (fun x_ => iI (pt x_))))] H := hP
      have hD : va_D A [(o, .inr (0, [.int (iI (if false then 0 else 1)), .ref b1, .ref b2, .ref b3, .ref b4, .ref b5, .ref b6, .int (iI (w : Int)), .int (iI (g : Int))])), (b1, .inl (D.2 0, 1024, .inl (fun x_ => zI (ik x_)))), (b2, .inl (D.2 0, 1024, .inl (fun x_ => zI (st x_)))), (b3, .inl (D.2 0, 1024, .inl (fun x_ => zI (kp x_)))), (b4, .inl (D.2 0, 1024, .inl (fun x_ => zI (go x_)))), (b5, .inl (D.2 1, 1024, .inl (fun x_ => iI (dp x_)))), (b6, .inl (D.2 1, 1024, .inl (fun x_ => iI (pt x_))))] := hD
      refine W.eq (g2 := F0 m0 44 ls [.int (zI false)]) rfl ?_
      refine tz_if_eq (tgt := 61) kx kb dX3_line_44 (by decide) (fun h44 => ?_) (fun h44 => ?_)
      · refine lv_iconst (v := iI 0) kx kb dX3_line_61 rfl ?_
        subst hQ
        exact tm_iret C () trivial hP hD hS (show 0 ≤ 0 from by omega) (show 0 ≤ 0 from by omega) rfl rfl dX3_line_62
      · cases h44
    · simp only [decide_eq_true_eq, decide_eq_false_iff_not] at h17
      refine lv_iload_n kx kb dX3_line_20 rfl (lv_at hl 3 rfl) ?_
      refine t_callRS C (met_X3_isNear l D E x2 (by first | assumption | omega)) (va_cwS 1 hts (lw_S q1434 q1435 q62 q1436) rfl rfl rfl (by decide +kernel) ⟨Nat.le_of_ble_eq_true rfl, Nat.le_of_ble_eq_true rfl⟩) hK hX hP hD hS hA [] rfl (by decide) tYb_0 (fun _ _ _ => trivial) rfl hl.1 rfl (Nat.le_of_ble_eq_true rfl) dX3_line_21 ⟨(show 0 ≤ 0 from by omega), (show 0 ≤ 0 from by omega)⟩ ?_
      refine W.eq (g2 := F0 m0 24 ls [.int (zI (decide (-40 ≤ x2 ∧ x2 ≤ 72))), .ref o]) rfl ?_
      refine tz_if_eq (tgt := 39) kx kb dX3_line_24 (by decide) (fun h24 => ?_) (fun h24 => ?_)
      · simp only [decide_eq_true_eq, decide_eq_false_iff_not] at h24
        refine lv_iconst (v := iI 0) kx kb dX3_line_39 rfl ?_
        refine lv_iconst (v := iI 1) kx kb dX3_line_40 rfl ?_
        refine t_callV (wr := []) C (met_X3_right l D E o b1 b2 b3 b4 b5 b6 w g ik st kp go dp pt false 1 (by first | assumption | omega) (by first | assumption | omega) (by first | assumption | omega)) (cwV 2 hts (lw_V q1410 q1412 qs24 q62 q1413) rfl rfl rfl (by decide +kernel) ⟨Nat.le_of_ble_eq_true rfl, Nat.le_of_ble_eq_true rfl⟩) (va_recv hK hP (ci := 0) (q0 := 0) rfl rfl) hK hX hP hD hS hA [0, 1, 2, 3, 4, 5, 6] [] rfl rfl (by decide) (by decide) (by decide) tYb_0 (fun _ _ _ => trivial) rfl hl.1 rfl (Nat.le_of_ble_eq_true rfl) dX3_line_41 ⟨(show 0 ≤ 0 from by omega), (show 0 ≤ 0 from by omega)⟩ (fun u_ H locs hp hP hD hS => ?_)
        obtain ⟨t2_3, rfl⟩ : ∃ z, z = u_ := ⟨_, rfl⟩
        have hc41_1 : t2_3 = if false then 0 else 1 := hp
        subst hc41_1
        have hP : va_P D.1 clAll [(o, .inr (0, [.int (iI (if false then 0 else 1)), .ref b1, .ref b2, .ref b3, .ref b4, .ref b5, .ref b6, .int (iI (w : Int)), .int (iI (g : Int))])), (b1, .inl (D.2 0, 1024, .inl (fun x_ => zI (ik x_)))), (b2, .inl (D.2 0, 1024, .inl (fun x_ => zI (st x_)))), (b3, .inl (D.2 0, 1024, .inl (fun x_ => zI (kp x_)))), (b4, .inl (D.2 0, 1024, .inl (fun x_ => zI (go x_)))), (b5, .inl (D.2 1, 1024, .inl (fun x_ => iI (dp x_)))), (b6, .inl (D.2 1, 1024, .inl (fun x_ => iI (pt x_))))] H := hP
        have hD : va_D A [(o, .inr (0, [.int (iI (if false then 0 else 1)), .ref b1, .ref b2, .ref b3, .ref b4, .ref b5, .ref b6, .int (iI (w : Int)), .int (iI (g : Int))])), (b1, .inl (D.2 0, 1024, .inl (fun x_ => zI (ik x_)))), (b2, .inl (D.2 0, 1024, .inl (fun x_ => zI (st x_)))), (b3, .inl (D.2 0, 1024, .inl (fun x_ => zI (kp x_)))), (b4, .inl (D.2 0, 1024, .inl (fun x_ => zI (go x_)))), (b5, .inl (D.2 1, 1024, .inl (fun x_ => iI (dp x_)))), (b6, .inl (D.2 1, 1024, .inl (fun x_ => iI (pt x_))))] := hD
        refine W.eq (g2 := F0 m0 44 ls [.int (zI false)]) rfl ?_
        refine tz_if_eq (tgt := 61) kx kb dX3_line_44 (by decide) (fun h44 => ?_) (fun h44 => ?_)
        · refine lv_iconst (v := iI 0) kx kb dX3_line_61 rfl ?_
          subst hQ
          exact tm_iret C () trivial hP hD hS (show 0 ≤ 0 from by omega) (show 0 ≤ 0 from by omega) rfl rfl dX3_line_62
        · cases h44
      · simp only [decide_eq_true_eq, decide_eq_false_iff_not] at h24
        refine lv_iload kx kb dX3_line_27 (lv_at hl 4 rfl) ?_
        refine t_callRS C (met_X3_isNear l D E y2 (by first | assumption | omega)) (va_cwS 1 hts (lw_S q1434 q1435 q62 q1436) rfl rfl rfl (by decide +kernel) ⟨Nat.le_of_ble_eq_true rfl, Nat.le_of_ble_eq_true rfl⟩) hK hX hP hD hS hA [] rfl (by decide) tYb_0 (fun _ _ _ => trivial) rfl hl.1 rfl (Nat.le_of_ble_eq_true rfl) dX3_line_29 ⟨(show 0 ≤ 0 from by omega), (show 0 ≤ 0 from by omega)⟩ ?_
        refine W.eq (g2 := F0 m0 32 ls [.int (zI (decide (-40 ≤ y2 ∧ y2 ≤ 72))), .ref o]) rfl ?_
        refine tz_if_eq (tgt := 39) kx kb dX3_line_32 (by decide) (fun h32 => ?_) (fun h32 => ?_)
        · simp only [decide_eq_true_eq, decide_eq_false_iff_not] at h32
          refine lv_iconst (v := iI 0) kx kb dX3_line_39 rfl ?_
          refine lv_iconst (v := iI 1) kx kb dX3_line_40 rfl ?_
          refine t_callV (wr := []) C (met_X3_right l D E o b1 b2 b3 b4 b5 b6 w g ik st kp go dp pt false 1 (by first | assumption | omega) (by first | assumption | omega) (by first | assumption | omega)) (cwV 2 hts (lw_V q1410 q1412 qs24 q62 q1413) rfl rfl rfl (by decide +kernel) ⟨Nat.le_of_ble_eq_true rfl, Nat.le_of_ble_eq_true rfl⟩) (va_recv hK hP (ci := 0) (q0 := 0) rfl rfl) hK hX hP hD hS hA [0, 1, 2, 3, 4, 5, 6] [] rfl rfl (by decide) (by decide) (by decide) tYb_0 (fun _ _ _ => trivial) rfl hl.1 rfl (Nat.le_of_ble_eq_true rfl) dX3_line_41 ⟨(show 0 ≤ 0 from by omega), (show 0 ≤ 0 from by omega)⟩ (fun u_ H locs hp hP hD hS => ?_)
          obtain ⟨t2_4, rfl⟩ : ∃ z, z = u_ := ⟨_, rfl⟩
          have hc41_1 : t2_4 = if false then 0 else 1 := hp
          subst hc41_1
          have hP : va_P D.1 clAll [(o, .inr (0, [.int (iI (if false then 0 else 1)), .ref b1, .ref b2, .ref b3, .ref b4, .ref b5, .ref b6, .int (iI (w : Int)), .int (iI (g : Int))])), (b1, .inl (D.2 0, 1024, .inl (fun x_ => zI (ik x_)))), (b2, .inl (D.2 0, 1024, .inl (fun x_ => zI (st x_)))), (b3, .inl (D.2 0, 1024, .inl (fun x_ => zI (kp x_)))), (b4, .inl (D.2 0, 1024, .inl (fun x_ => zI (go x_)))), (b5, .inl (D.2 1, 1024, .inl (fun x_ => iI (dp x_)))), (b6, .inl (D.2 1, 1024, .inl (fun x_ => iI (pt x_))))] H := hP
          have hD : va_D A [(o, .inr (0, [.int (iI (if false then 0 else 1)), .ref b1, .ref b2, .ref b3, .ref b4, .ref b5, .ref b6, .int (iI (w : Int)), .int (iI (g : Int))])), (b1, .inl (D.2 0, 1024, .inl (fun x_ => zI (ik x_)))), (b2, .inl (D.2 0, 1024, .inl (fun x_ => zI (st x_)))), (b3, .inl (D.2 0, 1024, .inl (fun x_ => zI (kp x_)))), (b4, .inl (D.2 0, 1024, .inl (fun x_ => zI (go x_)))), (b5, .inl (D.2 1, 1024, .inl (fun x_ => iI (dp x_)))), (b6, .inl (D.2 1, 1024, .inl (fun x_ => iI (pt x_))))] := hD
          refine W.eq (g2 := F0 m0 44 ls [.int (zI false)]) rfl ?_
          refine tz_if_eq (tgt := 61) kx kb dX3_line_44 (by decide) (fun h44 => ?_) (fun h44 => ?_)
          · refine lv_iconst (v := iI 0) kx kb dX3_line_61 rfl ?_
            subst hQ
            exact tm_iret C () trivial hP hD hS (show 0 ≤ 0 from by omega) (show 0 ≤ 0 from by omega) rfl rfl dX3_line_62
          · cases h44
        · simp only [decide_eq_true_eq] at h32; omega
set_option maxHeartbeats 4000000 in
set_option maxRecDepth 100000 in
theorem met_X3_circle_ok (l : Launch) (D : TG) (E : TE) (o : Nat) (b1 : Nat) (b2 : Nat) (b3 : Nat) (b4 : Nat) (b5 : Nat) (b6 : Nat) (thr : Int) (w : Nat) (g : Nat) (ik : Nat → Bool) (st : Nat → Bool) (kp : Nat → Bool) (go : Nat → Bool) (dp : Nat → Int) (pt : Nat → Int) (cx : Int) (cy : Int) (r : Int) (bb : Bool) (hw : 1 ≤ w ∧ w ≤ 32) (hg : 1 ≤ g ∧ g ≤ 32) (rcx : -40 ≤ cx ∧ cx ≤ 72) (rcy : -40 ≤ cy ∧ cy ≤ 72) (hr : 0 ≤ r ∧ r ≤ 40) : tMet l yX3_circle cX3_circle 5 (some .int) 5 124 (0) (0) [.ref o, .int (iI cx), .int (iI cy), .int (iI r), .int (zI bb)] D E [(o, .inr (0, [.int (iI thr), .ref b1, .ref b2, .ref b3, .ref b4, .ref b5, .ref b6, .int (iI (w : Int)), .int (iI (g : Int))])), (b1, .inl (D.2 0, 1024, .inl (fun x_ => zI (ik x_)))), (b2, .inl (D.2 0, 1024, .inl (fun x_ => zI (st x_)))), (b3, .inl (D.2 0, 1024, .inl (fun x_ => zI (kp x_)))), (b4, .inl (D.2 0, 1024, .inl (fun x_ => zI (go x_)))), (b5, .inl (D.2 1, 1024, .inl (fun x_ => iI (dp x_)))), (b6, .inl (D.2 1, 1024, .inl (fun x_ => iI (pt x_))))] tY0 (S := (Nat → Bool)) (fun u_ => u_ = drwL w g bb (crA cx cy r) ik) (fun u_ => some (.int (iI ((chg ik (drwL w g bb (crA cx cy r) ik) (w * g) : Nat) : Int)))) (fun u_ => [(o, .inr (0, [.int (iI 0), .ref b1, .ref b2, .ref b3, .ref b4, .ref b5, .ref b6, .int (iI (w : Int)), .int (iI (g : Int))])), (b1, .inl (D.2 0, 1024, .inl (fun x_ => zI (u_ x_)))), (b2, .inl (D.2 0, 1024, .inl (fun x_ => zI (st x_)))), (b3, .inl (D.2 0, 1024, .inl (fun x_ => zI (kp x_)))), (b4, .inl (D.2 0, 1024, .inl (fun x_ => zI (go x_)))), (b5, .inl (D.2 1, 1024, .inl (fun x_ => iI (dp x_)))), (b6, .inl (D.2 1, 1024, .inl (fun x_ => iI (pt x_))))]) := by
  refine tu_met (by decide +kernel) (Nat.le_of_ble_eq_true rfl) ?_
  intro p0 e0 s0 m0 below meth c0 A ls args Q hag hQ C hK hX hY hP hD hA hAe hl
  obtain ⟨kx, kb, hml, hown, hts, -⟩ := id C
  have hS : va_S A s0.heap s0.heap [] := va_S.rf
  have hl : lv_has ls 5 [(0, .ref o), (1, .int (iI cx)), (2, .int (iI cy)), (3, .int (iI r)), (4, .int (zI bb))] := hl
  have hwg := wg_le hw hg
  refine lv_aload_n kx kb dX3_circle_0 rfl (lv_at hl 0 rfl) ?_
  refine lv_iconst (v := iI 0) kx kb dX3_circle_1 rfl ?_
  refine va_put (D := D.1) (ci := 0) (v := .int (iI 0)) (ty := .int) (C := RX3) (T := TX3) (N := 9) kx kb hts in_X3 tyX3 tyX3_ok nmX3 hown hK hP hD hS 0 rfl rfl 0 (by decide) (hts _ q1370) (fun _ h9 => h9) rfl (by decide +kernel) rfl rfl (Nat.le_of_ble_eq_true rfl) dX3_circle_2 (fun H locs hP hD hS => ?_)
  have hP : va_P D.1 clAll [(o, .inr (0, [.int (iI 0), .ref b1, .ref b2, .ref b3, .ref b4, .ref b5, .ref b6, .int (iI (w : Int)), .int (iI (g : Int))])), (b1, .inl (D.2 0, 1024, .inl (fun x_ => zI (ik x_)))), (b2, .inl (D.2 0, 1024, .inl (fun x_ => zI (st x_)))), (b3, .inl (D.2 0, 1024, .inl (fun x_ => zI (kp x_)))), (b4, .inl (D.2 0, 1024, .inl (fun x_ => zI (go x_)))), (b5, .inl (D.2 1, 1024, .inl (fun x_ => iI (dp x_)))), (b6, .inl (D.2 1, 1024, .inl (fun x_ => iI (pt x_))))] H := hP
  have hD : va_D A [(o, .inr (0, [.int (iI 0), .ref b1, .ref b2, .ref b3, .ref b4, .ref b5, .ref b6, .int (iI (w : Int)), .int (iI (g : Int))])), (b1, .inl (D.2 0, 1024, .inl (fun x_ => zI (ik x_)))), (b2, .inl (D.2 0, 1024, .inl (fun x_ => zI (st x_)))), (b3, .inl (D.2 0, 1024, .inl (fun x_ => zI (kp x_)))), (b4, .inl (D.2 0, 1024, .inl (fun x_ => zI (go x_)))), (b5, .inl (D.2 1, 1024, .inl (fun x_ => iI (dp x_)))), (b6, .inl (D.2 1, 1024, .inl (fun x_ => iI (pt x_))))] := hD
  refine lv_aload_n kx kb dX3_circle_5 rfl (lv_at hl 0 rfl) ?_
  refine lv_iload_n kx kb dX3_circle_6 rfl (lv_at hl 1 rfl) ?_
  refine t_callRS C (met_X3_isNear l D E cx (by first | assumption | omega)) (va_cwS 1 hts (lw_S q1434 q1435 q62 q1436) rfl rfl rfl (by decide +kernel) ⟨Nat.le_of_ble_eq_true rfl, Nat.le_of_ble_eq_true rfl⟩) hK hX hP hD hS hA [] rfl (by decide) tYb_0 (fun _ _ _ => trivial) rfl hl.1 rfl (Nat.le_of_ble_eq_true rfl) dX3_circle_7 ⟨(show 0 ≤ 0 from by omega), (show 0 ≤ 0 from by omega)⟩ ?_
  refine W.eq (g2 := F0 m0 10 ls [.int (zI (decide (-40 ≤ cx ∧ cx ≤ 72))), .ref o]) rfl ?_
  refine tz_if_eq (tgt := 34) kx kb dX3_circle_10 (by decide) (fun h10 => ?_) (fun h10 => ?_)
  · simp only [decide_eq_false_iff_not] at h10; omega
  · simp only [decide_eq_true_eq, decide_eq_false_iff_not] at h10
    refine lv_iload_n kx kb dX3_circle_13 rfl (lv_at hl 2 rfl) ?_
    refine t_callRS C (met_X3_isNear l D E cy (by first | assumption | omega)) (va_cwS 1 hts (lw_S q1434 q1435 q62 q1436) rfl rfl rfl (by decide +kernel) ⟨Nat.le_of_ble_eq_true rfl, Nat.le_of_ble_eq_true rfl⟩) hK hX hP hD hS hA [] rfl (by decide) tYb_0 (fun _ _ _ => trivial) rfl hl.1 rfl (Nat.le_of_ble_eq_true rfl) dX3_circle_14 ⟨(show 0 ≤ 0 from by omega), (show 0 ≤ 0 from by omega)⟩ ?_
    refine W.eq (g2 := F0 m0 17 ls [.int (zI (decide (-40 ≤ cy ∧ cy ≤ 72))), .ref o]) rfl ?_
    refine tz_if_eq (tgt := 34) kx kb dX3_circle_17 (by decide) (fun h17 => ?_) (fun h17 => ?_)
    · simp only [decide_eq_false_iff_not] at h17; omega
    · simp only [decide_eq_true_eq, decide_eq_false_iff_not] at h17
      refine lv_iload_n kx kb dX3_circle_20 rfl (lv_at hl 3 rfl) ?_
      refine lv_iconst (v := iI 0) kx kb dX3_circle_21 rfl ?_
      refine lv_bipush (v := iI 40) kx kb dX3_circle_22 rfl ?_
      refine t_callRS C (met_X3_isIn l D E r 0 40 (by first | assumption | omega)) (va_cwS 3 hts (lw_S q1407 q1408 q62 q1409) rfl rfl rfl (by decide +kernel) ⟨Nat.le_of_ble_eq_true rfl, Nat.le_of_ble_eq_true rfl⟩) hK hX hP hD hS hA [] rfl (by decide) tYb_0 (fun _ _ _ => trivial) rfl hl.1 rfl (Nat.le_of_ble_eq_true rfl) dX3_circle_24 ⟨(show 0 ≤ 0 from by omega), (show 0 ≤ 0 from by omega)⟩ ?_
      refine W.eq (g2 := F0 m0 27 ls [.int (zI (decide (0 ≤ r ∧ r ≤ 40))), .ref o]) rfl ?_
      refine tz_if_eq (tgt := 34) kx kb dX3_circle_27 (by decide) (fun h27 => ?_) (fun h27 => ?_)
      · simp only [decide_eq_false_iff_not] at h27; omega
      · simp only [decide_eq_true_eq, decide_eq_false_iff_not] at h27
        refine lv_iconst (v := iI 1) kx kb dX3_circle_30 rfl ?_
        refine lv_goto (tgt := 35) kx kb dX3_circle_31 (by decide) ?_
        refine lv_iconst (v := iI 1) kx kb dX3_circle_35 rfl ?_
        refine t_callV (wr := []) C (met_X3_right l D E o b1 b2 b3 b4 b5 b6 w g ik st kp go dp pt true 1 (by first | assumption | omega) (by first | assumption | omega) (by first | assumption | omega)) (cwV 2 hts (lw_V q1410 q1412 qs24 q62 q1413) rfl rfl rfl (by decide +kernel) ⟨Nat.le_of_ble_eq_true rfl, Nat.le_of_ble_eq_true rfl⟩) (va_recv hK hP (ci := 0) (q0 := 0) rfl rfl) hK hX hP hD hS hA [0, 1, 2, 3, 4, 5, 6] [] rfl rfl (by decide) (by decide) (by decide) tYb_0 (fun _ _ _ => trivial) rfl hl.1 rfl (Nat.le_of_ble_eq_true rfl) dX3_circle_36 ⟨(show 0 ≤ 0 from by omega), (show 0 ≤ 0 from by omega)⟩ (fun u_ H locs hp hP hD hS => ?_)
        obtain ⟨t2_1, rfl⟩ : ∃ z, z = u_ := ⟨_, rfl⟩
        have hc36_1 : t2_1 = if true then 0 else 1 := hp
        subst hc36_1
        have hP : va_P D.1 clAll [(o, .inr (0, [.int (iI (if true then 0 else 1)), .ref b1, .ref b2, .ref b3, .ref b4, .ref b5, .ref b6, .int (iI (w : Int)), .int (iI (g : Int))])), (b1, .inl (D.2 0, 1024, .inl (fun x_ => zI (ik x_)))), (b2, .inl (D.2 0, 1024, .inl (fun x_ => zI (st x_)))), (b3, .inl (D.2 0, 1024, .inl (fun x_ => zI (kp x_)))), (b4, .inl (D.2 0, 1024, .inl (fun x_ => zI (go x_)))), (b5, .inl (D.2 1, 1024, .inl (fun x_ => iI (dp x_)))), (b6, .inl (D.2 1, 1024, .inl (fun x_ => iI (pt x_))))] H := hP
        have hD : va_D A [(o, .inr (0, [.int (iI (if true then 0 else 1)), .ref b1, .ref b2, .ref b3, .ref b4, .ref b5, .ref b6, .int (iI (w : Int)), .int (iI (g : Int))])), (b1, .inl (D.2 0, 1024, .inl (fun x_ => zI (ik x_)))), (b2, .inl (D.2 0, 1024, .inl (fun x_ => zI (st x_)))), (b3, .inl (D.2 0, 1024, .inl (fun x_ => zI (kp x_)))), (b4, .inl (D.2 0, 1024, .inl (fun x_ => zI (go x_)))), (b5, .inl (D.2 1, 1024, .inl (fun x_ => iI (dp x_)))), (b6, .inl (D.2 1, 1024, .inl (fun x_ => iI (pt x_))))] := hD
        refine W.eq (g2 := F0 m0 39 ls [.int (zI true)]) rfl ?_
        refine tz_if_eq (tgt := 54) kx kb dX3_circle_39 (by decide) (fun h39 => ?_) (fun h39 => ?_)
        · cases h39
        · refine lv_aload_n kx kb dX3_circle_42 rfl (lv_at hl 0 rfl) ?_
          refine lv_iload_n kx kb dX3_circle_43 rfl (lv_at hl 1 rfl) ?_
          refine lv_iload_n kx kb dX3_circle_44 rfl (lv_at hl 2 rfl) ?_
          refine lv_iload_n kx kb dX3_circle_45 rfl (lv_at hl 3 rfl) ?_
          refine lv_iload kx kb dX3_circle_46 (lv_at hl 4 rfl) ?_
          refine t_callV (wr := []) C (met_X3_circles l D E o b1 b2 b3 b4 b5 b6 (if true then 0 else 1) w g ik st kp go dp pt cx cy r bb (by first | assumption | omega) (by first | assumption | omega) (by first | assumption | omega) (by first | assumption | omega) (by first | assumption | omega)) (cwV 4 hts (lw_V q1447 q1449 qs29 q62 q1450) rfl rfl rfl (by decide +kernel) ⟨Nat.le_of_ble_eq_true rfl, Nat.le_of_ble_eq_true rfl⟩) (va_recv hK hP (ci := 0) (q0 := 0) rfl rfl) hK hX hP hD hS hA [0, 1, 2, 3, 4, 5, 6] [] rfl rfl (by decide) (by decide) (by decide) tYb_0 (fun _ _ _ => trivial) rfl hl.1 rfl (Nat.le_of_ble_eq_true rfl) dX3_circle_48 ⟨(show 0 ≤ 0 from by omega), (show 0 ≤ 0 from by omega)⟩ (fun u_ H locs hp hP hD hS => ?_)
          obtain ⟨ik2_2, rfl⟩ : ∃ z, z = u_ := ⟨_, rfl⟩
          have hc48_1 : ik2_2 = drwL w g bb (crA cx cy r) ik := hp
          subst hc48_1
          have hP : va_P D.1 clAll [(o, .inr (0, [.int (iI (if true then 0 else 1)), .ref b1, .ref b2, .ref b3, .ref b4, .ref b5, .ref b6, .int (iI (w : Int)), .int (iI (g : Int))])), (b1, .inl (D.2 0, 1024, .inl (fun x_ => zI ((drwL w g bb (crA cx cy r) ik) x_)))), (b2, .inl (D.2 0, 1024, .inl (fun x_ => zI (st x_)))), (b3, .inl (D.2 0, 1024, .inl (fun x_ => zI (kp x_)))), (b4, .inl (D.2 0, 1024, .inl (fun x_ => zI (go x_)))), (b5, .inl (D.2 1, 1024, .inl (fun x_ => iI (dp x_)))), (b6, .inl (D.2 1, 1024, .inl (fun x_ => iI (pt x_))))] H := hP
          have hD : va_D A [(o, .inr (0, [.int (iI (if true then 0 else 1)), .ref b1, .ref b2, .ref b3, .ref b4, .ref b5, .ref b6, .int (iI (w : Int)), .int (iI (g : Int))])), (b1, .inl (D.2 0, 1024, .inl (fun x_ => zI ((drwL w g bb (crA cx cy r) ik) x_)))), (b2, .inl (D.2 0, 1024, .inl (fun x_ => zI (st x_)))), (b3, .inl (D.2 0, 1024, .inl (fun x_ => zI (kp x_)))), (b4, .inl (D.2 0, 1024, .inl (fun x_ => zI (go x_)))), (b5, .inl (D.2 1, 1024, .inl (fun x_ => iI (dp x_)))), (b6, .inl (D.2 1, 1024, .inl (fun x_ => iI (pt x_))))] := hD
          refine W.eq (g2 := F0 m0 51 ls [.int (iI ((chg ik (drwL w g bb (crA cx cy r) ik) (w * g) : Nat) : Int))]) rfl ?_
          refine lv_goto (tgt := 55) kx kb dX3_circle_51 (by decide) ?_
          subst hQ
          exact tm_iret C (drwL w g bb (crA cx cy r) ik) (by first | rfl | assumption) hP hD hS (show 0 ≤ 0 from by omega) (show 0 ≤ 0 from by omega) rfl rfl dX3_circle_55
set_option maxHeartbeats 4000000 in
set_option maxRecDepth 100000 in
theorem met_X3_circle_no (l : Launch) (D : TG) (E : TE) (o : Nat) (b1 : Nat) (b2 : Nat) (b3 : Nat) (b4 : Nat) (b5 : Nat) (b6 : Nat) (thr : Int) (w : Nat) (g : Nat) (ik : Nat → Bool) (st : Nat → Bool) (kp : Nat → Bool) (go : Nat → Bool) (dp : Nat → Int) (pt : Nat → Int) (cx : Int) (cy : Int) (r : Int) (bb : Bool) (hw : 1 ≤ w ∧ w ≤ 32) (hg : 1 ≤ g ∧ g ≤ 32) (rcx : -2147483648 ≤ cx ∧ cx < 2147483648) (rcy : -2147483648 ≤ cy ∧ cy < 2147483648) (rr : -2147483648 ≤ r ∧ r < 2147483648) (hv : ¬ ((-40 ≤ cx ∧ cx ≤ 72) ∧ (-40 ≤ cy ∧ cy ≤ 72) ∧ (0 ≤ r ∧ r ≤ 40))) : tMet l yX3_circle cX3_circle 5 (some .int) 5 124 (0) (0) [.ref o, .int (iI cx), .int (iI cy), .int (iI r), .int (zI bb)] D E [(o, .inr (0, [.int (iI thr), .ref b1, .ref b2, .ref b3, .ref b4, .ref b5, .ref b6, .int (iI (w : Int)), .int (iI (g : Int))])), (b1, .inl (D.2 0, 1024, .inl (fun x_ => zI (ik x_)))), (b2, .inl (D.2 0, 1024, .inl (fun x_ => zI (st x_)))), (b3, .inl (D.2 0, 1024, .inl (fun x_ => zI (kp x_)))), (b4, .inl (D.2 0, 1024, .inl (fun x_ => zI (go x_)))), (b5, .inl (D.2 1, 1024, .inl (fun x_ => iI (dp x_)))), (b6, .inl (D.2 1, 1024, .inl (fun x_ => iI (pt x_))))] tY0 (S := Unit) (fun u_ => True) (fun u_ => some (.int (iI 0))) (fun u_ => [(o, .inr (0, [.int (iI 1), .ref b1, .ref b2, .ref b3, .ref b4, .ref b5, .ref b6, .int (iI (w : Int)), .int (iI (g : Int))])), (b1, .inl (D.2 0, 1024, .inl (fun x_ => zI (ik x_)))), (b2, .inl (D.2 0, 1024, .inl (fun x_ => zI (st x_)))), (b3, .inl (D.2 0, 1024, .inl (fun x_ => zI (kp x_)))), (b4, .inl (D.2 0, 1024, .inl (fun x_ => zI (go x_)))), (b5, .inl (D.2 1, 1024, .inl (fun x_ => iI (dp x_)))), (b6, .inl (D.2 1, 1024, .inl (fun x_ => iI (pt x_))))]) := by
  refine tu_met (by decide +kernel) (Nat.le_of_ble_eq_true rfl) ?_
  intro p0 e0 s0 m0 below meth c0 A ls args Q hag hQ C hK hX hY hP hD hA hAe hl
  obtain ⟨kx, kb, hml, hown, hts, -⟩ := id C
  have hS : va_S A s0.heap s0.heap [] := va_S.rf
  have hl : lv_has ls 5 [(0, .ref o), (1, .int (iI cx)), (2, .int (iI cy)), (3, .int (iI r)), (4, .int (zI bb))] := hl
  have hwg := wg_le hw hg
  refine lv_aload_n kx kb dX3_circle_0 rfl (lv_at hl 0 rfl) ?_
  refine lv_iconst (v := iI 0) kx kb dX3_circle_1 rfl ?_
  refine va_put (D := D.1) (ci := 0) (v := .int (iI 0)) (ty := .int) (C := RX3) (T := TX3) (N := 9) kx kb hts in_X3 tyX3 tyX3_ok nmX3 hown hK hP hD hS 0 rfl rfl 0 (by decide) (hts _ q1370) (fun _ h9 => h9) rfl (by decide +kernel) rfl rfl (Nat.le_of_ble_eq_true rfl) dX3_circle_2 (fun H locs hP hD hS => ?_)
  have hP : va_P D.1 clAll [(o, .inr (0, [.int (iI 0), .ref b1, .ref b2, .ref b3, .ref b4, .ref b5, .ref b6, .int (iI (w : Int)), .int (iI (g : Int))])), (b1, .inl (D.2 0, 1024, .inl (fun x_ => zI (ik x_)))), (b2, .inl (D.2 0, 1024, .inl (fun x_ => zI (st x_)))), (b3, .inl (D.2 0, 1024, .inl (fun x_ => zI (kp x_)))), (b4, .inl (D.2 0, 1024, .inl (fun x_ => zI (go x_)))), (b5, .inl (D.2 1, 1024, .inl (fun x_ => iI (dp x_)))), (b6, .inl (D.2 1, 1024, .inl (fun x_ => iI (pt x_))))] H := hP
  have hD : va_D A [(o, .inr (0, [.int (iI 0), .ref b1, .ref b2, .ref b3, .ref b4, .ref b5, .ref b6, .int (iI (w : Int)), .int (iI (g : Int))])), (b1, .inl (D.2 0, 1024, .inl (fun x_ => zI (ik x_)))), (b2, .inl (D.2 0, 1024, .inl (fun x_ => zI (st x_)))), (b3, .inl (D.2 0, 1024, .inl (fun x_ => zI (kp x_)))), (b4, .inl (D.2 0, 1024, .inl (fun x_ => zI (go x_)))), (b5, .inl (D.2 1, 1024, .inl (fun x_ => iI (dp x_)))), (b6, .inl (D.2 1, 1024, .inl (fun x_ => iI (pt x_))))] := hD
  refine lv_aload_n kx kb dX3_circle_5 rfl (lv_at hl 0 rfl) ?_
  refine lv_iload_n kx kb dX3_circle_6 rfl (lv_at hl 1 rfl) ?_
  refine t_callRS C (met_X3_isNear l D E cx (by first | assumption | omega)) (va_cwS 1 hts (lw_S q1434 q1435 q62 q1436) rfl rfl rfl (by decide +kernel) ⟨Nat.le_of_ble_eq_true rfl, Nat.le_of_ble_eq_true rfl⟩) hK hX hP hD hS hA [] rfl (by decide) tYb_0 (fun _ _ _ => trivial) rfl hl.1 rfl (Nat.le_of_ble_eq_true rfl) dX3_circle_7 ⟨(show 0 ≤ 0 from by omega), (show 0 ≤ 0 from by omega)⟩ ?_
  refine W.eq (g2 := F0 m0 10 ls [.int (zI (decide (-40 ≤ cx ∧ cx ≤ 72))), .ref o]) rfl ?_
  refine tz_if_eq (tgt := 34) kx kb dX3_circle_10 (by decide) (fun h10 => ?_) (fun h10 => ?_)
  · simp only [decide_eq_true_eq, decide_eq_false_iff_not] at h10
    refine lv_iconst (v := iI 0) kx kb dX3_circle_34 rfl ?_
    refine lv_iconst (v := iI 1) kx kb dX3_circle_35 rfl ?_
    refine t_callV (wr := []) C (met_X3_right l D E o b1 b2 b3 b4 b5 b6 w g ik st kp go dp pt false 1 (by first | assumption | omega) (by first | assumption | omega) (by first | assumption | omega)) (cwV 2 hts (lw_V q1410 q1412 qs24 q62 q1413) rfl rfl rfl (by decide +kernel) ⟨Nat.le_of_ble_eq_true rfl, Nat.le_of_ble_eq_true rfl⟩) (va_recv hK hP (ci := 0) (q0 := 0) rfl rfl) hK hX hP hD hS hA [0, 1, 2, 3, 4, 5, 6] [] rfl rfl (by decide) (by decide) (by decide) tYb_0 (fun _ _ _ => trivial) rfl hl.1 rfl (Nat.le_of_ble_eq_true rfl) dX3_circle_36 ⟨(show 0 ≤ 0 from by omega), (show 0 ≤ 0 from by omega)⟩ (fun u_ H locs hp hP hD hS => ?_)
    obtain ⟨t2_1, rfl⟩ : ∃ z, z = u_ := ⟨_, rfl⟩
    have hc36_1 : t2_1 = if false then 0 else 1 := hp
    subst hc36_1
    have hP : va_P D.1 clAll [(o, .inr (0, [.int (iI (if false then 0 else 1)), .ref b1, .ref b2, .ref b3, .ref b4, .ref b5, .ref b6, .int (iI (w : Int)), .int (iI (g : Int))])), (b1, .inl (D.2 0, 1024, .inl (fun x_ => zI (ik x_)))), (b2, .inl (D.2 0, 1024, .inl (fun x_ => zI (st x_)))), (b3, .inl (D.2 0, 1024, .inl (fun x_ => zI (kp x_)))), (b4, .inl (D.2 0, 1024, .inl (fun x_ => zI (go x_)))), (b5, .inl (D.2 1, 1024, .inl (fun x_ => iI (dp x_)))), (b6, .inl (D.2 1, 1024, .inl (fun x_ => iI (pt x_))))] H := hP
    have hD : va_D A [(o, .inr (0, [.int (iI (if false then 0 else 1)), .ref b1, .ref b2, .ref b3, .ref b4, .ref b5, .ref b6, .int (iI (w : Int)), .int (iI (g : Int))])), (b1, .inl (D.2 0, 1024, .inl (fun x_ => zI (ik x_)))), (b2, .inl (D.2 0, 1024, .inl (fun x_ => zI (st x_)))), (b3, .inl (D.2 0, 1024, .inl (fun x_ => zI (kp x_)))), (b4, .inl (D.2 0, 1024, .inl (fun x_ => zI (go x_)))), (b5, .inl (D.2 1, 1024, .inl (fun x_ => iI (dp x_)))), (b6, .inl (D.2 1, 1024, .inl (fun x_ => iI (pt x_))))] := hD
    refine W.eq (g2 := F0 m0 39 ls [.int (zI false)]) rfl ?_
    refine tz_if_eq (tgt := 54) kx kb dX3_circle_39 (by decide) (fun h39 => ?_) (fun h39 => ?_)
    · refine lv_iconst (v := iI 0) kx kb dX3_circle_54 rfl ?_
      subst hQ
      exact tm_iret C () trivial hP hD hS (show 0 ≤ 0 from by omega) (show 0 ≤ 0 from by omega) rfl rfl dX3_circle_55
    · cases h39
  · simp only [decide_eq_true_eq, decide_eq_false_iff_not] at h10
    refine lv_iload_n kx kb dX3_circle_13 rfl (lv_at hl 2 rfl) ?_
    refine t_callRS C (met_X3_isNear l D E cy (by first | assumption | omega)) (va_cwS 1 hts (lw_S q1434 q1435 q62 q1436) rfl rfl rfl (by decide +kernel) ⟨Nat.le_of_ble_eq_true rfl, Nat.le_of_ble_eq_true rfl⟩) hK hX hP hD hS hA [] rfl (by decide) tYb_0 (fun _ _ _ => trivial) rfl hl.1 rfl (Nat.le_of_ble_eq_true rfl) dX3_circle_14 ⟨(show 0 ≤ 0 from by omega), (show 0 ≤ 0 from by omega)⟩ ?_
    refine W.eq (g2 := F0 m0 17 ls [.int (zI (decide (-40 ≤ cy ∧ cy ≤ 72))), .ref o]) rfl ?_
    refine tz_if_eq (tgt := 34) kx kb dX3_circle_17 (by decide) (fun h17 => ?_) (fun h17 => ?_)
    · simp only [decide_eq_true_eq, decide_eq_false_iff_not] at h17
      refine lv_iconst (v := iI 0) kx kb dX3_circle_34 rfl ?_
      refine lv_iconst (v := iI 1) kx kb dX3_circle_35 rfl ?_
      refine t_callV (wr := []) C (met_X3_right l D E o b1 b2 b3 b4 b5 b6 w g ik st kp go dp pt false 1 (by first | assumption | omega) (by first | assumption | omega) (by first | assumption | omega)) (cwV 2 hts (lw_V q1410 q1412 qs24 q62 q1413) rfl rfl rfl (by decide +kernel) ⟨Nat.le_of_ble_eq_true rfl, Nat.le_of_ble_eq_true rfl⟩) (va_recv hK hP (ci := 0) (q0 := 0) rfl rfl) hK hX hP hD hS hA [0, 1, 2, 3, 4, 5, 6] [] rfl rfl (by decide) (by decide) (by decide) tYb_0 (fun _ _ _ => trivial) rfl hl.1 rfl (Nat.le_of_ble_eq_true rfl) dX3_circle_36 ⟨(show 0 ≤ 0 from by omega), (show 0 ≤ 0 from by omega)⟩ (fun u_ H locs hp hP hD hS => ?_)
      obtain ⟨t2_2, rfl⟩ : ∃ z, z = u_ := ⟨_, rfl⟩
      have hc36_1 : t2_2 = if false then 0 else 1 := hp
      subst hc36_1
      have hP : va_P D.1 clAll [(o, .inr (0, [.int (iI (if false then 0 else 1)), .ref b1, .ref b2, .ref b3, .ref b4, .ref b5, .ref b6, .int (iI (w : Int)), .int (iI (g : Int))])), (b1, .inl (D.2 0, 1024, .inl (fun x_ => zI (ik x_)))), (b2, .inl (D.2 0, 1024, .inl (fun x_ => zI (st x_)))), (b3, .inl (D.2 0, 1024, .inl (fun x_ => zI (kp x_)))), (b4, .inl (D.2 0, 1024, .inl (fun x_ => zI (go x_)))), (b5, .inl (D.2 1, 1024, .inl (fun x_ => iI (dp x_)))), (b6, .inl (D.2 1, 1024, .inl (fun x_ => iI (pt x_))))] H := hP
      have hD : va_D A [(o, .inr (0, [.int (iI (if false then 0 else 1)), .ref b1, .ref b2, .ref b3, .ref b4, .ref b5, .ref b6, .int (iI (w : Int)), .int (iI (g : Int))])), (b1, .inl (D.2 0, 1024, .inl (fun x_ => zI (ik x_)))), (b2, .inl (D.2 0, 1024, .inl (fun x_ => zI (st x_)))), (b3, .inl (D.2 0, 1024, .inl (fun x_ => zI (kp x_)))), (b4, .inl (D.2 0, 1024, .inl (fun x_ => zI (go x_)))), (b5, .inl (D.2 1, 1024, .inl (fun x_ => iI (dp x_)))), (b6, .inl (D.2 1, 1024, .inl (fun x_ => iI (pt x_))))] := hD
      refine W.eq (g2 := F0 m0 39 ls [.int (zI false)]) rfl ?_
      refine tz_if_eq (tgt := 54) kx kb dX3_circle_39 (by decide) (fun h39 => ?_) (fun h39 => ?_)
      · refine lv_iconst (v := iI 0) kx kb dX3_circle_54 rfl ?_
        subst hQ
        exact tm_iret C () trivial hP hD hS (show 0 ≤ 0 from by omega) (show 0 ≤ 0 from by omega) rfl rfl dX3_circle_55
      · cases h39
    · simp only [decide_eq_true_eq, decide_eq_false_iff_not] at h17
      refine lv_iload_n kx kb dX3_circle_20 rfl (lv_at hl 3 rfl) ?_
      refine lv_iconst (v := iI 0) kx kb dX3_circle_21 rfl ?_
      refine lv_bipush (v := iI 40) kx kb dX3_circle_22 rfl ?_
      refine t_callRS C (met_X3_isIn l D E r 0 40 (by first | assumption | omega)) (va_cwS 3 hts (lw_S q1407 q1408 q62 q1409) rfl rfl rfl (by decide +kernel) ⟨Nat.le_of_ble_eq_true rfl, Nat.le_of_ble_eq_true rfl⟩) hK hX hP hD hS hA [] rfl (by decide) tYb_0 (fun _ _ _ => trivial) rfl hl.1 rfl (Nat.le_of_ble_eq_true rfl) dX3_circle_24 ⟨(show 0 ≤ 0 from by omega), (show 0 ≤ 0 from by omega)⟩ ?_
      refine W.eq (g2 := F0 m0 27 ls [.int (zI (decide (0 ≤ r ∧ r ≤ 40))), .ref o]) rfl ?_
      refine tz_if_eq (tgt := 34) kx kb dX3_circle_27 (by decide) (fun h27 => ?_) (fun h27 => ?_)
      · simp only [decide_eq_true_eq, decide_eq_false_iff_not] at h27
        refine lv_iconst (v := iI 0) kx kb dX3_circle_34 rfl ?_
        refine lv_iconst (v := iI 1) kx kb dX3_circle_35 rfl ?_
        refine t_callV (wr := []) C (met_X3_right l D E o b1 b2 b3 b4 b5 b6 w g ik st kp go dp pt false 1 (by first | assumption | omega) (by first | assumption | omega) (by first | assumption | omega)) (cwV 2 hts (lw_V q1410 q1412 qs24 q62 q1413) rfl rfl rfl (by decide +kernel) ⟨Nat.le_of_ble_eq_true rfl, Nat.le_of_ble_eq_true rfl⟩) (va_recv hK hP (ci := 0) (q0 := 0) rfl rfl) hK hX hP hD hS hA [0, 1, 2, 3, 4, 5, 6] [] rfl rfl (by decide) (by decide) (by decide) tYb_0 (fun _ _ _ => trivial) rfl hl.1 rfl (Nat.le_of_ble_eq_true rfl) dX3_circle_36 ⟨(show 0 ≤ 0 from by omega), (show 0 ≤ 0 from by omega)⟩ (fun u_ H locs hp hP hD hS => ?_)
        obtain ⟨t2_3, rfl⟩ : ∃ z, z = u_ := ⟨_, rfl⟩
        have hc36_1 : t2_3 = if false then 0 else 1 := hp
        subst hc36_1
        have hP : va_P D.1 clAll [(o, .inr (0, [.int (iI (if false then 0 else 1)), .ref b1, .ref b2, .ref b3, .ref b4, .ref b5, .ref b6, .int (iI (w : Int)), .int (iI (g : Int))])), (b1, .inl (D.2 0, 1024, .inl (fun x_ => zI (ik x_)))), (b2, .inl (D.2 0, 1024, .inl (fun x_ => zI (st x_)))), (b3, .inl (D.2 0, 1024, .inl (fun x_ => zI (kp x_)))), (b4, .inl (D.2 0, 1024, .inl (fun x_ => zI (go x_)))), (b5, .inl (D.2 1, 1024, .inl (fun x_ => iI (dp x_)))), (b6, .inl (D.2 1, 1024, .inl (fun x_ => iI (pt x_))))] H := hP
        have hD : va_D A [(o, .inr (0, [.int (iI (if false then 0 else 1)), .ref b1, .ref b2, .ref b3, .ref b4, .ref b5, .ref b6, .int (iI (w : Int)), .int (iI (g : Int))])), (b1, .inl (D.2 0, 1024, .inl (fun x_ => zI (ik x_)))), (b2, .inl (D.2 0, 1024, .inl (fun x_ => zI (st x_)))), (b3, .inl (D.2 0, 1024, .inl (fun x_ => zI (kp x_)))), (b4, .inl (D.2 0, 1024, .inl (fun x_ => zI (go x_)))), (b5, .inl (D.2 1, 1024, .inl (fun x_ => iI (dp x_)))), (b6, .inl (D.2 1, 1024, .inl (fun x_ => iI (pt x_))))] := hD
        refine W.eq (g2 := F0 m0 39 ls [.int (zI false)]) rfl ?_
        refine tz_if_eq (tgt := 54) kx kb dX3_circle_39 (by decide) (fun h39 => ?_) (fun h39 => ?_)
        · refine lv_iconst (v := iI 0) kx kb dX3_circle_54 rfl ?_
          subst hQ
          exact tm_iret C () trivial hP hD hS (show 0 ≤ 0 from by omega) (show 0 ≤ 0 from by omega) rfl rfl dX3_circle_55
        · cases h39
      · simp only [decide_eq_true_eq] at h27; omega
