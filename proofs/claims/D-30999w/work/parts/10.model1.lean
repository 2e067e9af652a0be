set_option maxRecDepth 100000
set_option maxHeartbeats 4000000 in
set_option maxRecDepth 100000 in
theorem met_X3_isIn (l : Launch) (D : TG) (E : TE) (v : Int) (a : Int) (b : Int) (hr : -2147483648 ≤ v ∧ v < 2147483648 ∧ -2147483648 ≤ a ∧ a < 2147483648 ∧ -2147483648 ≤ b ∧ b < 2147483648) : tRd l yX3_isIn cX3_isIn 3 (some .boolean) 0 0 [.int (iI v), .int (iI a), .int (iI b)] D E [] tY0 (some (.int (zI (decide (a ≤ v ∧ v ≤ b))))) := by
  refine tu_rd (by decide +kernel) (Nat.le_of_ble_eq_true rfl) ?_
  intro p0 e0 s0 m0 below meth c0 A ls args Q hag hQ C hK hX hY hP hD hA hAe hl
  obtain ⟨kx, kb, hml, hown, hts, -⟩ := id C
  have hS : va_S A s0.heap s0.heap [] := va_S.rf
  have hl : lv_has ls 3 [(0, .int (iI v)), (1, .int (iI a)), (2, .int (iI b))] := hl
  refine lv_iload_n kx kb dX3_isIn_0 rfl (lv_at hl 0 rfl) ?_
  refine lv_iload_n kx kb dX3_isIn_1 rfl (lv_at hl 1 rfl) ?_
  refine ti_icmp_lt (tgt := 14) kx kb (by omega) dX3_isIn_2 (by decide) (fun h2 => ?_) (fun h2 => ?_)
  · refine lv_iconst (v := iI 0) kx kb dX3_isIn_14 rfl ?_
    refine W.eq (g2 := F0 m0 15 ls [.int (zI false)]) rfl ?_
    subst hQ
    exact tr_zret C rfl (by first | rw [decide_eq_true (p := a ≤ v ∧ v ≤ b) (by omega)] | rw [decide_eq_false (p := a ≤ v ∧ v ≤ b) (by omega)]) dX3_isIn_15
  · refine lv_iload_n kx kb dX3_isIn_5 rfl (lv_at hl 0 rfl) ?_
    refine lv_iload_n kx kb dX3_isIn_6 rfl (lv_at hl 2 rfl) ?_
    refine ti_icmp_gt (tgt := 14) kx kb (by omega) dX3_isIn_7 (by decide) (fun h7 => ?_) (fun h7 => ?_)
    · refine lv_iconst (v := iI 0) kx kb dX3_isIn_14 rfl ?_
      refine W.eq (g2 := F0 m0 15 ls [.int (zI false)]) rfl ?_
      subst hQ
      exact tr_zret C rfl (by first | rw [decide_eq_true (p := a ≤ v ∧ v ≤ b) (by omega)] | rw [decide_eq_false (p := a ≤ v ∧ v ≤ b) (by omega)]) dX3_isIn_15
    · refine lv_iconst (v := iI 1) kx kb dX3_isIn_10 rfl ?_
      refine lv_goto (tgt := 15) kx kb dX3_isIn_11 (by decide) ?_
      refine W.eq (g2 := F0 m0 15 ls [.int (zI true)]) rfl ?_
      subst hQ
      exact tr_zret C rfl (by first | rw [decide_eq_true (p := a ≤ v ∧ v ≤ b) (by omega)] | rw [decide_eq_false (p := a ≤ v ∧ v ≤ b) (by omega)]) dX3_isIn_15
set_option maxHeartbeats 4000000 in
set_option maxRecDepth 100000 in
theorem met_X3_isNear (l : Launch) (D : TG) (E : TE) (v : Int) (rv : -2147483648 ≤ v ∧ v < 2147483648) : tRd l yX3_isNear cX3_isNear 1 (some .boolean) 1 22 [.int (iI v)] D E [] tY0 (some (.int (zI (decide (-40 ≤ v ∧ v ≤ 72))))) := by
  refine tu_rd (by decide +kernel) (Nat.le_of_ble_eq_true rfl) ?_
  intro p0 e0 s0 m0 below meth c0 A ls args Q hag hQ C hK hX hY hP hD hA hAe hl
  obtain ⟨kx, kb, hml, hown, hts, -⟩ := id C
  have hS : va_S A s0.heap s0.heap [] := va_S.rf
  have hl : lv_has ls 1 [(0, .int (iI v))] := hl
  refine lv_iload_n kx kb dX3_isNear_0 rfl (lv_at hl 0 rfl) ?_
  refine lv_bipush (v := iI (-40)) kx kb dX3_isNear_1 rfl ?_
  refine lv_bipush (v := iI 72) kx kb dX3_isNear_3 rfl ?_
  refine t_callRS C (met_X3_isIn l D E v (-40) 72 (by first | assumption | omega)) (va_cwS 3 hts (lw_S q1407 q1408 q62 q1409) rfl rfl rfl (by decide +kernel) ⟨Nat.le_of_ble_eq_true rfl, Nat.le_of_ble_eq_true rfl⟩) hK hX hP hD hS hA [] rfl (by decide) tYb_0 (fun _ _ _ => trivial) rfl hl.1 rfl (Nat.le_of_ble_eq_true rfl) dX3_isNear_5 ⟨(show 0 ≤ 0 from by omega), (show 0 ≤ 0 from by omega)⟩ ?_
  refine W.eq (g2 := F0 m0 8 ls [.int (zI (decide ((-40) ≤ v ∧ v ≤ 72)))]) rfl ?_
  subst hQ
  exact tr_zret C rfl rfl dX3_isNear_8
set_option maxHeartbeats 4000000 in
set_option maxRecDepth 100000 in
theorem met_X3_stepX (l : Launch) (D : TG) (E : TE) (k : Int) (rk : -2147483648 ≤ k ∧ k < 2147483648) : tRd l yX3_stepX cX3_stepX 1 (some .int) 0 0 [.int (iI k)] D E [] tY0 (some (.int (iI (sX k)))) := by
  refine tu_rd (by decide +kernel) (Nat.le_of_ble_eq_true rfl) ?_
  intro p0 e0 s0 m0 below meth c0 A ls args Q hag hQ C hK hX hY hP hD hA hAe hl
  obtain ⟨kx, kb, hml, hown, hts, -⟩ := id C
  have hS : va_S A s0.heap s0.heap [] := va_S.rf
  have hl : lv_has ls 1 [(0, .int (iI k))] := hl
  refine lv_iload_n kx kb dX3_stepX_0 rfl (lv_at hl 0 rfl) ?_
  refine ti_if_eq (tgt := 9) kx kb (by omega) dX3_stepX_1 (by decide) (fun h1 => ?_) (fun h1 => ?_)
  · refine lv_iconst (v := iI 0) kx kb dX3_stepX_9 rfl ?_
    refine lv_goto (tgt := 23) kx kb dX3_stepX_10 (by decide) ?_
    subst hQ
    exact tr_iret C rfl (by simp only [sX]; first | rw [if_pos (by omega)] | rw [if_neg (by omega), if_pos (by omega)] | rw [if_neg (by omega), if_neg (by omega)]) dX3_stepX_23
  · refine lv_iload_n kx kb dX3_stepX_4 rfl (lv_at hl 0 rfl) ?_
    refine lv_iconst (v := iI 4) kx kb dX3_stepX_5 rfl ?_
    refine ti_icmp_ne (tgt := 13) kx kb (by omega) dX3_stepX_6 (by decide) (fun h6 => ?_) (fun h6 => ?_)
    · refine lv_iload_n kx kb dX3_stepX_13 rfl (lv_at hl 0 rfl) ?_
      refine lv_iconst (v := iI 4) kx kb dX3_stepX_14 rfl ?_
      refine ti_icmp_ge (tgt := 22) kx kb (by omega) dX3_stepX_15 (by decide) (fun h15 => ?_) (fun h15 => ?_)
      · refine lv_iconst (v := iI (-1)) kx kb dX3_stepX_22 rfl ?_
        subst hQ
        exact tr_iret C rfl (by simp only [sX]; first | rw [if_pos (by omega)] | rw [if_neg (by omega), if_pos (by omega)] | rw [if_neg (by omega), if_neg (by omega)]) dX3_stepX_23
      · refine lv_iconst (v := iI 1) kx kb dX3_stepX_18 rfl ?_
        refine lv_goto (tgt := 23) kx kb dX3_stepX_19 (by decide) ?_
        subst hQ
        exact tr_iret C rfl (by simp only [sX]; first | rw [if_pos (by omega)] | rw [if_neg (by omega), if_pos (by omega)] | rw [if_neg (by omega), if_neg (by omega)]) dX3_stepX_23
    · refine lv_iconst (v := iI 0) kx kb dX3_stepX_9 rfl ?_
      refine lv_goto (tgt := 23) kx kb dX3_stepX_10 (by decide) ?_
      subst hQ
      exact tr_iret C rfl (by simp only [sX]; first | rw [if_pos (by omega)] | rw [if_neg (by omega), if_pos (by omega)] | rw [if_neg (by omega), if_neg (by omega)]) dX3_stepX_23
set_option maxHeartbeats 4000000 in
set_option maxRecDepth 100000 in
theorem met_X3_stepY (l : Launch) (D : TG) (E : TE) (k : Int) (rk : -2147483648 ≤ k ∧ k < 2147483648) : tRd l yX3_stepY cX3_stepY 1 (some .int) 0 0 [.int (iI k)] D E [] tY0 (some (.int (iI (sY k)))) := by
  refine tu_rd (by decide +kernel) (Nat.le_of_ble_eq_true rfl) ?_
  intro p0 e0 s0 m0 below meth c0 A ls args Q hag hQ C hK hX hY hP hD hA hAe hl
  obtain ⟨kx, kb, hml, hown, hts, -⟩ := id C
  have hS : va_S A s0.heap s0.heap [] := va_S.rf
  have hl : lv_has ls 1 [(0, .int (iI k))] := hl
  refine lv_iload_n kx kb dX3_stepY_0 rfl (lv_at hl 0 rfl) ?_
  refine lv_iconst (v := iI 2) kx kb dX3_stepY_1 rfl ?_
  refine ti_icmp_eq (tgt := 11) kx kb (by omega) dX3_stepY_2 (by decide) (fun h2 => ?_) (fun h2 => ?_)
  · refine lv_iconst (v := iI 0) kx kb dX3_stepY_11 rfl ?_
    refine lv_goto (tgt := 31) kx kb dX3_stepY_12 (by decide) ?_
    subst hQ
    exact tr_iret C rfl (by simp only [sY]; first | rw [if_pos (by omega)] | rw [if_neg (by omega), if_pos (by omega)] | rw [if_neg (by omega), if_neg (by omega)]) dX3_stepY_31
  · refine lv_iload_n kx kb dX3_stepY_5 rfl (lv_at hl 0 rfl) ?_
    refine lv_bipush (v := iI 6) kx kb dX3_stepY_6 rfl ?_
    refine ti_icmp_ne (tgt := 15) kx kb (by omega) dX3_stepY_8 (by decide) (fun h8 => ?_) (fun h8 => ?_)
    · refine lv_iload_n kx kb dX3_stepY_15 rfl (lv_at hl 0 rfl) ?_
      refine lv_iconst (v := iI 2) kx kb dX3_stepY_16 rfl ?_
      refine ti_icmp_lt (tgt := 26) kx kb (by omega) dX3_stepY_17 (by decide) (fun h17 => ?_) (fun h17 => ?_)
      · refine lv_iconst (v := iI (-1)) kx kb dX3_stepY_26 rfl ?_
        refine lv_goto (tgt := 31) kx kb dX3_stepY_27 (by decide) ?_
        subst hQ
        exact tr_iret C rfl (by simp only [sY]; first | rw [if_pos (by omega)] | rw [if_neg (by omega), if_pos (by omega)] | rw [if_neg (by omega), if_neg (by omega)]) dX3_stepY_31
      · refine lv_iload_n kx kb dX3_stepY_20 rfl (lv_at hl 0 rfl) ?_
        refine lv_bipush (v := iI 7) kx kb dX3_stepY_21 rfl ?_
        refine ti_icmp_ne (tgt := 30) kx kb (by omega) dX3_stepY_23 (by decide) (fun h23 => ?_) (fun h23 => ?_)
        · refine lv_iconst (v := iI 1) kx kb dX3_stepY_30 rfl ?_
          subst hQ
          exact tr_iret C rfl (by simp only [sY]; first | rw [if_pos (by omega)] | rw [if_neg (by omega), if_pos (by omega)] | rw [if_neg (by omega), if_neg (by omega)]) dX3_stepY_31
        · refine lv_iconst (v := iI (-1)) kx kb dX3_stepY_26 rfl ?_
          refine lv_goto (tgt := 31) kx kb dX3_stepY_27 (by decide) ?_
          subst hQ
          exact tr_iret C rfl (by simp only [sY]; first | rw [if_pos (by omega)] | rw [if_neg (by omega), if_pos (by omega)] | rw [if_neg (by omega), if_neg (by omega)]) dX3_stepY_31
    · refine lv_iconst (v := iI 0) kx kb dX3_stepY_11 rfl ?_
      refine lv_goto (tgt := 31) kx kb dX3_stepY_12 (by decide) ?_
      subst hQ
      exact tr_iret C rfl (by simp only [sY]; first | rw [if_pos (by omega)] | rw [if_neg (by omega), if_pos (by omega)] | rw [if_neg (by omega), if_neg (by omega)]) dX3_stepY_31
set_option maxHeartbeats 4000000 in
set_option maxRecDepth 100000 in
theorem met_X3_thrown (l : Launch) (D : TG) (E : TE) (o : Nat) (b1 : Nat) (b2 : Nat) (b3 : Nat) (b4 : Nat) (b5 : Nat) (b6 : Nat) (thr : Int) (w : Nat) (g : Nat) (ik : Nat → Bool) (st : Nat → Bool) (kp : Nat → Bool) (go : Nat → Bool) (dp : Nat → Int) (pt : Nat → Int) (hw : 1 ≤ w ∧ w ≤ 32) (hg : 1 ≤ g ∧ g ≤ 32) : tRd l yX3_thrown cX3_thrown 1 (some .int) 0 0 [.ref o] D E [(o, .inr (0, [.int (iI thr), .ref b1, .ref b2, .ref b3, .ref b4, .ref b5, .ref b6, .int (iI (w : Int)), .int (iI (g : Int))])), (b1, .inl (D.2 0, 1024, .inl (fun x_ => zI (ik x_)))), (b2, .inl (D.2 0, 1024, .inl (fun x_ => zI (st x_)))), (b3, .inl (D.2 0, 1024, .inl (fun x_ => zI (kp x_)))), (b4, .inl (D.2 0, 1024, .inl (fun x_ => zI (go x_)))), (b5, .inl (D.2 1, 1024, .inl (fun x_ => iI (dp x_)))), (b6, .inl (D.2 1, 1024, .inl (fun x_ => iI (pt x_))))] tY0 (some (.int (iI thr))) := by
  refine tu_rd (by decide +kernel) (Nat.le_of_ble_eq_true rfl) ?_
  intro p0 e0 s0 m0 below meth c0 A ls args Q hag hQ C hK hX hY hP hD hA hAe hl
  obtain ⟨kx, kb, hml, hown, hts, -⟩ := id C
  have hS : va_S A s0.heap s0.heap [] := va_S.rf
  have hl : lv_has ls 1 [(0, .ref o)] := hl
  have hwg := wg_le hw hg
  refine lv_aload_n kx kb dX3_thrown_0 rfl (lv_at hl 0 rfl) ?_
  refine va_get (D := D.1) (ci := 0) (v := .int (iI thr)) (C := RX3) (T := TX3) (N := 9) kx kb hts in_X3 hown hK hP 0 rfl rfl 0 (by decide) (hts _ q1370) (fun _ h9 => h9) rfl dX3_thrown_1 ?_
  subst hQ
  exact tr_iret C rfl rfl dX3_thrown_4
set_option maxHeartbeats 4000000 in
set_option maxRecDepth 100000 in
theorem met_X3_cells (l : Launch) (D : TG) (E : TE) (o : Nat) (b1 : Nat) (b2 : Nat) (b3 : Nat) (b4 : Nat) (b5 : Nat) (b6 : Nat) (thr : Int) (w : Nat) (g : Nat) (ik : Nat → Bool) (st : Nat → Bool) (kp : Nat → Bool) (go : Nat → Bool) (dp : Nat → Int) (pt : Nat → Int) (hw : 1 ≤ w ∧ w ≤ 32) (hg : 1 ≤ g ∧ g ≤ 32) : tRd l yX3_cells cX3_cells 1 (some .int) 0 0 [.ref o] D E [(o, .inr (0, [.int (iI thr), .ref b1, .ref b2, .ref b3, .ref b4, .ref b5, .ref b6, .int (iI (w : Int)), .int (iI (g : Int))])), (b1, .inl (D.2 0, 1024, .inl (fun x_ => zI (ik x_)))), (b2, .inl (D.2 0, 1024, .inl (fun x_ => zI (st x_)))), (b3, .inl (D.2 0, 1024, .inl (fun x_ => zI (kp x_)))), (b4, .inl (D.2 0, 1024, .inl (fun x_ => zI (go x_)))), (b5, .inl (D.2 1, 1024, .inl (fun x_ => iI (dp x_)))), (b6, .inl (D.2 1, 1024, .inl (fun x_ => iI (pt x_))))] tY0 (some (.int (iI ((w * g : Nat) : Int)))) := by
  refine tu_rd (by decide +kernel) (Nat.le_of_ble_eq_true rfl) ?_
  intro p0 e0 s0 m0 below meth c0 A ls args Q hag hQ C hK hX hY hP hD hA hAe hl
  obtain ⟨kx, kb, hml, hown, hts, -⟩ := id C
  have hS : va_S A s0.heap s0.heap [] := va_S.rf
  have hl : lv_has ls 1 [(0, .ref o)] := hl
  have hwg := wg_le hw hg
  refine lv_aload_n kx kb dX3_cells_0 rfl (lv_at hl 0 rfl) ?_
  refine va_get (D := D.1) (ci := 0) (v := .int (iI (w : Int))) (C := RX3) (T := TX3) (N := 9) kx kb hts in_X3 hown hK hP 0 rfl rfl 7 (by decide) (hts _ q1377) (fun _ h9 => h9) rfl dX3_cells_1 ?_
  refine lv_aload_n kx kb dX3_cells_4 rfl (lv_at hl 0 rfl) ?_
  refine va_get (D := D.1) (ci := 0) (v := .int (iI (g : Int))) (C := RX3) (T := TX3) (N := 9) kx kb hts in_X3 hown hK hP 0 rfl rfl 8 (by decide) (hts _ q1378) (fun _ h9 => h9) rfl dX3_cells_5 ?_
  refine ti_imul kx kb dX3_cells_8 ?_
  subst hQ
  exact tr_iret C rfl (by rw [Int.natCast_mul]) dX3_cells_9
set_option maxHeartbeats 4000000 in
set_option maxRecDepth 100000 in
theorem met_X3_isBoard (l : Launch) (D : TG) (E : TE) (o : Nat) (b1 : Nat) (b2 : Nat) (b3 : Nat) (b4 : Nat) (b5 : Nat) (b6 : Nat) (thr : Int) (w : Nat) (g : Nat) (ik : Nat → Bool) (st : Nat → Bool) (kp : Nat → Bool) (go : Nat → Bool) (dp : Nat → Int) (pt : Nat → Int) (x : Int) (y : Int) (hw : 1 ≤ w ∧ w ≤ 32) (hg : 1 ≤ g ∧ g ≤ 32) (rx : -2147483648 ≤ x ∧ x < 2147483648) (ry : -2147483648 ≤ y ∧ y < 2147483648) : tRd l yX3_isBoard cX3_isBoard 3 (some .boolean) 1 22 [.ref o, .int (iI x), .int (iI y)] D E [(o, .inr (0, [.int (iI thr), .ref b1, .ref b2, .ref b3, .ref b4, .ref b5, .ref b6, .int (iI (w : Int)), .int (iI (g : Int))])), (b1, .inl (D.2 0, 1024, .inl (fun x_ => zI (ik x_)))), (b2, .inl (D.2 0, 1024, .inl (fun x_ => zI (st x_)))), (b3, .inl (D.2 0, 1024, .inl (fun x_ => zI (kp x_)))), (b4, .inl (D.2 0, 1024, .inl (fun x_ => zI (go x_)))), (b5, .inl (D.2 1, 1024, .inl (fun x_ => iI (dp x_)))), (b6, .inl (D.2 1, 1024, .inl (fun x_ => iI (pt x_))))] tY0 (some (.int (zI (isBd w g x y)))) := by
  refine tu_rd (by decide +kernel) (Nat.le_of_ble_eq_true rfl) ?_
  intro p0 e0 s0 m0 below meth c0 A ls args Q hag hQ C hK hX hY hP hD hA hAe hl
  obtain ⟨kx, kb, hml, hown, hts, -⟩ := id C
  have hS : va_S A s0.heap s0.heap [] := va_S.rf
  have hl : lv_has ls 3 [(0, .ref o), (1, .int (iI x)), (2, .int (iI y))] := hl
  have hwg := wg_le hw hg
  refine lv_iload_n kx kb dX3_isBoard_0 rfl (lv_at hl 1 rfl) ?_
  refine lv_iconst (v := iI 0) kx kb dX3_isBoard_1 rfl ?_
  refine lv_aload_n kx kb dX3_isBoard_2 rfl (lv_at hl 0 rfl) ?_
  refine va_get (D := D.1) (ci := 0) (v := .int (iI (w : Int))) (C := RX3) (T := TX3) (N := 9) kx kb hts in_X3 hown hK hP 0 rfl rfl 7 (by decide) (hts _ q1377) (fun _ h9 => h9) rfl dX3_isBoard_3 ?_
  refine lv_iconst (v := iI 1) kx kb dX3_isBoard_6 rfl ?_
  refine ti_isub kx kb dX3_isBoard_7 ?_
  refine t_callRS C (met_X3_isIn l D E x 0 ((w : Int) - 1) (by first | assumption | omega)) (va_cwS 3 hts (lw_S q1407 q1408 q62 q1409) rfl rfl rfl (by decide +kernel) ⟨Nat.le_of_ble_eq_true rfl, Nat.le_of_ble_eq_true rfl⟩) hK hX hP hD hS hA [] rfl (by decide) tYb_0 (fun _ _ _ => trivial) rfl hl.1 rfl (Nat.le_of_ble_eq_true rfl) dX3_isBoard_8 ⟨(show 0 ≤ 0 from by omega), (show 0 ≤ 0 from by omega)⟩ ?_
  refine W.eq (g2 := F0 m0 11 ls [.int (zI (decide (0 ≤ x ∧ x ≤ ((w : Int) - 1))))]) rfl ?_
  refine tz_if_eq (tgt := 32) kx kb dX3_isBoard_11 (by decide) (fun h11 => ?_) (fun h11 => ?_)
  · simp only [decide_eq_true_eq, decide_eq_false_iff_not] at h11
    refine lv_iconst (v := iI 0) kx kb dX3_isBoard_32 rfl ?_
    refine W.eq (g2 := F0 m0 33 ls [.int (zI false)]) rfl ?_
    subst hQ
    exact tr_zret C rfl (by first | rw [(isBd_t w g x y).mpr (by omega)] | rw [(isBd_f w g x y).mpr (by omega)]) dX3_isBoard_33
  · simp only [decide_eq_true_eq, decide_eq_false_iff_not] at h11
    refine lv_iload_n kx kb dX3_isBoard_14 rfl (lv_at hl 2 rfl) ?_
    refine lv_iconst (v := iI 0) kx kb dX3_isBoard_15 rfl ?_
    refine lv_aload_n kx kb dX3_isBoard_16 rfl (lv_at hl 0 rfl) ?_
    refine va_get (D := D.1) (ci := 0) (v := .int (iI (g : Int))) (C := RX3) (T := TX3) (N := 9) kx kb hts in_X3 hown hK hP 0 rfl rfl 8 (by decide) (hts _ q1378) (fun _ h9 => h9) rfl dX3_isBoard_17 ?_
    refine lv_iconst (v := iI 1) kx kb dX3_isBoard_20 rfl ?_
    refine ti_isub kx kb dX3_isBoard_21 ?_
    refine t_callRS C (met_X3_isIn l D E y 0 ((g : Int) - 1) (by first | assumption | omega)) (va_cwS 3 hts (lw_S q1407 q1408 q62 q1409) rfl rfl rfl (by decide +kernel) ⟨Nat.le_of_ble_eq_true rfl, Nat.le_of_ble_eq_true rfl⟩) hK hX hP hD hS hA [] rfl (by decide) tYb_0 (fun _ _ _ => trivial) rfl hl.1 rfl (Nat.le_of_ble_eq_true rfl) dX3_isBoard_22 ⟨(show 0 ≤ 0 from by omega), (show 0 ≤ 0 from by omega)⟩ ?_
    refine W.eq (g2 := F0 m0 25 ls [.int (zI (decide (0 ≤ y ∧ y ≤ ((g : Int) - 1))))]) rfl ?_
    refine tz_if_eq (tgt := 32) kx kb dX3_isBoard_25 (by decide) (fun h25 => ?_) (fun h25 => ?_)
    · simp only [decide_eq_true_eq, decide_eq_false_iff_not] at h25
      refine lv_iconst (v := iI 0) kx kb dX3_isBoard_32 rfl ?_
      refine W.eq (g2 := F0 m0 33 ls [.int (zI false)]) rfl ?_
      subst hQ
      exact tr_zret C rfl (by first | rw [(isBd_t w g x y).mpr (by omega)] | rw [(isBd_f w g x y).mpr (by omega)]) dX3_isBoard_33
    · simp only [decide_eq_true_eq, decide_eq_false_iff_not] at h25
      refine lv_iconst (v := iI 1) kx kb dX3_isBoard_28 rfl ?_
      refine lv_goto (tgt := 33) kx kb dX3_isBoard_29 (by decide) ?_
      refine W.eq (g2 := F0 m0 33 ls [.int (zI true)]) rfl ?_
      subst hQ
      exact tr_zret C rfl (by first | rw [(isBd_t w g x y).mpr (by omega)] | rw [(isBd_f w g x y).mpr (by omega)]) dX3_isBoard_33
set_option maxHeartbeats 4000000 in
set_option maxRecDepth 100000 in
theorem met_X3_isInk (l : Launch) (D : TG) (E : TE) (o : Nat) (b1 : Nat) (b2 : Nat) (b3 : Nat) (b4 : Nat) (b5 : Nat) (b6 : Nat) (thr : Int) (w : Nat) (g : Nat) (ik : Nat → Bool) (st : Nat → Bool) (kp : Nat → Bool) (go : Nat → Bool) (dp : Nat → Int) (pt : Nat → Int) (x : Int) (y : Int) (hw : 1 ≤ w ∧ w ≤ 32) (hg : 1 ≤ g ∧ g ≤ 32) (rx : -2147483648 ≤ x ∧ x < 2147483648) (ry : -2147483648 ≤ y ∧ y < 2147483648) : tRd l yX3_isInk cX3_isInk 3 (some .boolean) 2 44 [.ref o, .int (iI x), .int (iI y)] D E [(o, .inr (0, [.int (iI thr), .ref b1, .ref b2, .ref b3, .ref b4, .ref b5, .ref b6, .int (iI (w : Int)), .int (iI (g : Int))])), (b1, .inl (D.2 0, 1024, .inl (fun x_ => zI (ik x_)))), (b2, .inl (D.2 0, 1024, .inl (fun x_ => zI (st x_)))), (b3, .inl (D.2 0, 1024, .inl (fun x_ => zI (kp x_)))), (b4, .inl (D.2 0, 1024, .inl (fun x_ => zI (go x_)))), (b5, .inl (D.2 1, 1024, .inl (fun x_ => iI (dp x_)))), (b6, .inl (D.2 1, 1024, .inl (fun x_ => iI (pt x_))))] tY0 (some (.int (zI (isK w g ik x y)))) := by
  refine tu_rd (by decide +kernel) (Nat.le_of_ble_eq_true rfl) ?_
  intro p0 e0 s0 m0 below meth c0 A ls args Q hag hQ C hK hX hY hP hD hA hAe hl
  obtain ⟨kx, kb, hml, hown, hts, -⟩ := id C
  have hS : va_S A s0.heap s0.heap [] := va_S.rf
  have hl : lv_has ls 3 [(0, .ref o), (1, .int (iI x)), (2, .int (iI y))] := hl
  have hwg := wg_le hw hg
  refine lv_aload_n kx kb dX3_isInk_0 rfl (lv_at hl 0 rfl) ?_
  refine lv_iload_n kx kb dX3_isInk_1 rfl (lv_at hl 1 rfl) ?_
  refine lv_iload_n kx kb dX3_isInk_2 rfl (lv_at hl 2 rfl) ?_
  refine t_callRV C (met_X3_isBoard l D E o b1 b2 b3 b4 b5 b6 thr w g ik st kp go dp pt x y (by first | assumption | omega) (by first | assumption | omega) (by first | assumption | omega) (by first | assumption | omega)) (cwV 2 hts (lw_V q1422 q1424 qs26 q62 q1425) rfl rfl rfl (by decide +kernel) ⟨Nat.le_of_ble_eq_true rfl, Nat.le_of_ble_eq_true rfl⟩) (va_recv hK hP (ci := 0) (q0 := 0) rfl rfl) hK hX hP hD hS hA [0, 1, 2, 3, 4, 5, 6] rfl (by decide) tYb_0 (fun _ _ _ => trivial) rfl hl.1 rfl (Nat.le_of_ble_eq_true rfl) dX3_isInk_3 ⟨(show 0 ≤ 0 from by omega), (show 0 ≤ 0 from by omega)⟩ ?_
  refine W.eq (g2 := F0 m0 6 ls [.int (zI (isBd w g x y))]) rfl ?_
  refine tz_if_eq (tgt := 29) kx kb dX3_isInk_6 (by decide) (fun h6 => ?_) (fun h6 => ?_)
  · simp only [isBd_t, isBd_f] at h6
    refine lv_iconst (v := iI 0) kx kb dX3_isInk_29 rfl ?_
    refine W.eq (g2 := F0 m0 30 ls [.int (zI false)]) rfl ?_
    subst hQ
    exact tr_zret C rfl (by rw [show isK w g ik x y = false from by simp only [isK]; rw [(isBd_f w g x y).mpr h6]; rfl]) dX3_isInk_30
  · simp only [isBd_t, isBd_f] at h6
    have hq := cel_int h6
    refine lv_aload_n kx kb dX3_isInk_9 rfl (lv_at hl 0 rfl) ?_
    refine va_get (D := D.1) (ci := 0) (v := .ref b1) (C := RX3) (T := TX3) (N := 9) kx kb hts in_X3 hown hK hP 0 rfl rfl 1 (by decide) (hts _ q1371) (fun _ h9 => h9) rfl dX3_isInk_10 ?_
    refine lv_iload_n kx kb dX3_isInk_13 rfl (lv_at hl 2 rfl) ?_
    refine lv_aload_n kx kb dX3_isInk_14 rfl (lv_at hl 0 rfl) ?_
    refine va_get (D := D.1) (ci := 0) (v := .int (iI (w : Int))) (C := RX3) (T := TX3) (N := 9) kx kb hts in_X3 hown hK hP 0 rfl rfl 7 (by decide) (hts _ q1377) (fun _ h9 => h9) rfl dX3_isInk_15 ?_
    refine ti_imul kx kb dX3_isInk_18 ?_
    refine lv_iload_n kx kb dX3_isInk_19 rfl (lv_at hl 1 rfl) ?_
    refine ti_iadd kx kb dX3_isInk_20 ?_
    refine ta_zald C hK hP 1 rfl (cel w x y) (by omega) dX3_isInk_21 ?_
    refine tz_if_eq (tgt := 29) kx kb dX3_isInk_22 (by decide) (fun h22 => ?_) (fun h22 => ?_)
    · refine lv_iconst (v := iI 0) kx kb dX3_isInk_29 rfl ?_
      refine W.eq (g2 := F0 m0 30 ls [.int (zI false)]) rfl ?_
      subst hQ
      exact tr_zret C rfl (by rw [show isK w g ik x y = false from by simp [isK, h22]]) dX3_isInk_30
    · refine lv_iconst (v := iI 1) kx kb dX3_isInk_25 rfl ?_
      refine lv_goto (tgt := 30) kx kb dX3_isInk_26 (by decide) ?_
      refine W.eq (g2 := F0 m0 30 ls [.int (zI true)]) rfl ?_
      subst hQ
      exact tr_zret C rfl (by rw [show isK w g ik x y = true from by simp [isK, isBd_t, h6, h22]]) dX3_isInk_30
set_option maxHeartbeats 4000000 in
set_option maxRecDepth 100000 in
theorem met_X3_beside (l : Launch) (D : TG) (E : TE) (o : Nat) (b1 : Nat) (b2 : Nat) (b3 : Nat) (b4 : Nat) (b5 : Nat) (b6 : Nat) (thr : Int) (w : Nat) (g : Nat) (ik : Nat → Bool) (st : Nat → Bool) (kp : Nat → Bool) (go : Nat → Bool) (dp : Nat → Int) (pt : Nat → Int) (c : Nat) (k : Int) (hw : 1 ≤ w ∧ w ≤ 32) (hg : 1 ≤ g ∧ g ≤ 32) (hc : c < 1024) (rk : -2147483648 ≤ k ∧ k < 2147483648) : tRd l yX3_beside cX3_beside 3 (some .boolean) 3 66 [.ref o, .int (iI (c : Int)), .int (iI k)] D E [(o, .inr (0, [.int (iI thr), .ref b1, .ref b2, .ref b3, .ref b4, .ref b5, .ref b6, .int (iI (w : Int)), .int (iI (g : Int))])), (b1, .inl (D.2 0, 1024, .inl (fun x_ => zI (ik x_)))), (b2, .inl (D.2 0, 1024, .inl (fun x_ => zI (st x_)))), (b3, .inl (D.2 0, 1024, .inl (fun x_ => zI (kp x_)))), (b4, .inl (D.2 0, 1024, .inl (fun x_ => zI (go x_)))), (b5, .inl (D.2 1, 1024, .inl (fun x_ => iI (dp x_)))), (b6, .inl (D.2 1, 1024, .inl (fun x_ => iI (pt x_))))] tY0 (some (.int (zI (bes w g ik c k)))) := by
  refine tu_rd (by decide +kernel) (Nat.le_of_ble_eq_true rfl) ?_
  intro p0 e0 s0 m0 below meth c0 A ls args Q hag hQ C hK hX hY hP hD hA hAe hl
  obtain ⟨kx, kb, hml, hown, hts, -⟩ := id C
  have hS : va_S A s0.heap s0.heap [] := va_S.rf
  have hl : lv_has ls 3 [(0, .ref o), (1, .int (iI (c : Int))), (2, .int (iI k))] := hl
  have hwg := wg_le hw hg
  have hm := md_rng c w hw.1
  have hsx := sX_rng k
  have hsy := sY_rng k
  refine lv_aload_n kx kb dX3_beside_0 rfl (lv_at hl 0 rfl) ?_
  refine lv_iload_n kx kb dX3_beside_1 rfl (lv_at hl 1 rfl) ?_
  refine lv_aload_n kx kb dX3_beside_2 rfl (lv_at hl 0 rfl) ?_
  refine va_get (D := D.1) (ci := 0) (v := .int (iI (w : Int))) (C := RX3) (T := TX3) (N := 9) kx kb hts in_X3 hown hK hP 0 rfl rfl 7 (by decide) (hts _ q1377) (fun _ h9 => h9) rfl dX3_beside_3 ?_
  refine ti_irem kx kb (by omega) dX3_beside_6 ?_
  refine lv_iload_n kx kb dX3_beside_7 rfl (lv_at hl 2 rfl) ?_
  refine t_callRS C (met_X3_stepX l D E k (by first | assumption | omega)) (va_cwS 1 hts (lw_S q1471 q1472 q62 q1473) rfl rfl rfl (by decide +kernel) ⟨Nat.le_of_ble_eq_true rfl, Nat.le_of_ble_eq_true rfl⟩) hK hX hP hD hS hA [] rfl (by decide) tYb_0 (fun _ _ _ => trivial) rfl hl.1 rfl (Nat.le_of_ble_eq_true rfl) dX3_beside_8 ⟨(show 0 ≤ 0 from by omega), (show 0 ≤ 0 from by omega)⟩ ?_
  refine W.eq (g2 := F0 m0 11 ls [.int (iI (sX k)), .int (iI ((c : Int) % (w : Int))), .ref o]) rfl ?_
  refine ti_iadd kx kb dX3_beside_11 ?_
  refine lv_iload_n kx kb dX3_beside_12 rfl (lv_at hl 1 rfl) ?_
  refine lv_aload_n kx kb dX3_beside_13 rfl (lv_at hl 0 rfl) ?_
  refine va_get (D := D.1) (ci := 0) (v := .int (iI (w : Int))) (C := RX3) (T := TX3) (N := 9) kx kb hts in_X3 hown hK hP 0 rfl rfl 7 (by decide) (hts _ q1377) (fun _ h9 => h9) rfl dX3_beside_14 ?_
  refine ti_idiv kx kb (by omega) dX3_beside_17 ?_
  refine lv_iload_n kx kb dX3_beside_18 rfl (lv_at hl 2 rfl) ?_
  refine t_callRS C (met_X3_stepY l D E k (by first | assumption | omega)) (va_cwS 1 hts (lw_S q1474 q1475 q62 q1476) rfl rfl rfl (by decide +kernel) ⟨Nat.le_of_ble_eq_true rfl, Nat.le_of_ble_eq_true rfl⟩) hK hX hP hD hS hA [] rfl (by decide) tYb_0 (fun _ _ _ => trivial) rfl hl.1 rfl (Nat.le_of_ble_eq_true rfl) dX3_beside_19 ⟨(show 0 ≤ 0 from by omega), (show 0 ≤ 0 from by omega)⟩ ?_
  refine W.eq (g2 := F0 m0 22 ls [.int (iI (sY k)), .int (iI ((c : Int) / (w : Int))), .int (iI (((c : Int) % (w : Int)) + (sX k))), .ref o]) rfl ?_
  refine ti_iadd kx kb dX3_beside_22 ?_
  refine t_callRV C (met_X3_isInk l D E o b1 b2 b3 b4 b5 b6 thr w g ik st kp go dp pt (((c : Int) % (w : Int)) + (sX k)) (((c : Int) / (w : Int)) + (sY k)) (by first | assumption | omega) (by first | assumption | omega) (by first | assumption | omega) (by first | assumption | omega)) (cwV 2 hts (lw_V q1459 q1461 qs31 q62 q1462) rfl rfl rfl (by decide +kernel) ⟨Nat.le_of_ble_eq_true rfl, Nat.le_of_ble_eq_true rfl⟩) (va_recv hK hP (ci := 0) (q0 := 0) rfl rfl) hK hX hP hD hS hA [0, 1, 2, 3, 4, 5, 6] rfl (by decide) tYb_0 (fun _ _ _ => trivial) rfl hl.1 rfl (Nat.le_of_ble_eq_true rfl) dX3_beside_23 ⟨(show 0 ≤ 0 from by omega), (show 0 ≤ 0 from by omega)⟩ ?_
  refine W.eq (g2 := F0 m0 26 ls [.int (zI (isK w g ik (((c : Int) % (w : Int)) + (sX k)) (((c : Int) / (w : Int)) + (sY k))))]) rfl ?_
  subst hQ
  exact tr_zret C rfl rfl dX3_beside_26
set_option maxHeartbeats 4000000 in
set_option maxRecDepth 100000 in
theorem met_X3_count (l : Launch) (D : TG) (E : TE) (o : Nat) (b1 : Nat) (b2 : Nat) (b3 : Nat) (b4 : Nat) (b5 : Nat) (b6 : Nat) (thr : Int) (w : Nat) (g : Nat) (ik : Nat → Bool) (st : Nat → Bool) (kp : Nat → Bool) (go : Nat → Bool) (dp : Nat → Int) (pt : Nat → Int) (hw : 1 ≤ w ∧ w ≤ 32) (hg : 1 ≤ g ∧ g ≤ 32) : tRd l yX3_count cX3_count 3 (some .int) 1 20 [.ref o] D E [(o, .inr (0, [.int (iI thr), .ref b1, .ref b2, .ref b3, .ref b4, .ref b5, .ref b6, .int (iI (w : Int)), .int (iI (g : Int))])), (b1, .inl (D.2 0, 1024, .inl (fun x_ => zI (ik x_)))), (b2, .inl (D.2 0, 1024, .inl (fun x_ => zI (st x_)))), (b3, .inl (D.2 0, 1024, .inl (fun x_ => zI (kp x_)))), (b4, .inl (D.2 0, 1024, .inl (fun x_ => zI (go x_)))), (b5, .inl (D.2 1, 1024, .inl (fun x_ => iI (dp x_)))), (b6, .inl (D.2 1, 1024, .inl (fun x_ => iI (pt x_))))] tY0 (some (.int (iI ((fb_ct ik (w * g) : Nat) : Int)))) := by
  refine tu_rd (by decide +kernel) (Nat.le_of_ble_eq_true rfl) ?_
  intro p0 e0 s0 m0 below meth c0 A ls args Q hag hQ C hK hX hY hP hD hA hAe hl
  obtain ⟨kx, kb, hml, hown, hts, -⟩ := id C
  have hS : va_S A s0.heap s0.heap [] := va_S.rf
  have hl : lv_has ls 3 [(0, .ref o)] := hl
  have hwg := wg_le hw hg
  refine lv_iconst (v := iI 0) kx kb dX3_count_0 rfl ?_
  refine lv_istore_n (lv' := [(1, .int (iI 0)), (0, .ref o)]) kx kb dX3_count_1 rfl hl (by decide) rfl (fun ls hl => ?_)
  refine lv_iconst (v := iI 0) kx kb dX3_count_2 rfl ?_
  refine lv_istore_n (lv' := [(2, .int (iI 0)), (1, .int (iI 0)), (0, .ref o)]) kx kb dX3_count_3 rfl hl (by decide) rfl (fun ls hl => ?_)
  have cut4 : ∀ (fuel : Nat) (i : Nat) (n : Int), (i ≤ w * g) → (n = ((fb_ct ik i : Nat) : Int)) → (w * g - i) < fuel → ∀ ls : Array Slot, lv_has ls 3 [(2, .int (iI (i : Int))), (1, .int (iI n)), (0, .ref o)] → W p0 l e0 ({ frames := 1, cells := 0, slots := 0, locals := 20 } : Room) s0 m0 args below meth c0 s0.heap [] (0) (0) Q (F0 m0 4 ls []) := by
    intro fuel
    induction fuel with
    | zero =>
      intro i n hi hn hfuel4
      exact absurd hfuel4 (Nat.not_lt_zero _)
    | succ fuel ih4 =>
      intro i n hi hn hfuel4  ls hl
      have hk := fb_ct_le ik i
      refine lv_iload_n kx kb dX3_count_4 rfl (lv_at hl 0 rfl) ?_
      refine lv_aload_n kx kb dX3_count_5 rfl (lv_at hl 2 rfl) ?_
      refine t_callRV C (met_X3_cells l D E o b1 b2 b3 b4 b5 b6 thr w g ik st kp go dp pt (by first | assumption | omega) (by first | assumption | omega)) (cwV 0 hts (lw_V q1467 q1469 qs33 q62 q1470) rfl rfl rfl (by decide +kernel) ⟨Nat.le_of_ble_eq_true rfl, Nat.le_of_ble_eq_true rfl⟩) (va_recv hK hP (ci := 0) (q0 := 0) rfl rfl) hK hX hP hD hS hA [0, 1, 2, 3, 4, 5, 6] rfl (by decide) tYb_0 (fun _ _ _ => trivial) rfl hl.1 rfl (Nat.le_of_ble_eq_true rfl) dX3_count_6 ⟨(show 0 ≤ 0 from by omega), (show 0 ≤ 0 from by omega)⟩ ?_
      refine W.eq (g2 := F0 m0 9 ls [.int (iI ((w * g : Nat) : Int)), .int (iI (i : Int))]) rfl ?_
      refine ti_icmp_ge (tgt := 35) kx kb (by omega) dX3_count_9 (by decide) (fun h9 => ?_) (fun h9 => ?_)
      · refine lv_iload_n kx kb dX3_count_35 rfl (lv_at hl 1 rfl) ?_
        subst hQ
        exact tr_iret C rfl (by rw [hn, show i = w * g from by omega]) dX3_count_36
      · refine lv_iload_n kx kb dX3_count_12 rfl (lv_at hl 1 rfl) ?_
        refine lv_aload_n kx kb dX3_count_13 rfl (lv_at hl 2 rfl) ?_
        refine va_get (D := D.1) (ci := 0) (v := .ref b1) (C := RX3) (T := TX3) (N := 9) kx kb hts in_X3 hown hK hP 0 rfl rfl 1 (by decide) (hts _ q1371) (fun _ h9 => h9) rfl dX3_count_14 ?_
        refine lv_iload_n kx kb dX3_count_17 rfl (lv_at hl 0 rfl) ?_
        refine ta_zald C hK hP 1 rfl i (by omega) dX3_count_18 ?_
        refine tz_if_eq (tgt := 26) kx kb dX3_count_19 (by decide) (fun h19 => ?_) (fun h19 => ?_)
        · refine lv_iconst (v := iI 0) kx kb dX3_count_26 rfl ?_
          refine ti_iadd kx kb dX3_count_27 ?_
          refine lv_istore_n (lv' := [(1, .int (iI (n + 0))), (2, .int (iI (i : Int))), (0, .ref o)]) kx kb dX3_count_28 rfl hl (by decide) rfl (fun ls hl => ?_)
          refine ti_iinc (a := (i : Int)) (lv' := [(2, .int (iI ((i : Int) + 1))), (1, .int (iI (n + 0))), (0, .ref o)]) kx kb dX3_count_29 hl (k := 1) rfl (by decide) rfl (fun ls hl => ?_)
          refine lv_goto (tgt := 4) kx kb dX3_count_32 (by decide) ?_
          exact ih4 (i + 1) (n + 0) (by omega) (by simp [fb_ct_succ, h19, hn]) (by omega) ls hl
        · refine lv_iconst (v := iI 1) kx kb dX3_count_22 rfl ?_
          refine lv_goto (tgt := 27) kx kb dX3_count_23 (by decide) ?_
          refine ti_iadd kx kb dX3_count_27 ?_
          refine lv_istore_n (lv' := [(1, .int (iI (n + 1))), (2, .int (iI (i : Int))), (0, .ref o)]) kx kb dX3_count_28 rfl hl (by decide) rfl (fun ls hl => ?_)
          refine ti_iinc (a := (i : Int)) (lv' := [(2, .int (iI ((i : Int) + 1))), (1, .int (iI (n + 1))), (0, .ref o)]) kx kb dX3_count_29 hl (k := 1) rfl (by decide) rfl (fun ls hl => ?_)
          refine lv_goto (tgt := 4) kx kb dX3_count_32 (by decide) ?_
          exact ih4 (i + 1) (n + 1) (by omega) (by simp [fb_ct_succ, h19, hn]) (by omega) ls hl
  exact cut4 ((w * g - 0) + 1) 0 0 (by omega) (by rfl) (Nat.lt_succ_self _) ls hl
set_option maxHeartbeats 4000000 in
set_option maxRecDepth 100000 in
theorem met_X3_around (l : Launch) (D : TG) (E : TE) (o : Nat) (b1 : Nat) (b2 : Nat) (b3 : Nat) (b4 : Nat) (b5 : Nat) (b6 : Nat) (thr : Int) (w : Nat) (g : Nat) (ik : Nat → Bool) (st : Nat → Bool) (kp : Nat → Bool) (go : Nat → Bool) (dp : Nat → Int) (pt : Nat → Int) (c : Nat) (hw : 1 ≤ w ∧ w ≤ 32) (hg : 1 ≤ g ∧ g ≤ 32) (hc : c < 1024) : tRd l yX3_around cX3_around 4 (some .int) 4 88 [.ref o, .int (iI (c : Int))] D E [(o, .inr (0, [.int (iI thr), .ref b1, .ref b2, .ref b3, .ref b4, .ref b5, .ref b6, .int (iI (w : Int)), .int (iI (g : Int))])), (b1, .inl (D.2 0, 1024, .inl (fun x_ => zI (ik x_)))), (b2, .inl (D.2 0, 1024, .inl (fun x_ => zI (st x_)))), (b3, .inl (D.2 0, 1024, .inl (fun x_ => zI (kp x_)))), (b4, .inl (D.2 0, 1024, .inl (fun x_ => zI (go x_)))), (b5, .inl (D.2 1, 1024, .inl (fun x_ => iI (dp x_)))), (b6, .inl (D.2 1, 1024, .inl (fun x_ => iI (pt x_))))] tY0 (some (.int (iI ((arnd w g ik c : Nat) : Int)))) := by
  refine tu_rd (by decide +kernel) (Nat.le_of_ble_eq_true rfl) ?_
  intro p0 e0 s0 m0 below meth c0 A ls args Q hag hQ C hK hX hY hP hD hA hAe hl
  obtain ⟨kx, kb, hml, hown, hts, -⟩ := id C
  have hS : va_S A s0.heap s0.heap [] := va_S.rf
  have hl : lv_has ls 4 [(0, .ref o), (1, .int (iI (c : Int)))] := hl
  have hwg := wg_le hw hg
  refine lv_iconst (v := iI 0) kx kb dX3_around_0 rfl ?_
  refine lv_istore_n (lv' := [(2, .int (iI 0)), (0, .ref o), (1, .int (iI (c : Int)))]) kx kb dX3_around_1 rfl hl (by decide) rfl (fun ls hl => ?_)
  refine lv_iconst (v := iI 0) kx kb dX3_around_2 rfl ?_
  refine lv_istore_n (lv' := [(3, .int (iI 0)), (2, .int (iI 0)), (0, .ref o), (1, .int (iI (c : Int)))]) kx kb dX3_around_3 rfl hl (by decide) rfl (fun ls hl => ?_)
  have cut4 : ∀ (fuel : Nat) (i : Nat) (n : Int), (i ≤ 8) → (n = ((fb_ct (fun k => bes w g ik c (k : Int)) i : Nat) : Int)) → (8 - i) < fuel → ∀ ls : Array Slot, lv_has ls 4 [(3, .int (iI (i : Int))), (2, .int (iI n)), (0, .ref o), (1, .int (iI (c : Int)))] → W p0 l e0 ({ frames := 4, cells := 0, slots := 0, locals := 88 } : Room) s0 m0 args below meth c0 s0.heap [] (0) (0) Q (F0 m0 4 ls []) := by
    intro fuel
    induction fuel with
    | zero =>
      intro i n hi hn hfuel4
      exact absurd hfuel4 (Nat.not_lt_zero _)
    | succ fuel ih4 =>
      intro i n hi hn hfuel4  ls hl
      have hk := fb_ct_le (fun k => bes w g ik c (k : Int)) i
      refine lv_iload_n kx kb dX3_around_4 rfl (lv_at hl 0 rfl) ?_
      refine lv_bipush (v := iI 8) kx kb dX3_around_5 rfl ?_
      refine ti_icmp_ge (tgt := 33) kx kb (by omega) dX3_around_7 (by decide) (fun h7 => ?_) (fun h7 => ?_)
      · refine lv_iload_n kx kb dX3_around_33 rfl (lv_at hl 1 rfl) ?_
        subst hQ
        exact tr_iret C rfl (by rw [hn, show i = 8 from by omega]; rfl) dX3_around_34
      · refine lv_iload_n kx kb dX3_around_10 rfl (lv_at hl 1 rfl) ?_
        refine lv_aload_n kx kb dX3_around_11 rfl (lv_at hl 2 rfl) ?_
        refine lv_iload_n kx kb dX3_around_12 rfl (lv_at hl 3 rfl) ?_
        refine lv_iload_n kx kb dX3_around_13 rfl (lv_at hl 0 rfl) ?_
        refine t_callRV C (met_X3_beside l D E o b1 b2 b3 b4 b5 b6 thr w g ik st kp go dp pt c (i : Int) (by first | assumption | omega) (by first | assumption | omega) (by first | assumption | omega) (by first | assumption | omega)) (cwV 2 hts (lw_V q1517 q1519 qs40 q62 q1520) rfl rfl rfl (by decide +kernel) ⟨Nat.le_of_ble_eq_true rfl, Nat.le_of_ble_eq_true rfl⟩) (va_recv hK hP (ci := 0) (q0 := 0) rfl rfl) hK hX hP hD hS hA [0, 1, 2, 3, 4, 5, 6] rfl (by decide) tYb_0 (fun _ _ _ => trivial) rfl hl.1 rfl (Nat.le_of_ble_eq_true rfl) dX3_around_14 ⟨(show 0 ≤ 0 from by omega), (show 0 ≤ 0 from by omega)⟩ ?_
        refine W.eq (g2 := F0 m0 17 ls [.int (zI (bes w g ik c (i : Int))), .int (iI n)]) rfl ?_
        refine tz_if_eq (tgt := 24) kx kb dX3_around_17 (by decide) (fun h17 => ?_) (fun h17 => ?_)
        · refine lv_iconst (v := iI 0) kx kb dX3_around_24 rfl ?_
          refine ti_iadd kx kb dX3_around_25 ?_
          refine lv_istore_n (lv' := [(2, .int (iI (n + 0))), (3, .int (iI (i : Int))), (0, .ref o), (1, .int (iI (c : Int)))]) kx kb dX3_around_26 rfl hl (by decide) rfl (fun ls hl => ?_)
          refine ti_iinc (a := (i : Int)) (lv' := [(3, .int (iI ((i : Int) + 1))), (2, .int (iI (n + 0))), (0, .ref o), (1, .int (iI (c : Int)))]) kx kb dX3_around_27 hl (k := 1) rfl (by decide) rfl (fun ls hl => ?_)
          refine lv_goto (tgt := 4) kx kb dX3_around_30 (by decide) ?_
          exact ih4 (i + 1) (n + 0) (by omega) (by simp [fb_ct_succ, h17, hn]) (by omega) ls hl
        · refine lv_iconst (v := iI 1) kx kb dX3_around_20 rfl ?_
          refine lv_goto (tgt := 25) kx kb dX3_around_21 (by decide) ?_
          refine ti_iadd kx kb dX3_around_25 ?_
          refine lv_istore_n (lv' := [(2, .int (iI (n + 1))), (3, .int (iI (i : Int))), (0, .ref o), (1, .int (iI (c : Int)))]) kx kb dX3_around_26 rfl hl (by decide) rfl (fun ls hl => ?_)
          refine ti_iinc (a := (i : Int)) (lv' := [(3, .int (iI ((i : Int) + 1))), (2, .int (iI (n + 1))), (0, .ref o), (1, .int (iI (c : Int)))]) kx kb dX3_around_27 hl (k := 1) rfl (by decide) rfl (fun ls hl => ?_)
          refine lv_goto (tgt := 4) kx kb dX3_around_30 (by decide) ?_
          exact ih4 (i + 1) (n + 1) (by omega) (by simp [fb_ct_succ, h17, hn]) (by omega) ls hl
  exact cut4 ((8 - 0) + 1) 0 0 (by omega) (by rfl) (Nat.lt_succ_self _) ls hl
set_option maxHeartbeats 4000000 in
set_option maxRecDepth 100000 in
theorem met_X3_changes (l : Launch) (D : TG) (E : TE) (o : Nat) (b1 : Nat) (b2 : Nat) (b3 : Nat) (b4 : Nat) (b5 : Nat) (b6 : Nat) (thr : Int) (w : Nat) (g : Nat) (ik : Nat → Bool) (st : Nat → Bool) (kp : Nat → Bool) (go : Nat → Bool) (dp : Nat → Int) (pt : Nat → Int) (c : Nat) (hw : 1 ≤ w ∧ w ≤ 32) (hg : 1 ≤ g ∧ g ≤ 32) (hc : c < 1024) : tRd l yX3_changes cX3_changes 4 (some .int) 4 88 [.ref o, .int (iI (c : Int))] D E [(o, .inr (0, [.int (iI thr), .ref b1, .ref b2, .ref b3, .ref b4, .ref b5, .ref b6, .int (iI (w : Int)), .int (iI (g : Int))])), (b1, .inl (D.2 0, 1024, .inl (fun x_ => zI (ik x_)))), (b2, .inl (D.2 0, 1024, .inl (fun x_ => zI (st x_)))), (b3, .inl (D.2 0, 1024, .inl (fun x_ => zI (kp x_)))), (b4, .inl (D.2 0, 1024, .inl (fun x_ => zI (go x_)))), (b5, .inl (D.2 1, 1024, .inl (fun x_ => iI (dp x_)))), (b6, .inl (D.2 1, 1024, .inl (fun x_ => iI (pt x_))))] tY0 (some (.int (iI ((chgs w g ik c : Nat) : Int)))) := by
  refine tu_rd (by decide +kernel) (Nat.le_of_ble_eq_true rfl) ?_
  intro p0 e0 s0 m0 below meth c0 A ls args Q hag hQ C hK hX hY hP hD hA hAe hl
  obtain ⟨kx, kb, hml, hown, hts, -⟩ := id C
  have hS : va_S A s0.heap s0.heap [] := va_S.rf
  have hl : lv_has ls 4 [(0, .ref o), (1, .int (iI (c : Int)))] := hl
  have hwg := wg_le hw hg
  refine lv_iconst (v := iI 0) kx kb dX3_changes_0 rfl ?_
  refine lv_istore_n (lv' := [(2, .int (iI 0)), (0, .ref o), (1, .int (iI (c : Int)))]) kx kb dX3_changes_1 rfl hl (by decide) rfl (fun ls hl => ?_)
  refine lv_iconst (v := iI 0) kx kb dX3_changes_2 rfl ?_
  refine lv_istore_n (lv' := [(3, .int (iI 0)), (2, .int (iI 0)), (0, .ref o), (1, .int (iI (c : Int)))]) kx kb dX3_changes_3 rfl hl (by decide) rfl (fun ls hl => ?_)
  have cut4 : ∀ (fuel : Nat) (i : Nat) (n : Int), (i ≤ 8) → (n = ((fb_ct (fun k => !bes w g ik c (k : Int) && bes w g ik c (((k : Int) + 1) % 8)) i : Nat) : Int)) → (8 - i) < fuel → ∀ ls : Array Slot, lv_has ls 4 [(3, .int (iI (i : Int))), (2, .int (iI n)), (0, .ref o), (1, .int (iI (c : Int)))] → W p0 l e0 ({ frames := 4, cells := 0, slots := 0, locals := 88 } : Room) s0 m0 args below meth c0 s0.heap [] (0) (0) Q (F0 m0 4 ls []) := by
    intro fuel
    induction fuel with
    | zero =>
      intro i n hi hn hfuel4
      exact absurd hfuel4 (Nat.not_lt_zero _)
    | succ fuel ih4 =>
      intro i n hi hn hfuel4  ls hl
      refine lv_iload_n kx kb dX3_changes_4 rfl (lv_at hl 0 rfl) ?_
      refine lv_bipush (v := iI 8) kx kb dX3_changes_5 rfl ?_
      refine ti_icmp_ge (tgt := 47) kx kb (by omega) dX3_changes_7 (by decide) (fun h7 => ?_) (fun h7 => ?_)
      · refine lv_iload_n kx kb dX3_changes_47 rfl (lv_at hl 1 rfl) ?_
        subst hQ
        exact tr_iret C rfl (by rw [hn, show i = 8 from by omega]; rfl) dX3_changes_48
      · refine lv_iload_n kx kb dX3_changes_10 rfl (lv_at hl 1 rfl) ?_
        refine lv_aload_n kx kb dX3_changes_11 rfl (lv_at hl 2 rfl) ?_
        refine lv_iload_n kx kb dX3_changes_12 rfl (lv_at hl 3 rfl) ?_
        refine lv_iload_n kx kb dX3_changes_13 rfl (lv_at hl 0 rfl) ?_
        refine t_callRV C (met_X3_beside l D E o b1 b2 b3 b4 b5 b6 thr w g ik st kp go dp pt c (i : Int) (by first | assumption | omega) (by first | assumption | omega) (by first | assumption | omega) (by first | assumption | omega)) (cwV 2 hts (lw_V q1517 q1519 qs40 q62 q1520) rfl rfl rfl (by decide +kernel) ⟨Nat.le_of_ble_eq_true rfl, Nat.le_of_ble_eq_true rfl⟩) (va_recv hK hP (ci := 0) (q0 := 0) rfl rfl) hK hX hP hD hS hA [0, 1, 2, 3, 4, 5, 6] rfl (by decide) tYb_0 (fun _ _ _ => trivial) rfl hl.1 rfl (Nat.le_of_ble_eq_true rfl) dX3_changes_14 ⟨(show 0 ≤ 0 from by omega), (show 0 ≤ 0 from by omega)⟩ ?_
        refine W.eq (g2 := F0 m0 17 ls [.int (zI (bes w g ik c (i : Int))), .int (iI n)]) rfl ?_
        refine tz_if_ne (tgt := 38) kx kb dX3_changes_17 (by decide) (fun h17 => ?_) (fun h17 => ?_)
        · refine lv_iconst (v := iI 0) kx kb dX3_changes_38 rfl ?_
          refine ti_iadd kx kb dX3_changes_39 ?_
          refine lv_istore_n (lv' := [(2, .int (iI (n + 0))), (3, .int (iI (i : Int))), (0, .ref o), (1, .int (iI (c : Int)))]) kx kb dX3_changes_40 rfl hl (by decide) rfl (fun ls hl => ?_)
          refine ti_iinc (a := (i : Int)) (lv' := [(3, .int (iI ((i : Int) + 1))), (2, .int (iI (n + 0))), (0, .ref o), (1, .int (iI (c : Int)))]) kx kb dX3_changes_41 hl (k := 1) rfl (by decide) rfl (fun ls hl => ?_)
          refine lv_goto (tgt := 4) kx kb dX3_changes_44 (by decide) ?_
          exact ih4 (i + 1) (n + 0) (by omega) (by first | (simp [fb_ct_succ, h7, h17, hn]; done) | (simp [h7] at h17; done) | (simp [h17] at h7; done)) (by omega) ls hl
        · refine lv_aload_n kx kb dX3_changes_20 rfl (lv_at hl 2 rfl) ?_
          refine lv_iload_n kx kb dX3_changes_21 rfl (lv_at hl 3 rfl) ?_
          refine lv_iload_n kx kb dX3_changes_22 rfl (lv_at hl 0 rfl) ?_
          refine lv_iconst (v := iI 1) kx kb dX3_changes_23 rfl ?_
          refine ti_iadd kx kb dX3_changes_24 ?_
          refine lv_bipush (v := iI 8) kx kb dX3_changes_25 rfl ?_
          refine ti_irem kx kb (by omega) dX3_changes_27 ?_
          refine t_callRV C (met_X3_beside l D E o b1 b2 b3 b4 b5 b6 thr w g ik st kp go dp pt c (((i : Int) + 1) % 8) (by first | assumption | omega) (by first | assumption | omega) (by first | assumption | omega) (by first | assumption | omega)) (cwV 2 hts (lw_V q1517 q1519 qs40 q62 q1520) rfl rfl rfl (by decide +kernel) ⟨Nat.le_of_ble_eq_true rfl, Nat.le_of_ble_eq_true rfl⟩) (va_recv hK hP (ci := 0) (q0 := 0) rfl rfl) hK hX hP hD hS hA [0, 1, 2, 3, 4, 5, 6] rfl (by decide) tYb_0 (fun _ _ _ => trivial) rfl hl.1 rfl (Nat.le_of_ble_eq_true rfl) dX3_changes_28 ⟨(show 0 ≤ 0 from by omega), (show 0 ≤ 0 from by omega)⟩ ?_
          refine W.eq (g2 := F0 m0 31 ls [.int (zI (bes w g ik c (((i : Int) + 1) % 8))), .int (iI n)]) rfl ?_
          refine tz_if_eq (tgt := 38) kx kb dX3_changes_31 (by decide) (fun h31 => ?_) (fun h31 => ?_)
          · refine lv_iconst (v := iI 0) kx kb dX3_changes_38 rfl ?_
            refine ti_iadd kx kb dX3_changes_39 ?_
            refine lv_istore_n (lv' := [(2, .int (iI (n + 0))), (3, .int (iI (i : Int))), (0, .ref o), (1, .int (iI (c : Int)))]) kx kb dX3_changes_40 rfl hl (by decide) rfl (fun ls hl => ?_)
            refine ti_iinc (a := (i : Int)) (lv' := [(3, .int (iI ((i : Int) + 1))), (2, .int (iI (n + 0))), (0, .ref o), (1, .int (iI (c : Int)))]) kx kb dX3_changes_41 hl (k := 1) rfl (by decide) rfl (fun ls hl => ?_)
            refine lv_goto (tgt := 4) kx kb dX3_changes_44 (by decide) ?_
            exact ih4 (i + 1) (n + 0) (by omega) (by first | (simp [fb_ct_succ, h7, h17, h31, hn]; done) | (simp [h7, h17] at h31; done) | (simp [h7, h31] at h17; done) | (simp [h17, h31] at h7; done)) (by omega) ls hl
          · refine lv_iconst (v := iI 1) kx kb dX3_changes_34 rfl ?_
            refine lv_goto (tgt := 39) kx kb dX3_changes_35 (by decide) ?_
            refine ti_iadd kx kb dX3_changes_39 ?_
            refine lv_istore_n (lv' := [(2, .int (iI (n + 1))), (3, .int (iI (i : Int))), (0, .ref o), (1, .int (iI (c : Int)))]) kx kb dX3_changes_40 rfl hl (by decide) rfl (fun ls hl => ?_)
            refine ti_iinc (a := (i : Int)) (lv' := [(3, .int (iI ((i : Int) + 1))), (2, .int (iI (n + 1))), (0, .ref o), (1, .int (iI (c : Int)))]) kx kb dX3_changes_41 hl (k := 1) rfl (by decide) rfl (fun ls hl => ?_)
            refine lv_goto (tgt := 4) kx kb dX3_changes_44 (by decide) ?_
            exact ih4 (i + 1) (n + 1) (by omega) (by first | (simp [fb_ct_succ, h7, h17, h31, hn]; done) | (simp [h7, h17] at h31; done) | (simp [h7, h31] at h17; done) | (simp [h17, h31] at h7; done)) (by omega) ls hl
  exact cut4 ((8 - 0) + 1) 0 0 (by omega) (by rfl) (Nat.lt_succ_self _) ls hl
set_option maxHeartbeats 4000000 in
set_option maxRecDepth 100000 in
theorem met_X3_isThin (l : Launch) (D : TG) (E : TE) (o : Nat) (b1 : Nat) (b2 : Nat) (b3 : Nat) (b4 : Nat) (b5 : Nat) (b6 : Nat) (thr : Int) (w : Nat) (g : Nat) (ik : Nat → Bool) (st : Nat → Bool) (kp : Nat → Bool) (go : Nat → Bool) (dp : Nat → Int) (pt : Nat → Int) (c : Nat) (fb : Bool) (hw : 1 ≤ w ∧ w ≤ 32) (hg : 1 ≤ g ∧ g ≤ 32) (hc : c < w * g) : tRd l yX3_isThin cX3_isThin 7 (some .boolean) 5 111 [.ref o, .int (iI (c : Int)), .int (zI fb)] D E [(o, .inr (0, [.int (iI thr), .ref b1, .ref b2, .ref b3, .ref b4, .ref b5, .ref b6, .int (iI (w : Int)), .int (iI (g : Int))])), (b1, .inl (D.2 0, 1024, .inl (fun x_ => zI (ik x_)))), (b2, .inl (D.2 0, 1024, .inl (fun x_ => zI (st x_)))), (b3, .inl (D.2 0, 1024, .inl (fun x_ => zI (kp x_)))), (b4, .inl (D.2 0, 1024, .inl (fun x_ => zI (go x_)))), (b5, .inl (D.2 1, 1024, .inl (fun x_ => iI (dp x_)))), (b6, .inl (D.2 1, 1024, .inl (fun x_ => iI (pt x_))))] tY0 (some (.int (zI (thn w g fb ik c)))) := by
  refine tu_rd (by decide +kernel) (Nat.le_of_ble_eq_true rfl) ?_
  intro p0 e0 s0 m0 below meth c0 A ls args Q hag hQ C hK hX hY hP hD hA hAe hl
  obtain ⟨kx, kb, hml, hown, hts, -⟩ := id C
  have hS : va_S A s0.heap s0.heap [] := va_S.rf
  have hl : lv_has ls 7 [(0, .ref o), (1, .int (iI (c : Int))), (2, .int (zI fb))] := hl
  have hwg := wg_le hw hg
  refine lv_aload_n kx kb dX3_isThin_0 rfl (lv_at hl 0 rfl) ?_
  refine va_get (D := D.1) (ci := 0) (v := .ref b1) (C := RX3) (T := TX3) (N := 9) kx kb hts in_X3 hown hK hP 0 rfl rfl 1 (by decide) (hts _ q1371) (fun _ h9 => h9) rfl dX3_isThin_1 ?_
  refine lv_iload_n kx kb dX3_isThin_4 rfl (lv_at hl 1 rfl) ?_
  refine ta_zald C hK hP 1 rfl c (by omega) dX3_isThin_5 ?_
  refine tz_if_eq (tgt := 32) kx kb dX3_isThin_6 (by decide) (fun h6 => ?_) (fun h6 => ?_)
  · refine lv_iconst (v := iI 0) kx kb dX3_isThin_32 rfl ?_
    refine W.eq (g2 := F0 m0 33 ls [.int (zI false)]) rfl ?_
    subst hQ
    exact tr_zret C rfl (by rw [show thn w g fb ik c = false from by first | (simp [thn, h6]; done) | (simp [] at h6; done)]) dX3_isThin_33
  · have hk := fb_ct_le (fun k => bes w g ik c (k : Int)) 8
    refine lv_aload_n kx kb dX3_isThin_9 rfl (lv_at hl 0 rfl) ?_
    refine lv_iload_n kx kb dX3_isThin_10 rfl (lv_at hl 1 rfl) ?_
    refine t_callRV C (met_X3_around l D E o b1 b2 b3 b4 b5 b6 thr w g ik st kp go dp pt c (by first | assumption | omega) (by first | assumption | omega) (by first | assumption | omega)) (cwV 1 hts (lw_V q1513 q1515 qs39 q62 q1516) rfl rfl rfl (by decide +kernel) ⟨Nat.le_of_ble_eq_true rfl, Nat.le_of_ble_eq_true rfl⟩) (va_recv hK hP (ci := 0) (q0 := 0) rfl rfl) hK hX hP hD hS hA [0, 1, 2, 3, 4, 5, 6] rfl (by decide) tYb_0 (fun _ _ _ => trivial) rfl hl.1 rfl (Nat.le_of_ble_eq_true rfl) dX3_isThin_11 ⟨(show 0 ≤ 0 from by omega), (show 0 ≤ 0 from by omega)⟩ ?_
    refine W.eq (g2 := F0 m0 14 ls [.int (iI ((arnd w g ik c : Nat) : Int))]) rfl ?_
    refine lv_iconst (v := iI 2) kx kb dX3_isThin_14 rfl ?_
    refine lv_bipush (v := iI 6) kx kb dX3_isThin_15 rfl ?_
    refine t_callRS C (met_X3_isIn l D E ((arnd w g ik c : Nat) : Int) 2 6 (by unfold arnd; omega)) (va_cwS 3 hts (lw_S q1407 q1408 q62 q1409) rfl rfl rfl (by decide +kernel) ⟨Nat.le_of_ble_eq_true rfl, Nat.le_of_ble_eq_true rfl⟩) hK hX hP hD hS hA [] rfl (by decide) tYb_0 (fun _ _ _ => trivial) rfl hl.1 rfl (Nat.le_of_ble_eq_true rfl) dX3_isThin_17 ⟨(show 0 ≤ 0 from by omega), (show 0 ≤ 0 from by omega)⟩ ?_
    refine W.eq (g2 := F0 m0 20 ls [.int (zI (decide (2 ≤ ((arnd w g ik c : Nat) : Int) ∧ ((arnd w g ik c : Nat) : Int) ≤ 6)))]) rfl ?_
    refine tz_if_eq (tgt := 32) kx kb dX3_isThin_20 (by decide) (fun h20 => ?_) (fun h20 => ?_)
    · simp only [decide_eq_true_eq, decide_eq_false_iff_not] at h20
      refine lv_iconst (v := iI 0) kx kb dX3_isThin_32 rfl ?_
      refine W.eq (g2 := F0 m0 33 ls [.int (zI false)]) rfl ?_
      subst hQ
      exact tr_zret C rfl (by rw [show thn w g fb ik c = false from by first | (simp [thn, h6, h20]; done) | (simp [h6] at h20; done) | (simp [h20] at h6; done)]) dX3_isThin_33
    · simp only [decide_eq_true_eq, decide_eq_false_iff_not] at h20
      have hk2 := fb_ct_le (fun k => !bes w g ik c (k : Int) && bes w g ik c (((k : Int) + 1) % 8)) 8
      refine lv_aload_n kx kb dX3_isThin_23 rfl (lv_at hl 0 rfl) ?_
      refine lv_iload_n kx kb dX3_isThin_24 rfl (lv_at hl 1 rfl) ?_
      refine t_callRV C (met_X3_changes l D E o b1 b2 b3 b4 b5 b6 thr w g ik st kp go dp pt c (by first | assumption | omega) (by first | assumption | omega) (by first | assumption | omega)) (cwV 1 hts (lw_V q1521 q1523 qs41 q62 q1524) rfl rfl rfl (by decide +kernel) ⟨Nat.le_of_ble_eq_true rfl, Nat.le_of_ble_eq_true rfl⟩) (va_recv hK hP (ci := 0) (q0 := 0) rfl rfl) hK hX hP hD hS hA [0, 1, 2, 3, 4, 5, 6] rfl (by decide) tYb_0 (fun _ _ _ => trivial) rfl hl.1 rfl (Nat.le_of_ble_eq_true rfl) dX3_isThin_25 ⟨(show 0 ≤ 0 from by omega), (show 0 ≤ 0 from by omega)⟩ ?_
      refine W.eq (g2 := F0 m0 28 ls [.int (iI ((chgs w g ik c : Nat) : Int))]) rfl ?_
      refine lv_iconst (v := iI 1) kx kb dX3_isThin_28 rfl ?_
      refine ti_icmp_eq (tgt := 34) kx kb (by unfold chgs; omega) dX3_isThin_29 (by decide) (fun h29 => ?_) (fun h29 => ?_)
      · refine lv_aload_n kx kb dX3_isThin_34 rfl (lv_at hl 0 rfl) ?_
        refine lv_iload_n kx kb dX3_isThin_35 rfl (lv_at hl 1 rfl) ?_
        refine lv_iconst (v := iI 0) kx kb dX3_isThin_36 rfl ?_
        refine t_callRV C (met_X3_beside l D E o b1 b2 b3 b4 b5 b6 thr w g ik st kp go dp pt c 0 (by first | assumption | omega) (by first | assumption | omega) (by first | assumption | omega) (by first | assumption | omega)) (cwV 2 hts (lw_V q1517 q1519 qs40 q62 q1520) rfl rfl rfl (by decide +kernel) ⟨Nat.le_of_ble_eq_true rfl, Nat.le_of_ble_eq_true rfl⟩) (va_recv hK hP (ci := 0) (q0 := 0) rfl rfl) hK hX hP hD hS hA [0, 1, 2, 3, 4, 5, 6] rfl (by decide) tYb_0 (fun _ _ _ => trivial) rfl hl.1 rfl (Nat.le_of_ble_eq_true rfl) dX3_isThin_37 ⟨(show 0 ≤ 0 from by omega), (show 0 ≤ 0 from by omega)⟩ ?_
        refine W.eq (g2 := F0 m0 40 ls [.int (zI (bes w g ik c 0))]) rfl ?_
        refine lv_istore_n (lv' := [(3, .int (zI (bes w g ik c 0))), (0, .ref o), (1, .int (iI (c : Int))), (2, .int (zI fb))]) kx kb dX3_isThin_40 rfl hl (by decide) rfl (fun ls hl => ?_)
        refine lv_aload_n kx kb dX3_isThin_41 rfl (lv_at hl 1 rfl) ?_
        refine lv_iload_n kx kb dX3_isThin_42 rfl (lv_at hl 2 rfl) ?_
        refine lv_iconst (v := iI 2) kx kb dX3_isThin_43 rfl ?_
        refine t_callRV C (met_X3_beside l D E o b1 b2 b3 b4 b5 b6 thr w g ik st kp go dp pt c 2 (by first | assumption | omega) (by first | assumption | omega) (by first | assumption | omega) (by first | assumption | omega)) (cwV 2 hts (lw_V q1517 q1519 qs40 q62 q1520) rfl rfl rfl (by decide +kernel) ⟨Nat.le_of_ble_eq_true rfl, Nat.le_of_ble_eq_true rfl⟩) (va_recv hK hP (ci := 0) (q0 := 0) rfl rfl) hK hX hP hD hS hA [0, 1, 2, 3, 4, 5, 6] rfl (by decide) tYb_0 (fun _ _ _ => trivial) rfl hl.1 rfl (Nat.le_of_ble_eq_true rfl) dX3_isThin_44 ⟨(show 0 ≤ 0 from by omega), (show 0 ≤ 0 from by omega)⟩ ?_
        refine W.eq (g2 := F0 m0 47 ls [.int (zI (bes w g ik c 2))]) rfl ?_
        refine lv_istore (lv' := [(4, .int (zI (bes w g ik c 2))), (3, .int (zI (bes w g ik c 0))), (0, .ref o), (1, .int (iI (c : Int))), (2, .int (zI fb))]) kx kb dX3_isThin_47 hl (by decide) rfl (fun ls hl => ?_)
        refine lv_aload_n kx kb dX3_isThin_49 rfl (lv_at hl 2 rfl) ?_
        refine lv_iload_n kx kb dX3_isThin_50 rfl (lv_at hl 3 rfl) ?_
        refine lv_iconst (v := iI 4) kx kb dX3_isThin_51 rfl ?_
        refine t_callRV C (met_X3_beside l D E o b1 b2 b3 b4 b5 b6 thr w g ik st kp go dp pt c 4 (by first | assumption | omega) (by first | assumption | omega) (by first | assumption | omega) (by first | assumption | omega)) (cwV 2 hts (lw_V q1517 q1519 qs40 q62 q1520) rfl rfl rfl (by decide +kernel) ⟨Nat.le_of_ble_eq_true rfl, Nat.le_of_ble_eq_true rfl⟩) (va_recv hK hP (ci := 0) (q0 := 0) rfl rfl) hK hX hP hD hS hA [0, 1, 2, 3, 4, 5, 6] rfl (by decide) tYb_0 (fun _ _ _ => trivial) rfl hl.1 rfl (Nat.le_of_ble_eq_true rfl) dX3_isThin_52 ⟨(show 0 ≤ 0 from by omega), (show 0 ≤ 0 from by omega)⟩ ?_
        refine W.eq (g2 := F0 m0 55 ls [.int (zI (bes w g ik c 4))]) rfl ?_
        refine lv_istore (lv' := [(5, .int (zI (bes w g ik c 4))), (4, .int (zI (bes w g ik c 2))), (3, .int (zI (bes w g ik c 0))), (0, .ref o), (1, .int (iI (c : Int))), (2, .int (zI fb))]) kx kb dX3_isThin_55 hl (by decide) rfl (fun ls hl => ?_)
        refine lv_aload_n kx kb dX3_isThin_57 rfl (lv_at hl 3 rfl) ?_
        refine lv_iload_n kx kb dX3_isThin_58 rfl (lv_at hl 4 rfl) ?_
        refine lv_bipush (v := iI 6) kx kb dX3_isThin_59 rfl ?_
        refine t_callRV C (met_X3_beside l D E o b1 b2 b3 b4 b5 b6 thr w g ik st kp go dp pt c 6 (by first | assumption | omega) (by first | assumption | omega) (by first | assumption | omega) (by first | assumption | omega)) (cwV 2 hts (lw_V q1517 q1519 qs40 q62 q1520) rfl rfl rfl (by decide +kernel) ⟨Nat.le_of_ble_eq_true rfl, Nat.le_of_ble_eq_true rfl⟩) (va_recv hK hP (ci := 0) (q0 := 0) rfl rfl) hK hX hP hD hS hA [0, 1, 2, 3, 4, 5, 6] rfl (by decide) tYb_0 (fun _ _ _ => trivial) rfl hl.1 rfl (Nat.le_of_ble_eq_true rfl) dX3_isThin_61 ⟨(show 0 ≤ 0 from by omega), (show 0 ≤ 0 from by omega)⟩ ?_
        refine W.eq (g2 := F0 m0 64 ls [.int (zI (bes w g ik c 6))]) rfl ?_
        refine lv_istore (lv' := [(6, .int (zI (bes w g ik c 6))), (5, .int (zI (bes w g ik c 4))), (4, .int (zI (bes w g ik c 2))), (3, .int (zI (bes w g ik c 0))), (0, .ref o), (1, .int (iI (c : Int))), (2, .int (zI fb))]) kx kb dX3_isThin_64 hl (by decide) rfl (fun ls hl => ?_)
        refine lv_iload_n kx kb dX3_isThin_66 rfl (lv_at hl 6 rfl) ?_
        refine tz_if_eq (tgt := 105) kx kb dX3_isThin_67 (by decide) (fun h67 => ?_) (fun h67 => ?_)
        · refine lv_iload_n kx kb dX3_isThin_105 rfl (lv_at hl 3 rfl) ?_
          refine tz_if_eq (tgt := 119) kx kb dX3_isThin_106 (by decide) (fun h106 => ?_) (fun h106 => ?_)
          · refine lv_iload_n kx kb dX3_isThin_119 rfl (lv_at hl 3 rfl) ?_
            refine tz_if_eq (tgt := 133) kx kb dX3_isThin_120 (by decide) (fun h120 => ?_) (fun h120 => ?_)
            · refine lv_iconst (v := iI 1) kx kb dX3_isThin_133 rfl ?_
              refine lv_goto (tgt := 138) kx kb dX3_isThin_134 (by decide) ?_
              refine W.eq (g2 := F0 m0 138 ls [.int (zI true)]) rfl ?_
              subst hQ
              exact tr_zret C rfl (by rw [show thn w g fb ik c = true from by first | (simp [thn, h6, h20, h29, h67, h106, h120]; done) | (simp [h6, h20, h29, h67, h106] at h120; done) | (simp [h6, h20, h29, h67, h120] at h106; done) | (simp [h6, h20, h29, h106, h120] at h67; done) | (simp [h6, h20, h67, h106, h120] at h29; done) | (simp [h6, h29, h67, h106, h120] at h20; done) | (simp [h20, h29, h67, h106, h120] at h6; done)]) dX3_isThin_138
            · refine lv_iload kx kb dX3_isThin_123 (lv_at hl 1 rfl) ?_
              refine tz_if_eq (tgt := 133) kx kb dX3_isThin_125 (by decide) (fun h125 => ?_) (fun h125 => ?_)
              · refine lv_iconst (v := iI 1) kx kb dX3_isThin_133 rfl ?_
                refine lv_goto (tgt := 138) kx kb dX3_isThin_134 (by decide) ?_
                refine W.eq (g2 := F0 m0 138 ls [.int (zI true)]) rfl ?_
                subst hQ
                exact tr_zret C rfl (by rw [show thn w g fb ik c = true from by first | (simp [thn, h6, h20, h29, h67, h106, h120, h125]; done) | (simp [h6, h20, h29, h67, h106, h120] at h125; done) | (simp [h6, h20, h29, h67, h106, h125] at h120; done) | (simp [h6, h20, h29, h67, h120, h125] at h106; done) | (simp [h6, h20, h29, h106, h120, h125] at h67; done) | (simp [h6, h20, h67, h106, h120, h125] at h29; done) | (simp [h6, h29, h67, h106, h120, h125] at h20; done) | (simp [h20, h29, h67, h106, h120, h125] at h6; done)]) dX3_isThin_138
              · refine lv_iload kx kb dX3_isThin_128 (lv_at hl 0 rfl) ?_
                refine tz_if_ne (tgt := 137) kx kb dX3_isThin_130 (by decide) (fun h130 => ?_) (fun h130 => ?_)
                · refine lv_iconst (v := iI 0) kx kb dX3_isThin_137 rfl ?_
                  refine W.eq (g2 := F0 m0 138 ls [.int (zI false)]) rfl ?_
                  subst hQ
                  exact tr_zret C rfl (by rw [show thn w g fb ik c = false from by first | (simp [thn, h6, h20, h29, h67, h106, h120, h125, h130]; done) | (simp [h6, h20, h29, h67, h106, h120, h125] at h130; done) | (simp [h6, h20, h29, h67, h106, h120, h130] at h125; done) | (simp [h6, h20, h29, h67, h106, h125, h130] at h120; done) | (simp [h6, h20, h29, h67, h120, h125, h130] at h106; done) | (simp [h6, h20, h29, h106, h120, h125, h130] at h67; done) | (simp [h6, h20, h67, h106, h120, h125, h130] at h29; done) | (simp [h6, h29, h67, h106, h120, h125, h130] at h20; done) | (simp [h20, h29, h67, h106, h120, h125, h130] at h6; done)]) dX3_isThin_138
                · refine lv_iconst (v := iI 1) kx kb dX3_isThin_133 rfl ?_
                  refine lv_goto (tgt := 138) kx kb dX3_isThin_134 (by decide) ?_
                  refine W.eq (g2 := F0 m0 138 ls [.int (zI true)]) rfl ?_
                  subst hQ
                  exact tr_zret C rfl (by rw [show thn w g fb ik c = true from by first | (simp [thn, h6, h20, h29, h67, h106, h120, h125, h130]; done) | (simp [h6, h20, h29, h67, h106, h120, h125] at h130; done) | (simp [h6, h20, h29, h67, h106, h120, h130] at h125; done) | (simp [h6, h20, h29, h67, h106, h125, h130] at h120; done) | (simp [h6, h20, h29, h67, h120, h125, h130] at h106; done) | (simp [h6, h20, h29, h106, h120, h125, h130] at h67; done) | (simp [h6, h20, h67, h106, h120, h125, h130] at h29; done) | (simp [h6, h29, h67, h106, h120, h125, h130] at h20; done) | (simp [h20, h29, h67, h106, h120, h125, h130] at h6; done)]) dX3_isThin_138
          · refine lv_iload kx kb dX3_isThin_109 (lv_at hl 2 rfl) ?_
            refine tz_if_eq (tgt := 119) kx kb dX3_isThin_111 (by decide) (fun h111 => ?_) (fun h111 => ?_)
            · refine lv_iload_n kx kb dX3_isThin_119 rfl (lv_at hl 3 rfl) ?_
              refine tz_if_eq (tgt := 133) kx kb dX3_isThin_120 (by decide) (fun h120 => ?_) (fun h120 => ?_)
              · refine lv_iconst (v := iI 1) kx kb dX3_isThin_133 rfl ?_
                refine lv_goto (tgt := 138) kx kb dX3_isThin_134 (by decide) ?_
                refine W.eq (g2 := F0 m0 138 ls [.int (zI true)]) rfl ?_
                subst hQ
                exact tr_zret C rfl (by rw [show thn w g fb ik c = true from by first | (simp [thn, h6, h20, h29, h67, h106, h111, h120]; done) | (simp [h6, h20, h29, h67, h106, h111] at h120; done) | (simp [h6, h20, h29, h67, h106, h120] at h111; done) | (simp [h6, h20, h29, h67, h111, h120] at h106; done) | (simp [h6, h20, h29, h106, h111, h120] at h67; done) | (simp [h6, h20, h67, h106, h111, h120] at h29; done) | (simp [h6, h29, h67, h106, h111, h120] at h20; done) | (simp [h20, h29, h67, h106, h111, h120] at h6; done)]) dX3_isThin_138
              · refine lv_iload kx kb dX3_isThin_123 (lv_at hl 1 rfl) ?_
                refine tz_if_eq (tgt := 133) kx kb dX3_isThin_125 (by decide) (fun h125 => ?_) (fun h125 => ?_)
                · refine lv_iconst (v := iI 1) kx kb dX3_isThin_133 rfl ?_
                  refine lv_goto (tgt := 138) kx kb dX3_isThin_134 (by decide) ?_
                  refine W.eq (g2 := F0 m0 138 ls [.int (zI true)]) rfl ?_
                  subst hQ
                  exact tr_zret C rfl (by rw [show thn w g fb ik c = true from by first | (simp [thn, h6, h20, h29, h67, h106, h111, h120, h125]; done) | (simp [h6, h20, h29, h67, h106, h111, h120] at h125; done) | (simp [h6, h20, h29, h67, h106, h111, h125] at h120; done) | (simp [h6, h20, h29, h67, h106, h120, h125] at h111; done) | (simp [h6, h20, h29, h67, h111, h120, h125] at h106; done) | (simp [h6, h20, h29, h106, h111, h120, h125] at h67; done) | (simp [h6, h20, h67, h106, h111, h120, h125] at h29; done) | (simp [h6, h29, h67, h106, h111, h120, h125] at h20; done) | (simp [h20, h29, h67, h106, h111, h120, h125] at h6; done)]) dX3_isThin_138
                · refine lv_iload kx kb dX3_isThin_128 (lv_at hl 0 rfl) ?_
                  refine tz_if_ne (tgt := 137) kx kb dX3_isThin_130 (by decide) (fun h130 => ?_) (fun h130 => ?_)
                  · refine lv_iconst (v := iI 0) kx kb dX3_isThin_137 rfl ?_
                    refine W.eq (g2 := F0 m0 138 ls [.int (zI false)]) rfl ?_
                    subst hQ
                    exact tr_zret C rfl (by rw [show thn w g fb ik c = false from by first | (simp [thn, h6, h20, h29, h67, h106, h111, h120, h125, h130]; done) | (simp [h6, h20, h29, h67, h106, h111, h120, h125] at h130; done) | (simp [h6, h20, h29, h67, h106, h111, h120, h130] at h125; done) | (simp [h6, h20, h29, h67, h106, h111, h125, h130] at h120; done) | (simp [h6, h20, h29, h67, h106, h120, h125, h130] at h111; done) | (simp [h6, h20, h29, h67, h111, h120, h125, h130] at h106; done) | (simp [h6, h20, h29, h106, h111, h120, h125, h130] at h67; done) | (simp [h6, h20, h67, h106, h111, h120, h125, h130] at h29; done) | (simp [h6, h29, h67, h106, h111, h120, h125, h130] at h20; done) | (simp [h20, h29, h67, h106, h111, h120, h125, h130] at h6; done)]) dX3_isThin_138
                  · refine lv_iconst (v := iI 1) kx kb dX3_isThin_133 rfl ?_
                    refine lv_goto (tgt := 138) kx kb dX3_isThin_134 (by decide) ?_
                    refine W.eq (g2 := F0 m0 138 ls [.int (zI true)]) rfl ?_
                    subst hQ
                    exact tr_zret C rfl (by rw [show thn w g fb ik c = true from by first | (simp [thn, h6, h20, h29, h67, h106, h111, h120, h125, h130]; done) | (simp [h6, h20, h29, h67, h106, h111, h120, h125] at h130; done) | (simp [h6, h20, h29, h67, h106, h111, h120, h130] at h125; done) | (simp [h6, h20, h29, h67, h106, h111, h125, h130] at h120; done) | (simp [h6, h20, h29, h67, h106, h120, h125, h130] at h111; done) | (simp [h6, h20, h29, h67, h111, h120, h125, h130] at h106; done) | (simp [h6, h20, h29, h106, h111, h120, h125, h130] at h67; done) | (simp [h6, h20, h67, h106, h111, h120, h125, h130] at h29; done) | (simp [h6, h29, h67, h106, h111, h120, h125, h130] at h20; done) | (simp [h20, h29, h67, h106, h111, h120, h125, h130] at h6; done)]) dX3_isThin_138
            · refine lv_iload kx kb dX3_isThin_114 (lv_at hl 0 rfl) ?_
              refine tz_if_ne (tgt := 137) kx kb dX3_isThin_116 (by decide) (fun h116 => ?_) (fun h116 => ?_)
              · refine lv_iconst (v := iI 0) kx kb dX3_isThin_137 rfl ?_
                refine W.eq (g2 := F0 m0 138 ls [.int (zI false)]) rfl ?_
                subst hQ
                exact tr_zret C rfl (by rw [show thn w g fb ik c = false from by first | (simp [thn, h6, h20, h29, h67, h106, h111, h116]; done) | (simp [h6, h20, h29, h67, h106, h111] at h116; done) | (simp [h6, h20, h29, h67, h106, h116] at h111; done) | (simp [h6, h20, h29, h67, h111, h116] at h106; done) | (simp [h6, h20, h29, h106, h111, h116] at h67; done) | (simp [h6, h20, h67, h106, h111, h116] at h29; done) | (simp [h6, h29, h67, h106, h111, h116] at h20; done) | (simp [h20, h29, h67, h106, h111, h116] at h6; done)]) dX3_isThin_138
              · refine lv_iload_n kx kb dX3_isThin_119 rfl (lv_at hl 3 rfl) ?_
                refine tz_if_eq (tgt := 133) kx kb dX3_isThin_120 (by decide) (fun h120 => ?_) (fun h120 => ?_)
                · refine lv_iconst (v := iI 1) kx kb dX3_isThin_133 rfl ?_
                  refine lv_goto (tgt := 138) kx kb dX3_isThin_134 (by decide) ?_
                  refine W.eq (g2 := F0 m0 138 ls [.int (zI true)]) rfl ?_
                  subst hQ
                  exact tr_zret C rfl (by rw [show thn w g fb ik c = true from by first | (simp [thn, h6, h20, h29, h67, h106, h111, h116, h120]; done) | (simp [h6, h20, h29, h67, h106, h111, h116] at h120; done) | (simp [h6, h20, h29, h67, h106, h111, h120] at h116; done) | (simp [h6, h20, h29, h67, h106, h116, h120] at h111; done) | (simp [h6, h20, h29, h67, h111, h116, h120] at h106; done) | (simp [h6, h20, h29, h106, h111, h116, h120] at h67; done) | (simp [h6, h20, h67, h106, h111, h116, h120] at h29; done) | (simp [h6, h29, h67, h106, h111, h116, h120] at h20; done) | (simp [h20, h29, h67, h106, h111, h116, h120] at h6; done)]) dX3_isThin_138
                · refine lv_iload kx kb dX3_isThin_123 (lv_at hl 1 rfl) ?_
                  refine tz_if_eq (tgt := 133) kx kb dX3_isThin_125 (by decide) (fun h125 => ?_) (fun h125 => ?_)
                  · refine lv_iconst (v := iI 1) kx kb dX3_isThin_133 rfl ?_
                    refine lv_goto (tgt := 138) kx kb dX3_isThin_134 (by decide) ?_
                    refine W.eq (g2 := F0 m0 138 ls [.int (zI true)]) rfl ?_
                    subst hQ
                    exact tr_zret C rfl (by rw [show thn w g fb ik c = true from by first | (simp [thn, h6, h20, h29, h67, h106, h111, h116, h120, h125]; done) | (simp [h6, h20, h29, h67, h106, h111, h116, h120] at h125; done) | (simp [h6, h20, h29, h67, h106, h111, h116, h125] at h120; done) | (simp [h6, h20, h29, h67, h106, h111, h120, h125] at h116; done) | (simp [h6, h20, h29, h67, h106, h116, h120, h125] at h111; done) | (simp [h6, h20, h29, h67, h111, h116, h120, h125] at h106; done) | (simp [h6, h20, h29, h106, h111, h116, h120, h125] at h67; done) | (simp [h6, h20, h67, h106, h111, h116, h120, h125] at h29; done) | (simp [h6, h29, h67, h106, h111, h116, h120, h125] at h20; done) | (simp [h20, h29, h67, h106, h111, h116, h120, h125] at h6; done)]) dX3_isThin_138
                  · refine lv_iload kx kb dX3_isThin_128 (lv_at hl 0 rfl) ?_
                    refine tz_if_ne (tgt := 137) kx kb dX3_isThin_130 (by decide) (fun h130 => ?_) (fun h130 => ?_)
                    · refine lv_iconst (v := iI 0) kx kb dX3_isThin_137 rfl ?_
                      refine W.eq (g2 := F0 m0 138 ls [.int (zI false)]) rfl ?_
                      subst hQ
                      exact tr_zret C rfl (by rw [show thn w g fb ik c = false from by first | (simp [thn, h6, h20, h29, h67, h106, h111, h116, h120, h125, h130]; done) | (simp [h6, h20, h29, h67, h106, h111, h116, h120, h125] at h130; done) | (simp [h6, h20, h29, h67, h106, h111, h116, h120, h130] at h125; done) | (simp [h6, h20, h29, h67, h106, h111, h116, h125, h130] at h120; done) | (simp [h6, h20, h29, h67, h106, h111, h120, h125, h130] at h116; done) | (simp [h6, h20, h29, h67, h106, h116, h120, h125, h130] at h111; done) | (simp [h6, h20, h29, h67, h111, h116, h120, h125, h130] at h106; done) | (simp [h6, h20, h29, h106, h111, h116, h120, h125, h130] at h67; done) | (simp [h6, h20, h67, h106, h111, h116, h120, h125, h130] at h29; done) | (simp [h6, h29, h67, h106, h111, h116, h120, h125, h130] at h20; done) | (simp [h20, h29, h67, h106, h111, h116, h120, h125, h130] at h6; done)]) dX3_isThin_138
                    · refine lv_iconst (v := iI 1) kx kb dX3_isThin_133 rfl ?_
                      refine lv_goto (tgt := 138) kx kb dX3_isThin_134 (by decide) ?_
                      refine W.eq (g2 := F0 m0 138 ls [.int (zI true)]) rfl ?_
                      subst hQ
                      exact tr_zret C rfl (by rw [show thn w g fb ik c = true from by first | (simp [thn, h6, h20, h29, h67, h106, h111, h116, h120, h125, h130]; done) | (simp [h6, h20, h29, h67, h106, h111, h116, h120, h125] at h130; done) | (simp [h6, h20, h29, h67, h106, h111, h116, h120, h130] at h125; done) | (simp [h6, h20, h29, h67, h106, h111, h116, h125, h130] at h120; done) | (simp [h6, h20, h29, h67, h106, h111, h120, h125, h130] at h116; done) | (simp [h6, h20, h29, h67, h106, h116, h120, h125, h130] at h111; done) | (simp [h6, h20, h29, h67, h111, h116, h120, h125, h130] at h106; done) | (simp [h6, h20, h29, h106, h111, h116, h120, h125, h130] at h67; done) | (simp [h6, h20, h67, h106, h111, h116, h120, h125, h130] at h29; done) | (simp [h6, h29, h67, h106, h111, h116, h120, h125, h130] at h20; done) | (simp [h20, h29, h67, h106, h111, h116, h120, h125, h130] at h6; done)]) dX3_isThin_138
        · refine lv_iload_n kx kb dX3_isThin_70 rfl (lv_at hl 3 rfl) ?_
          refine tz_if_eq (tgt := 84) kx kb dX3_isThin_71 (by decide) (fun h71 => ?_) (fun h71 => ?_)
          · refine lv_iload kx kb dX3_isThin_84 (lv_at hl 2 rfl) ?_
            refine tz_if_eq (tgt := 99) kx kb dX3_isThin_86 (by decide) (fun h86 => ?_) (fun h86 => ?_)
            · refine lv_iconst (v := iI 1) kx kb dX3_isThin_99 rfl ?_
              refine lv_goto (tgt := 104) kx kb dX3_isThin_100 (by decide) ?_
              refine W.eq (g2 := F0 m0 104 ls [.int (zI true)]) rfl ?_
              subst hQ
              exact tr_zret C rfl (by rw [show thn w g fb ik c = true from by first | (simp [thn, h6, h20, h29, h67, h71, h86]; done) | (simp [h6, h20, h29, h67, h71] at h86; done) | (simp [h6, h20, h29, h67, h86] at h71; done) | (simp [h6, h20, h29, h71, h86] at h67; done) | (simp [h6, h20, h67, h71, h86] at h29; done) | (simp [h6, h29, h67, h71, h86] at h20; done) | (simp [h20, h29, h67, h71, h86] at h6; done)]) dX3_isThin_104
            · refine lv_iload kx kb dX3_isThin_89 (lv_at hl 1 rfl) ?_
              refine tz_if_eq (tgt := 99) kx kb dX3_isThin_91 (by decide) (fun h91 => ?_) (fun h91 => ?_)
              · refine lv_iconst (v := iI 1) kx kb dX3_isThin_99 rfl ?_
                refine lv_goto (tgt := 104) kx kb dX3_isThin_100 (by decide) ?_
                refine W.eq (g2 := F0 m0 104 ls [.int (zI true)]) rfl ?_
                subst hQ
                exact tr_zret C rfl (by rw [show thn w g fb ik c = true from by first | (simp [thn, h6, h20, h29, h67, h71, h86, h91]; done) | (simp [h6, h20, h29, h67, h71, h86] at h91; done) | (simp [h6, h20, h29, h67, h71, h91] at h86; done) | (simp [h6, h20, h29, h67, h86, h91] at h71; done) | (simp [h6, h20, h29, h71, h86, h91] at h67; done) | (simp [h6, h20, h67, h71, h86, h91] at h29; done) | (simp [h6, h29, h67, h71, h86, h91] at h20; done) | (simp [h20, h29, h67, h71, h86, h91] at h6; done)]) dX3_isThin_104
              · refine lv_iload kx kb dX3_isThin_94 (lv_at hl 0 rfl) ?_
                refine tz_if_ne (tgt := 103) kx kb dX3_isThin_96 (by decide) (fun h96 => ?_) (fun h96 => ?_)
                · refine lv_iconst (v := iI 0) kx kb dX3_isThin_103 rfl ?_
                  refine W.eq (g2 := F0 m0 104 ls [.int (zI false)]) rfl ?_
                  subst hQ
                  exact tr_zret C rfl (by rw [show thn w g fb ik c = false from by first | (simp [thn, h6, h20, h29, h67, h71, h86, h91, h96]; done) | (simp [h6, h20, h29, h67, h71, h86, h91] at h96; done) | (simp [h6, h20, h29, h67, h71, h86, h96] at h91; done) | (simp [h6, h20, h29, h67, h71, h91, h96] at h86; done) | (simp [h6, h20, h29, h67, h86, h91, h96] at h71; done) | (simp [h6, h20, h29, h71, h86, h91, h96] at h67; done) | (simp [h6, h20, h67, h71, h86, h91, h96] at h29; done) | (simp [h6, h29, h67, h71, h86, h91, h96] at h20; done) | (simp [h20, h29, h67, h71, h86, h91, h96] at h6; done)]) dX3_isThin_104
                · refine lv_iconst (v := iI 1) kx kb dX3_isThin_99 rfl ?_
                  refine lv_goto (tgt := 104) kx kb dX3_isThin_100 (by decide) ?_
                  refine W.eq (g2 := F0 m0 104 ls [.int (zI true)]) rfl ?_
                  subst hQ
                  exact tr_zret C rfl (by rw [show thn w g fb ik c = true from by first | (simp [thn, h6, h20, h29, h67, h71, h86, h91, h96]; done) | (simp [h6, h20, h29, h67, h71, h86, h91] at h96; done) | (simp [h6, h20, h29, h67, h71, h86, h96] at h91; done) | (simp [h6, h20, h29, h67, h71, h91, h96] at h86; done) | (simp [h6, h20, h29, h67, h86, h91, h96] at h71; done) | (simp [h6, h20, h29, h71, h86, h91, h96] at h67; done) | (simp [h6, h20, h67, h71, h86, h91, h96] at h29; done) | (simp [h6, h29, h67, h71, h86, h91, h96] at h20; done) | (simp [h20, h29, h67, h71, h86, h91, h96] at h6; done)]) dX3_isThin_104
          · refine lv_iload kx kb dX3_isThin_74 (lv_at hl 2 rfl) ?_
            refine tz_if_eq (tgt := 84) kx kb dX3_isThin_76 (by decide) (fun h76 => ?_) (fun h76 => ?_)
            · refine lv_iload kx kb dX3_isThin_84 (lv_at hl 2 rfl) ?_
              refine tz_if_eq (tgt := 99) kx kb dX3_isThin_86 (by decide) (fun h86 => ?_) (fun h86 => ?_)
              · refine lv_iconst (v := iI 1) kx kb dX3_isThin_99 rfl ?_
                refine lv_goto (tgt := 104) kx kb dX3_isThin_100 (by decide) ?_
                refine W.eq (g2 := F0 m0 104 ls [.int (zI true)]) rfl ?_
                subst hQ
                exact tr_zret C rfl (by rw [show thn w g fb ik c = true from by first | (simp [thn, h6, h20, h29, h67, h71, h76, h86]; done) | (simp [h6, h20, h29, h67, h71, h76] at h86; done) | (simp [h6, h20, h29, h67, h71, h86] at h76; done) | (simp [h6, h20, h29, h67, h76, h86] at h71; done) | (simp [h6, h20, h29, h71, h76, h86] at h67; done) | (simp [h6, h20, h67, h71, h76, h86] at h29; done) | (simp [h6, h29, h67, h71, h76, h86] at h20; done) | (simp [h20, h29, h67, h71, h76, h86] at h6; done)]) dX3_isThin_104
              · refine lv_iload kx kb dX3_isThin_89 (lv_at hl 1 rfl) ?_
                refine tz_if_eq (tgt := 99) kx kb dX3_isThin_91 (by decide) (fun h91 => ?_) (fun h91 => ?_)
                · refine lv_iconst (v := iI 1) kx kb dX3_isThin_99 rfl ?_
                  refine lv_goto (tgt := 104) kx kb dX3_isThin_100 (by decide) ?_
                  refine W.eq (g2 := F0 m0 104 ls [.int (zI true)]) rfl ?_
                  subst hQ
                  exact tr_zret C rfl (by rw [show thn w g fb ik c = true from by first | (simp [thn, h6, h20, h29, h67, h71, h76, h86, h91]; done) | (simp [h6, h20, h29, h67, h71, h76, h86] at h91; done) | (simp [h6, h20, h29, h67, h71, h76, h91] at h86; done) | (simp [h6, h20, h29, h67, h71, h86, h91] at h76; done) | (simp [h6, h20, h29, h67, h76, h86, h91] at h71; done) | (simp [h6, h20, h29, h71, h76, h86, h91] at h67; done) | (simp [h6, h20, h67, h71, h76, h86, h91] at h29; done) | (simp [h6, h29, h67, h71, h76, h86, h91] at h20; done) | (simp [h20, h29, h67, h71, h76, h86, h91] at h6; done)]) dX3_isThin_104
                · refine lv_iload kx kb dX3_isThin_94 (lv_at hl 0 rfl) ?_
                  refine tz_if_ne (tgt := 103) kx kb dX3_isThin_96 (by decide) (fun h96 => ?_) (fun h96 => ?_)
                  · refine lv_iconst (v := iI 0) kx kb dX3_isThin_103 rfl ?_
                    refine W.eq (g2 := F0 m0 104 ls [.int (zI false)]) rfl ?_
                    subst hQ
                    exact tr_zret C rfl (by rw [show thn w g fb ik c = false from by first | (simp [thn, h6, h20, h29, h67, h71, h76, h86, h91, h96]; done) | (simp [h6, h20, h29, h67, h71, h76, h86, h91] at h96; done) | (simp [h6, h20, h29, h67, h71, h76, h86, h96] at h91; done) | (simp [h6, h20, h29, h67, h71, h76, h91, h96] at h86; done) | (simp [h6, h20, h29, h67, h71, h86, h91, h96] at h76; done) | (simp [h6, h20, h29, h67, h76, h86, h91, h96] at h71; done) | (simp [h6, h20, h29, h71, h76, h86, h91, h96] at h67; done) | (simp [h6, h20, h67, h71, h76, h86, h91, h96] at h29; done) | (simp [h6, h29, h67, h71, h76, h86, h91, h96] at h20; done) | (simp [h20, h29, h67, h71, h76, h86, h91, h96] at h6; done)]) dX3_isThin_104
                  · refine lv_iconst (v := iI 1) kx kb dX3_isThin_99 rfl ?_
                    refine lv_goto (tgt := 104) kx kb dX3_isThin_100 (by decide) ?_
                    refine W.eq (g2 := F0 m0 104 ls [.int (zI true)]) rfl ?_
                    subst hQ
                    exact tr_zret C rfl (by rw [show thn w g fb ik c = true from by first | (simp [thn, h6, h20, h29, h67, h71, h76, h86, h91, h96]; done) | (simp [h6, h20, h29, h67, h71, h76, h86, h91] at h96; done) | (simp [h6, h20, h29, h67, h71, h76, h86, h96] at h91; done) | (simp [h6, h20, h29, h67, h71, h76, h91, h96] at h86; done) | (simp [h6, h20, h29, h67, h71, h86, h91, h96] at h76; done) | (simp [h6, h20, h29, h67, h76, h86, h91, h96] at h71; done) | (simp [h6, h20, h29, h71, h76, h86, h91, h96] at h67; done) | (simp [h6, h20, h67, h71, h76, h86, h91, h96] at h29; done) | (simp [h6, h29, h67, h71, h76, h86, h91, h96] at h20; done) | (simp [h20, h29, h67, h71, h76, h86, h91, h96] at h6; done)]) dX3_isThin_104
            · refine lv_iload kx kb dX3_isThin_79 (lv_at hl 1 rfl) ?_
              refine tz_if_ne (tgt := 103) kx kb dX3_isThin_81 (by decide) (fun h81 => ?_) (fun h81 => ?_)
              · refine lv_iconst (v := iI 0) kx kb dX3_isThin_103 rfl ?_
                refine W.eq (g2 := F0 m0 104 ls [.int (zI false)]) rfl ?_
                subst hQ
                exact tr_zret C rfl (by rw [show thn w g fb ik c = false from by first | (simp [thn, h6, h20, h29, h67, h71, h76, h81]; done) | (simp [h6, h20, h29, h67, h71, h76] at h81; done) | (simp [h6, h20, h29, h67, h71, h81] at h76; done) | (simp [h6, h20, h29, h67, h76, h81] at h71; done) | (simp [h6, h20, h29, h71, h76, h81] at h67; done) | (simp [h6, h20, h67, h71, h76, h81] at h29; done) | (simp [h6, h29, h67, h71, h76, h81] at h20; done) | (simp [h20, h29, h67, h71, h76, h81] at h6; done)]) dX3_isThin_104
              · refine lv_iload kx kb dX3_isThin_84 (lv_at hl 2 rfl) ?_
                refine tz_if_eq (tgt := 99) kx kb dX3_isThin_86 (by decide) (fun h86 => ?_) (fun h86 => ?_)
                · refine lv_iconst (v := iI 1) kx kb dX3_isThin_99 rfl ?_
                  refine lv_goto (tgt := 104) kx kb dX3_isThin_100 (by decide) ?_
                  refine W.eq (g2 := F0 m0 104 ls [.int (zI true)]) rfl ?_
                  subst hQ
                  exact tr_zret C rfl (by rw [show thn w g fb ik c = true from by first | (simp [thn, h6, h20, h29, h67, h71, h76, h81, h86]; done) | (simp [h6, h20, h29, h67, h71, h76, h81] at h86; done) | (simp [h6, h20, h29, h67, h71, h76, h86] at h81; done) | (simp [h6, h20, h29, h67, h71, h81, h86] at h76; done) | (simp [h6, h20, h29, h67, h76, h81, h86] at h71; done) | (simp [h6, h20, h29, h71, h76, h81, h86] at h67; done) | (simp [h6, h20, h67, h71, h76, h81, h86] at h29; done) | (simp [h6, h29, h67, h71, h76, h81, h86] at h20; done) | (simp [h20, h29, h67, h71, h76, h81, h86] at h6; done)]) dX3_isThin_104
                · refine lv_iload kx kb dX3_isThin_89 (lv_at hl 1 rfl) ?_
                  refine tz_if_eq (tgt := 99) kx kb dX3_isThin_91 (by decide) (fun h91 => ?_) (fun h91 => ?_)
                  · refine lv_iconst (v := iI 1) kx kb dX3_isThin_99 rfl ?_
                    refine lv_goto (tgt := 104) kx kb dX3_isThin_100 (by decide) ?_
                    refine W.eq (g2 := F0 m0 104 ls [.int (zI true)]) rfl ?_
                    subst hQ
                    exact tr_zret C rfl (by rw [show thn w g fb ik c = true from by first | (simp [thn, h6, h20, h29, h67, h71, h76, h81, h86, h91]; done) | (simp [h6, h20, h29, h67, h71, h76, h81, h86] at h91; done) | (simp [h6, h20, h29, h67, h71, h76, h81, h91] at h86; done) | (simp [h6, h20, h29, h67, h71, h76, h86, h91] at h81; done) | (simp [h6, h20, h29, h67, h71, h81, h86, h91] at h76; done) | (simp [h6, h20, h29, h67, h76, h81, h86, h91] at h71; done) | (simp [h6, h20, h29, h71, h76, h81, h86, h91] at h67; done) | (simp [h6, h20, h67, h71, h76, h81, h86, h91] at h29; done) | (simp [h6, h29, h67, h71, h76, h81, h86, h91] at h20; done) | (simp [h20, h29, h67, h71, h76, h81, h86, h91] at h6; done)]) dX3_isThin_104
                  · refine lv_iload kx kb dX3_isThin_94 (lv_at hl 0 rfl) ?_
                    refine tz_if_ne (tgt := 103) kx kb dX3_isThin_96 (by decide) (fun h96 => ?_) (fun h96 => ?_)
                    · refine lv_iconst (v := iI 0) kx kb dX3_isThin_103 rfl ?_
                      refine W.eq (g2 := F0 m0 104 ls [.int (zI false)]) rfl ?_
                      subst hQ
                      exact tr_zret C rfl (by rw [show thn w g fb ik c = false from by first | (simp [thn, h6, h20, h29, h67, h71, h76, h81, h86, h91, h96]; done) | (simp [h6, h20, h29, h67, h71, h76, h81, h86, h91] at h96; done) | (simp [h6, h20, h29, h67, h71, h76, h81, h86, h96] at h91; done) | (simp [h6, h20, h29, h67, h71, h76, h81, h91, h96] at h86; done) | (simp [h6, h20, h29, h67, h71, h76, h86, h91, h96] at h81; done) | (simp [h6, h20, h29, h67, h71, h81, h86, h91, h96] at h76; done) | (simp [h6, h20, h29, h67, h76, h81, h86, h91, h96] at h71; done) | (simp [h6, h20, h29, h71, h76, h81, h86, h91, h96] at h67; done) | (simp [h6, h20, h67, h71, h76, h81, h86, h91, h96] at h29; done) | (simp [h6, h29, h67, h71, h76, h81, h86, h91, h96] at h20; done) | (simp [h20, h29, h67, h71, h76, h81, h86, h91, h96] at h6; done)]) dX3_isThin_104
                    · refine lv_iconst (v := iI 1) kx kb dX3_isThin_99 rfl ?_
                      refine lv_goto (tgt := 104) kx kb dX3_isThin_100 (by decide) ?_
                      refine W.eq (g2 := F0 m0 104 ls [.int (zI true)]) rfl ?_
                      subst hQ
                      exact tr_zret C rfl (by rw [show thn w g fb ik c = true from by first | (simp [thn, h6, h20, h29, h67, h71, h76, h81, h86, h91, h96]; done) | (simp [h6, h20, h29, h67, h71, h76, h81, h86, h91] at h96; done) | (simp [h6, h20, h29, h67, h71, h76, h81, h86, h96] at h91; done) | (simp [h6, h20, h29, h67, h71, h76, h81, h91, h96] at h86; done) | (simp [h6, h20, h29, h67, h71, h76, h86, h91, h96] at h81; done) | (simp [h6, h20, h29, h67, h71, h81, h86, h91, h96] at h76; done) | (simp [h6, h20, h29, h67, h76, h81, h86, h91, h96] at h71; done) | (simp [h6, h20, h29, h71, h76, h81, h86, h91, h96] at h67; done) | (simp [h6, h20, h67, h71, h76, h81, h86, h91, h96] at h29; done) | (simp [h6, h29, h67, h71, h76, h81, h86, h91, h96] at h20; done) | (simp [h20, h29, h67, h71, h76, h81, h86, h91, h96] at h6; done)]) dX3_isThin_104
      · refine lv_iconst (v := iI 0) kx kb dX3_isThin_32 rfl ?_
        refine W.eq (g2 := F0 m0 33 ls [.int (zI false)]) rfl ?_
        subst hQ
        exact tr_zret C rfl (by rw [show thn w g fb ik c = false from by first | (simp [thn, h6, h20, h29]; done) | (simp [h6, h20] at h29; done) | (simp [h6, h29] at h20; done) | (simp [h20, h29] at h6; done)]) dX3_isThin_33
set_option maxHeartbeats 4000000 in
set_option maxRecDepth 100000 in
theorem met_X3_half (l : Launch) (D : TG) (E : TE) (o : Nat) (b1 : Nat) (b2 : Nat) (b3 : Nat) (b4 : Nat) (b5 : Nat) (b6 : Nat) (thr : Int) (w : Nat) (g : Nat) (ik : Nat → Bool) (st : Nat → Bool) (kp : Nat → Bool) (go : Nat → Bool) (dp : Nat → Int) (pt : Nat → Int) (fb : Bool) (hw : 1 ≤ w ∧ w ≤ 32) (hg : 1 ≤ g ∧ g ≤ 32) : tMet l yX3_half cX3_half 4 (some .int) 6 137 (0) (0) [.ref o, .int (zI fb)] D E [(o, .inr (0, [.int (iI thr), .ref b1, .ref b2, .ref b3, .ref b4, .ref b5, .ref b6, .int (iI (w : Int)), .int (iI (g : Int))])), (b1, .inl (D.2 0, 1024, .inl (fun x_ => zI (ik x_)))), (b2, .inl (D.2 0, 1024, .inl (fun x_ => zI (st x_)))), (b3, .inl (D.2 0, 1024, .inl (fun x_ => zI (kp x_)))), (b4, .inl (D.2 0, 1024, .inl (fun x_ => zI (go x_)))), (b5, .inl (D.2 1, 1024, .inl (fun x_ => iI (dp x_)))), (b6, .inl (D.2 1, 1024, .inl (fun x_ => iI (pt x_))))] tY0 (S := (Nat → Bool) × (Nat → Bool)) (fun u_ => u_.1 = hlf w g fb ik) (fun u_ => some (.int (iI ((fb_ct (thn w g fb ik) (w * g) : Nat) : Int)))) (fun u_ => [(o, .inr (0, [.int (iI thr), .ref b1, .ref b2, .ref b3, .ref b4, .ref b5, .ref b6, .int (iI (w : Int)), .int (iI (g : Int))])), (b1, .inl (D.2 0, 1024, .inl (fun x_ => zI (u_.1 x_)))), (b2, .inl (D.2 0, 1024, .inl (fun x_ => zI (st x_)))), (b3, .inl (D.2 0, 1024, .inl (fun x_ => zI (kp x_)))), (b4, .inl (D.2 0, 1024, .inl (fun x_ => zI (u_.2 x_)))), (b5, .inl (D.2 1, 1024, .inl (fun x_ => iI (dp x_)))), (b6, .inl (D.2 1, 1024, .inl (fun x_ => iI (pt x_))))]) := by
  refine tu_met (by decide +kernel) (Nat.le_of_ble_eq_true rfl) ?_
  intro p0 e0 s0 m0 below meth c0 A ls args Q hag hQ C hK hX hY hP hD hA hAe hl
  obtain ⟨kx, kb, hml, hown, hts, -⟩ := id C
  have hS : va_S A s0.heap s0.heap [] := va_S.rf
  have hl : lv_has ls 4 [(0, .ref o), (1, .int (zI fb))] := hl
  have hwg := wg_le hw hg
  refine lv_iconst (v := iI 0) kx kb dX3_half_0 rfl ?_
  refine lv_istore_n (lv' := [(2, .int (iI 0)), (0, .ref o), (1, .int (zI fb))]) kx kb dX3_half_1 rfl hl (by decide) rfl (fun ls hl => ?_)
  refine lv_iconst (v := iI 0) kx kb dX3_half_2 rfl ?_
  refine lv_istore_n (lv' := [(3, .int (iI 0)), (2, .int (iI 0)), (0, .ref o), (1, .int (zI fb))]) kx kb dX3_half_3 rfl hl (by decide) rfl (fun ls hl => ?_)
  have cut4 : ∀ (fuel : Nat) (i : Nat) (gg : Nat → Bool), (i ≤ w * g) → (gg = flw (thn w g fb ik) go i) → (w * g - i) < fuel → ∀ (H : Heap) (locs : List Loc), va_P D.1 clAll [(o, .inr (0, [.int (iI thr), .ref b1, .ref b2, .ref b3, .ref b4, .ref b5, .ref b6, .int (iI (w : Int)), .int (iI (g : Int))])), (b1, .inl (D.2 0, 1024, .inl (fun x_ => zI (ik x_)))), (b2, .inl (D.2 0, 1024, .inl (fun x_ => zI (st x_)))), (b3, .inl (D.2 0, 1024, .inl (fun x_ => zI (kp x_)))), (b4, .inl (D.2 0, 1024, .inl (fun x_ => zI (gg x_)))), (b5, .inl (D.2 1, 1024, .inl (fun x_ => iI (dp x_)))), (b6, .inl (D.2 1, 1024, .inl (fun x_ => iI (pt x_))))] H → va_D A [(o, .inr (0, [.int (iI thr), .ref b1, .ref b2, .ref b3, .ref b4, .ref b5, .ref b6, .int (iI (w : Int)), .int (iI (g : Int))])), (b1, .inl (D.2 0, 1024, .inl (fun x_ => zI (ik x_)))), (b2, .inl (D.2 0, 1024, .inl (fun x_ => zI (st x_)))), (b3, .inl (D.2 0, 1024, .inl (fun x_ => zI (kp x_)))), (b4, .inl (D.2 0, 1024, .inl (fun x_ => zI (gg x_)))), (b5, .inl (D.2 1, 1024, .inl (fun x_ => iI (dp x_)))), (b6, .inl (D.2 1, 1024, .inl (fun x_ => iI (pt x_))))] → va_S A s0.heap H locs → ∀ ls : Array Slot, lv_has ls 4 [(3, .int (iI (i : Int))), (2, .int (iI 0)), (0, .ref o), (1, .int (zI fb))] → W p0 l e0 ({ frames := 6, cells := 0, slots := 0, locals := 137 } : Room) s0 m0 args below meth c0 H locs (0) (0) Q (F0 m0 4 ls []) := by
    intro fuel
    induction fuel with
    | zero =>
      intro i gg hi hgg hfuel4
      exact absurd hfuel4 (Nat.not_lt_zero _)
    | succ fuel ih4 =>
      intro i gg hi hgg hfuel4 H locs hP hD hS ls hl
      refine lv_iload_n kx kb dX3_half_4 rfl (lv_at hl 0 rfl) ?_
      refine lv_aload_n kx kb dX3_half_5 rfl (lv_at hl 2 rfl) ?_
      refine t_callRV C (met_X3_cells l D E o b1 b2 b3 b4 b5 b6 thr w g ik st kp gg dp pt (by first | assumption | omega) (by first | assumption | omega)) (cwV 0 hts (lw_V q1467 q1469 qs33 q62 q1470) rfl rfl rfl (by decide +kernel) ⟨Nat.le_of_ble_eq_true rfl, Nat.le_of_ble_eq_true rfl⟩) (va_recv hK hP (ci := 0) (q0 := 0) rfl rfl) hK hX hP hD hS hA [0, 1, 2, 3, 4, 5, 6] rfl (by decide) tYb_0 (fun _ _ _ => trivial) rfl hl.1 rfl (Nat.le_of_ble_eq_true rfl) dX3_half_6 ⟨(show 0 ≤ 0 from by omega), (show 0 ≤ 0 from by omega)⟩ ?_
      refine W.eq (g2 := F0 m0 9 ls [.int (iI ((w * g : Nat) : Int)), .int (iI (i : Int))]) rfl ?_
      refine ti_icmp_ge (tgt := 30) kx kb (by omega) dX3_half_9 (by decide) (fun h9 => ?_) (fun h9 => ?_)
      · refine lv_iconst (v := iI 0) kx kb dX3_half_30 rfl ?_
        refine lv_istore_n (lv' := [(3, .int (iI 0)), (2, .int (iI 0)), (0, .ref o), (1, .int (zI fb))]) kx kb dX3_half_31 rfl hl (by decide) rfl (fun ls hl => ?_)
        have cut32 : ∀ (fuel : Nat) (j : Nat) (n : Int) (kk : Nat → Bool), (j ≤ w * g) → (n = ((fb_ct (thn w g fb ik) j : Nat) : Int)) → (kk = hlfI (thn w g fb ik) ik j) → (w * g - j) < fuel → ∀ (H : Heap) (locs : List Loc), va_P D.1 clAll [(o, .inr (0, [.int (iI thr), .ref b1, .ref b2, .ref b3, .ref b4, .ref b5, .ref b6, .int (iI (w : Int)), .int (iI (g : Int))])), (b1, .inl (D.2 0, 1024, .inl (fun x_ => zI (kk x_)))), (b2, .inl (D.2 0, 1024, .inl (fun x_ => zI (st x_)))), (b3, .inl (D.2 0, 1024, .inl (fun x_ => zI (kp x_)))), (b4, .inl (D.2 0, 1024, .inl (fun x_ => zI (gg x_)))), (b5, .inl (D.2 1, 1024, .inl (fun x_ => iI (dp x_)))), (b6, .inl (D.2 1, 1024, .inl (fun x_ => iI (pt x_))))] H → va_D A [(o, .inr (0, [.int (iI thr), .ref b1, .ref b2, .ref b3, .ref b4, .ref b5, .ref b6, .int (iI (w : Int)), .int (iI (g : Int))])), (b1, .inl (D.2 0, 1024, .inl (fun x_ => zI (kk x_)))), (b2, .inl (D.2 0, 1024, .inl (fun x_ => zI (st x_)))), (b3, .inl (D.2 0, 1024, .inl (fun x_ => zI (kp x_)))), (b4, .inl (D.2 0, 1024, .inl (fun x_ => zI (gg x_)))), (b5, .inl (D.2 1, 1024, .inl (fun x_ => iI (dp x_)))), (b6, .inl (D.2 1, 1024, .inl (fun x_ => iI (pt x_))))] → va_S A s0.heap H locs → ∀ ls : Array Slot, lv_has ls 4 [(3, .int (iI (j : Int))), (2, .int (iI n)), (0, .ref o), (1, .int (zI fb))] → W p0 l e0 ({ frames := 6, cells := 0, slots := 0, locals := 137 } : Room) s0 m0 args below meth c0 H locs (0) (0) Q (F0 m0 32 ls []) := by
          intro fuel
          induction fuel with
          | zero =>
            intro j n kk hj hn hkk hfuel32
            exact absurd hfuel32 (Nat.not_lt_zero _)
          | succ fuel ih32 =>
            intro j n kk hj hn hkk hfuel32 H locs hP hD hS ls hl
            have hk := fb_ct_le (thn w g fb ik) j
            refine lv_iload_n kx kb dX3_half_32 rfl (lv_at hl 0 rfl) ?_
            refine lv_aload_n kx kb dX3_half_33 rfl (lv_at hl 2 rfl) ?_
            refine t_callRV C (met_X3_cells l D E o b1 b2 b3 b4 b5 b6 thr w g kk st kp gg dp pt (by first | assumption | omega) (by first | assumption | omega)) (cwV 0 hts (lw_V q1467 q1469 qs33 q62 q1470) rfl rfl rfl (by decide +kernel) ⟨Nat.le_of_ble_eq_true rfl, Nat.le_of_ble_eq_true rfl⟩) (va_recv hK hP (ci := 0) (q0 := 0) rfl rfl) hK hX hP hD hS hA [0, 1, 2, 3, 4, 5, 6] rfl (by decide) tYb_0 (fun _ _ _ => trivial) rfl hl.1 rfl (Nat.le_of_ble_eq_true rfl) dX3_half_34 ⟨(show 0 ≤ 0 from by omega), (show 0 ≤ 0 from by omega)⟩ ?_
            refine W.eq (g2 := F0 m0 37 ls [.int (iI ((w * g : Nat) : Int)), .int (iI (j : Int))]) rfl ?_
            refine ti_icmp_ge (tgt := 68) kx kb (by omega) dX3_half_37 (by decide) (fun h37 => ?_) (fun h37 => ?_)
            · refine lv_iload_n kx kb dX3_half_68 rfl (lv_at hl 1 rfl) ?_
              subst hQ
              exact tm_iret C (kk, gg) (by rw [hkk, show j = w * g from by omega]; rfl) hP hD hS (show 0 ≤ 0 from by omega) (show 0 ≤ 0 from by omega) (by rw [hn, show j = w * g from by omega]) rfl dX3_half_69
            · refine lv_aload_n kx kb dX3_half_40 rfl (lv_at hl 2 rfl) ?_
              refine va_get (D := D.1) (ci := 0) (v := .ref b4) (C := RX3) (T := TX3) (N := 9) kx kb hts in_X3 hown hK hP 0 rfl rfl 4 (by decide) (hts _ q1374) (fun _ h9 => h9) rfl dX3_half_41 ?_
              refine lv_iload_n kx kb dX3_half_44 rfl (lv_at hl 0 rfl) ?_
              refine ta_zald C hK hP 4 rfl j (by omega) dX3_half_45 ?_
              have hgj : gg j = thn w g fb ik j := by rw [hgg]; exact if_pos (by omega)
              refine tz_if_ne (tgt := 52) kx kb dX3_half_46 (by decide) (fun h46 => ?_) (fun h46 => ?_)
              · rw [hgj] at h46
                refine lv_aload_n kx kb dX3_half_52 rfl (lv_at hl 2 rfl) ?_
                refine va_get (D := D.1) (ci := 0) (v := .ref b1) (C := RX3) (T := TX3) (N := 9) kx kb hts in_X3 hown hK hP 0 rfl rfl 1 (by decide) (hts _ q1371) (fun _ h9 => h9) rfl dX3_half_53 ?_
                refine lv_iload_n kx kb dX3_half_56 rfl (lv_at hl 0 rfl) ?_
                refine lv_iconst (v := iI 0) kx kb dX3_half_57 rfl ?_
                refine W.eq (g2 := F0 m0 58 ls [.int (zI false), .int (iI (j : Int)), .ref b1]) rfl ?_
                refine ta_zast C hK hP hD hS 1 rfl j (by omega) dX3_half_58 (fun H locs hP hD hS => ?_)
                have hP : va_P D.1 clAll [(o, .inr (0, [.int (iI thr), .ref b1, .ref b2, .ref b3, .ref b4, .ref b5, .ref b6, .int (iI (w : Int)), .int (iI (g : Int))])), (b1, .inl (D.2 0, 1024, .inl (fun x_ => zI ((va_up kk j false) x_)))), (b2, .inl (D.2 0, 1024, .inl (fun x_ => zI (st x_)))), (b3, .inl (D.2 0, 1024, .inl (fun x_ => zI (kp x_)))), (b4, .inl (D.2 0, 1024, .inl (fun x_ => zI (gg x_)))), (b5, .inl (D.2 1, 1024, .inl (fun x_ => iI (dp x_)))), (b6, .inl (D.2 1, 1024, .inl (fun x_ => iI (pt x_))))] H := hP
                have hD : va_D A [(o, .inr (0, [.int (iI thr), .ref b1, .ref b2, .ref b3, .ref b4, .ref b5, .ref b6, .int (iI (w : Int)), .int (iI (g : Int))])), (b1, .inl (D.2 0, 1024, .inl (fun x_ => zI ((va_up kk j false) x_)))), (b2, .inl (D.2 0, 1024, .inl (fun x_ => zI (st x_)))), (b3, .inl (D.2 0, 1024, .inl (fun x_ => zI (kp x_)))), (b4, .inl (D.2 0, 1024, .inl (fun x_ => zI (gg x_)))), (b5, .inl (D.2 1, 1024, .inl (fun x_ => iI (dp x_)))), (b6, .inl (D.2 1, 1024, .inl (fun x_ => iI (pt x_))))] := hD
                refine ti_iinc (a := n) (lv' := [(2, .int (iI (n + 1))), (3, .int (iI (j : Int))), (0, .ref o), (1, .int (zI fb))]) kx kb dX3_half_59 hl (k := 1) rfl (by decide) rfl (fun ls hl => ?_)
                refine ti_iinc (a := (j : Int)) (lv' := [(3, .int (iI ((j : Int) + 1))), (2, .int (iI (n + 1))), (0, .ref o), (1, .int (zI fb))]) kx kb dX3_half_62 hl (k := 1) rfl (by decide) rfl (fun ls hl => ?_)
                refine lv_goto (tgt := 32) kx kb dX3_half_65 (by decide) ?_
                exact ih32 (j + 1) (n + 1) (va_up kk j false) (by omega) (by simp [fb_ct_succ, h46, hn]) (by rw [hkk]; first | exact hlfI_t h46 | exact hlfI_f h46) (by omega) H locs hP hD hS ls hl
              · rw [hgj] at h46
                refine lv_goto (tgt := 62) kx kb dX3_half_49 (by decide) ?_
                refine ti_iinc (a := (j : Int)) (lv' := [(3, .int (iI ((j : Int) + 1))), (2, .int (iI n)), (0, .ref o), (1, .int (zI fb))]) kx kb dX3_half_62 hl (k := 0) rfl (by decide) rfl (fun ls hl => ?_)
                refine lv_goto (tgt := 32) kx kb dX3_half_65 (by decide) ?_
                exact ih32 (j + 1) n kk (by omega) (by simp [fb_ct_succ, h46, hn]) (by rw [hkk]; first | exact hlfI_t h46 | exact hlfI_f h46) (by omega) H locs hP hD hS ls hl
        exact cut32 ((w * g - 0) + 1) 0 0 ik (by omega) (by rfl) (by rw [hlfI_0]) (Nat.lt_succ_self _) H locs hP hD hS ls hl
      · refine lv_aload_n kx kb dX3_half_12 rfl (lv_at hl 2 rfl) ?_
        refine va_get (D := D.1) (ci := 0) (v := .ref b4) (C := RX3) (T := TX3) (N := 9) kx kb hts in_X3 hown hK hP 0 rfl rfl 4 (by decide) (hts _ q1374) (fun _ h9 => h9) rfl dX3_half_13 ?_
        refine lv_iload_n kx kb dX3_half_16 rfl (lv_at hl 0 rfl) ?_
        refine lv_aload_n kx kb dX3_half_17 rfl (lv_at hl 2 rfl) ?_
        refine lv_iload_n kx kb dX3_half_18 rfl (lv_at hl 0 rfl) ?_
        refine lv_iload_n kx kb dX3_half_19 rfl (lv_at hl 3 rfl) ?_
        refine t_callRV C (met_X3_isThin l D E o b1 b2 b3 b4 b5 b6 thr w g ik st kp gg dp pt i fb (by first | assumption | omega) (by first | assumption | omega) (by first | assumption | omega)) (cwV 2 hts (lw_V q1509 q1511 qs38 q62 q1512) rfl rfl rfl (by decide +kernel) ⟨Nat.le_of_ble_eq_true rfl, Nat.le_of_ble_eq_true rfl⟩) (va_recv hK hP (ci := 0) (q0 := 0) rfl rfl) hK hX hP hD hS hA [0, 1, 2, 3, 4, 5, 6] rfl (by decide) tYb_0 (fun _ _ _ => trivial) rfl hl.1 rfl (Nat.le_of_ble_eq_true rfl) dX3_half_20 ⟨(show 0 ≤ 0 from by omega), (show 0 ≤ 0 from by omega)⟩ ?_
        refine W.eq (g2 := F0 m0 23 ls [.int (zI (thn w g fb ik i)), .int (iI (i : Int)), .ref b4]) rfl ?_
        refine ta_zast C hK hP hD hS 4 rfl i (by omega) dX3_half_23 (fun H locs hP hD hS => ?_)
        have hP : va_P D.1 clAll [(o, .inr (0, [.int (iI thr), .ref b1, .ref b2, .ref b3, .ref b4, .ref b5, .ref b6, .int (iI (w : Int)), .int (iI (g : Int))])), (b1, .inl (D.2 0, 1024, .inl (fun x_ => zI (ik x_)))), (b2, .inl (D.2 0, 1024, .inl (fun x_ => zI (st x_)))), (b3, .inl (D.2 0, 1024, .inl (fun x_ => zI (kp x_)))), (b4, .inl (D.2 0, 1024, .inl (fun x_ => zI ((va_up gg i (thn w g fb ik i)) x_)))), (b5, .inl (D.2 1, 1024, .inl (fun x_ => iI (dp x_)))), (b6, .inl (D.2 1, 1024, .inl (fun x_ => iI (pt x_))))] H := hP
        have hD : va_D A [(o, .inr (0, [.int (iI thr), .ref b1, .ref b2, .ref b3, .ref b4, .ref b5, .ref b6, .int (iI (w : Int)), .int (iI (g : Int))])), (b1, .inl (D.2 0, 1024, .inl (fun x_ => zI (ik x_)))), (b2, .inl (D.2 0, 1024, .inl (fun x_ => zI (st x_)))), (b3, .inl (D.2 0, 1024, .inl (fun x_ => zI (kp x_)))), (b4, .inl (D.2 0, 1024, .inl (fun x_ => zI ((va_up gg i (thn w g fb ik i)) x_)))), (b5, .inl (D.2 1, 1024, .inl (fun x_ => iI (dp x_)))), (b6, .inl (D.2 1, 1024, .inl (fun x_ => iI (pt x_))))] := hD
        refine ti_iinc (a := (i : Int)) (lv' := [(3, .int (iI ((i : Int) + 1))), (2, .int (iI 0)), (0, .ref o), (1, .int (zI fb))]) kx kb dX3_half_24 hl (k := 0) rfl (by decide) rfl (fun ls hl => ?_)
        refine lv_goto (tgt := 4) kx kb dX3_half_27 (by decide) ?_
        exact ih4 (i + 1) (va_up gg i (thn w g fb ik i)) (by omega) (by rw [hgg, flw_s]) (by omega) H locs hP hD hS ls hl
  exact cut4 ((w * g - 0) + 1) 0 go (by omega) (by rw [flw_0]) (Nat.lt_succ_self _) s0.heap [] hP hD hS ls hl
