set_option maxRecDepth 100000
set_option maxHeartbeats 4000000 in
set_option maxRecDepth 100000 in
theorem met_J20_add (l : Launch) (D : TG) (E : TE) (q : Nat) (el : Nat) (n : Nat) (h : Nat) (t : Nat) (f : Nat → Option Nat) (L : List Nat) (e : Nat) (hq : DQ n h t f L) (hn : 17 ≤ n ∧ n ≤ 1400) : tMet l yJ20_add cJ20_add 2 (some .boolean) 5 134 (dqC n L.length) (dqS n L.length) [.ref q, .ref e] D E [(q, .inr (4, [.ref el, .int (iI ((h : Nat) : Int)), .int (iI ((t : Nat) : Int))])), (el, .inl (D.2 5, n, .inr (.inr (.inr (.inr f)))))] (tYO (e :: L)) (S := Nat × Nat × Nat × (Nat → Option Nat)) (fun u_ => DQ (dqN n L.length) u_.2.1 u_.2.2.1 u_.2.2.2 (L ++ [e])) (fun u_ => some (.int (zI true))) (fun u_ => [(q, .inr (4, [.ref u_.1, .int (iI ((u_.2.1 : Nat) : Int)), .int (iI ((u_.2.2.1 : Nat) : Int))])), (u_.1, .inl (D.2 5, dqN n L.length, .inr (.inr (.inr (.inr u_.2.2.2)))))]) := by
  refine tu_met (by decide +kernel) (Nat.le_of_ble_eq_true rfl) ?_
  intro p0 e0 s0 m0 below meth c0 A ls args Q hag hQ C hK hX hY hP hD hA hAe hl
  obtain ⟨kx, kb, hml, hown, hts, -⟩ := id C
  have hS : va_S A s0.heap s0.heap [] := va_S.rf
  have hl : lv_has ls 2 [(0, .ref q), (1, .ref e)] := hl
  have hdt := DQ_t hq
  have hdh := hq.1
  have hdn := hq.2.1
  refine lv_aload_n kx kb dJ20_add_0 rfl (lv_at hl 0 rfl) ?_
  refine lv_aload_n kx kb dJ20_add_1 rfl (lv_at hl 1 rfl) ?_
  refine t_callV (wr := []) C (met_J20_addLast l D E q el n h t f L e (by first | assumption | omega) (by first | assumption | omega)) (cwV 1 hts (lw_V q865 q866 q867 q83 q868) rfl rfl rfl (by decide +kernel) ⟨Nat.le_of_ble_eq_true rfl, Nat.le_of_ble_eq_true rfl⟩) (va_recv hK hP (ci := 4) (q0 := 0) rfl rfl) hK hX hP hD hS hA [0, 1] [] rfl rfl (by decide) (by decide) (by decide) (tYb_O _) (tYO_pass hY hS hD hA (fun _ h_ => h_) [0, 1] rfl) rfl hl.1 rfl (Nat.le_of_ble_eq_true rfl) dJ20_add_2 ⟨(show 0 + (dqC n L.length) ≤ dqC n L.length from by omega), (show 0 + (dqS n L.length) ≤ dqS n L.length from by omega)⟩ (fun u_ H locs hp hP hD hS => ?_)
  obtain ⟨el2_1, h2_2, t2_3, f2_4⟩ := u_
  have hc2_1 : DQ (dqN n L.length) h2_2 t2_3 f2_4 (L ++ [e]) := hp
  have hP : va_P D.1 clAll [(q, .inr (4, [.ref el2_1, .int (iI ((h2_2 : Nat) : Int)), .int (iI ((t2_3 : Nat) : Int))])), (el2_1, .inl (D.2 5, dqN n L.length, .inr (.inr (.inr (.inr f2_4)))))] H := hP
  have hD : va_D A [(q, .inr (4, [.ref el2_1, .int (iI ((h2_2 : Nat) : Int)), .int (iI ((t2_3 : Nat) : Int))])), (el2_1, .inl (D.2 5, dqN n L.length, .inr (.inr (.inr (.inr f2_4)))))] := hD
  refine W.eq (g2 := F0 m0 5 ls []) rfl ?_
  refine W.widen (k := 0 + (dqC n L.length)) (n := 0 + (dqS n L.length)) (Nat.le_refl _) (Nat.le_refl _) ?_
  refine lv_iconst (v := iI 1) kx kb dJ20_add_5 rfl ?_
  refine W.eq (g2 := F0 m0 6 ls [.int (zI true)]) rfl ?_
  subst hQ
  exact tm_zret C (el2_1, h2_2, t2_3, f2_4) (hc2_1) hP hD hS (show 0 + (dqC n L.length) ≤ dqC n L.length from by omega) (show 0 + (dqS n L.length) ≤ dqS n L.length from by omega) rfl rfl dJ20_add_6
set_option maxHeartbeats 4000000 in
set_option maxRecDepth 100000 in
theorem met_X5_init (l : Launch) (D : TG) (E : TE) (a : Nat) (x : Int) (rx : -2147483648 ≤ x ∧ x < 2147483648) : tMet l yX5_init cX5_init 2 none 1 40 (0) (0) [.ref a, .int (iI x)] D E [(a, .inr (8, [.int (iI 0), .int (iI 0)]))] tY0 (S := Unit) (fun u_ => True) (fun u_ => none) (fun u_ => [(a, .inr (8, [.int (iI x), .int (iI 1)]))]) := by
  refine tu_met (by decide +kernel) (Nat.le_of_ble_eq_true rfl) ?_
  intro p0 e0 s0 m0 below meth c0 A ls args Q hag hQ C hK hX hY hP hD hA hAe hl
  obtain ⟨kx, kb, hml, hown, hts, -⟩ := id C
  have hS : va_S A s0.heap s0.heap [] := va_S.rf
  have hl : lv_has ls 2 [(0, .ref a), (1, .int (iI x))] := hl
  refine lv_aload_n kx kb dX5_init_0 rfl (lv_at hl 0 rfl) ?_
  refine W.objInit kx kb hown (hts _ q766) (hts _ q102) (hts _ q103) rfl (by rw [hml]; exact hl.1) rfl dX5_init_1 (Nat.le_of_ble_eq_true rfl) (Nat.le_of_ble_eq_true rfl) ?_
  refine W.eq (g2 := F0 m0 4 ls []) rfl ?_
  refine lv_aload_n kx kb dX5_init_4 rfl (lv_at hl 0 rfl) ?_
  refine lv_iconst (v := iI 1) kx kb dX5_init_5 rfl ?_
  refine va_put (D := D.1) (ci := 8) (v := .int (iI 1)) (ty := .int) (C := RX5) (T := TX5) (N := 2) kx kb hts in_X5 tyX5 tyX5_ok nmX5 hown hK hP hD hS 0 rfl rfl 1 (by decide) (hts _ q769) (fun _ h9 => h9) rfl (by decide +kernel) rfl rfl (Nat.le_of_ble_eq_true rfl) dX5_init_6 (fun H locs hP hD hS => ?_)
  have hP : va_P D.1 clAll [(a, .inr (8, [.int (iI 0), .int (iI 1)]))] H := hP
  have hD : va_D A [(a, .inr (8, [.int (iI 0), .int (iI 1)]))] := hD
  refine lv_aload_n kx kb dX5_init_9 rfl (lv_at hl 0 rfl) ?_
  refine lv_iload_n kx kb dX5_init_10 rfl (lv_at hl 1 rfl) ?_
  refine va_putF (D := D.1) (ci := 8) (v := .int (iI x)) (ty := .int) (C := RX5) (T := TX5) (N := 2) kx kb hts in_X5 tyX5 tyX5_ok nmX5 hown hK hP hD hS 0 rfl rfl 0 (by decide) (hts _ q767) (fun _ h9 => h9) rfl C.2.2.2.2.2.2.2 rfl (by decide +kernel) rfl rfl (Nat.le_of_ble_eq_true rfl) dX5_init_11 (fun H locs hP hD hS => ?_)
  have hP : va_P D.1 clAll [(a, .inr (8, [.int (iI x), .int (iI 1)]))] H := hP
  have hD : va_D A [(a, .inr (8, [.int (iI x), .int (iI 1)]))] := hD
  subst hQ
  exact tm_vret C () trivial hP hD hS (show 0 ≤ 0 from by omega) (show 0 ≤ 0 from by omega) rfl rfl dX5_init_14
set_option maxHeartbeats 4000000 in
set_option maxRecDepth 100000 in
theorem met_X1_inkShare (l : Launch) (D : TG) (E : TE) (t : Nat) (a : Nat) (b : Nat) (v : Nat) (n : Nat) (w : Nat) (g : Nat) (P : Nat → Bool) (c : Nat) (v3 : Nat) (n2 : Nat) (S : Nat → Bool) (hw : 1 ≤ w ∧ w ≤ 32) (hg : 1 ≤ g ∧ g ≤ 32) (hB : BB P n) (hB2 : BB S n2) (hPz : ∀ j_, w * g ≤ j_ → P j_ = false) (hSz : ∀ j_, w * g ≤ j_ → S j_ = false) : tMet l yX1_inkShare cX1_inkShare 1 (some .double) 3 63 (0) (0) [.ref t] D E [(t, .inr (1, [.ref a, .ref c])), (a, .inr (2, [.int (iI ((w : Nat) : Int)), .int (iI ((g : Nat) : Int)), .ref b])), (b, .inr (3, [.ref v, .int (iI ((un P : Nat) : Int)), .int (zI false)])), (v, .inl (D.2 2, n, .inr (.inl (wd P)))), (c, .inr (3, [.ref v3, .int (iI ((un S : Nat) : Int)), .int (zI false)])), (v3, .inl (D.2 2, n2, .inr (.inl (wd S))))] tY0 (S := Unit) (fun u_ => True) (fun u_ => some (.double (FP.ddiv (FP.i2d (iI ((fb_ct P 1024 : Nat) : Int))) (FP.i2d (iI ((w * g : Nat) : Int)))))) (fun u_ => [(t, .inr (1, [.ref a, .ref c])), (a, .inr (2, [.int (iI ((w : Nat) : Int)), .int (iI ((g : Nat) : Int)), .ref b])), (b, .inr (3, [.ref v, .int (iI ((un P : Nat) : Int)), .int (zI false)])), (v, .inl (D.2 2, n, .inr (.inl (wd P)))), (c, .inr (3, [.ref v3, .int (iI ((un S : Nat) : Int)), .int (zI false)])), (v3, .inl (D.2 2, n2, .inr (.inl (wd S))))]) := by
  refine tu_met (by decide +kernel) (Nat.le_of_ble_eq_true rfl) ?_
  intro p0 e0 s0 m0 below meth c0 A ls args Q hag hQ C hK hX hY hP hD hA hAe hl
  obtain ⟨kx, kb, hml, hown, hts, -⟩ := id C
  have hS : va_S A s0.heap s0.heap [] := va_S.rf
  have hl : lv_has ls 1 [(0, .ref t)] := hl
  have hwg := wg_le hw hg
  have hBn := hB.1
  have hBm := hB.2.1
  have hul := un_le hB
  have hul2 := un_le hB2
  have hfl := fb_ct_le P 1024
  have hwp : 0 < w * g := Nat.mul_pos (by omega) (by omega)
  refine lv_aload_n kx kb dX1_inkShare_0 rfl (lv_at hl 0 rfl) ?_
  refine t_callRV C (met_X1_ink l D E t a b v n w g P c v3 n2 S (by first | assumption | omega) (by first | assumption | omega) (by first | assumption | omega) (by first | assumption | omega) (by first | assumption | omega) (by first | assumption | omega)) (cwV 0 hts (lw_V q531 q532 q533 q59 q534) rfl rfl rfl (by decide +kernel) ⟨Nat.le_of_ble_eq_true rfl, Nat.le_of_ble_eq_true rfl⟩) (va_recv hK hP (ci := 1) (q0 := 0) rfl rfl) hK hX hP hD hS hA [0, 1, 2, 3, 4, 5] rfl (by decide) tYb_0 (fun _ _ _ => trivial) rfl hl.1 rfl (Nat.le_of_ble_eq_true rfl) dX1_inkShare_1 ⟨(show 0 ≤ 0 from by omega), (show 0 ≤ 0 from by omega)⟩ ?_
  refine W.eq (g2 := F0 m0 4 ls [.int (iI ((fb_ct P 1024 : Nat) : Int))]) rfl ?_
  refine lv_i2d kx kb dX1_inkShare_4 ?_
  refine lv_aload_n kx kb dX1_inkShare_5 rfl (lv_at hl 0 rfl) ?_
  refine va_get (D := D.1) (ci := 1) (v := .ref a) (C := RX1) (T := TX1) (N := 2) kx kb hts in_X1 hown hK hP 0 rfl rfl 0 (by decide) (hts _ q152) (fun _ h9 => h9) rfl dX1_inkShare_6 ?_
  refine t_callRV C (met_X2_cells l D E a b w g (by first | assumption | omega) (by first | assumption | omega)) (cwV 0 hts (lw_V q163 q164 q165 q60 q166) rfl rfl rfl (by decide +kernel) ⟨Nat.le_of_ble_eq_true rfl, Nat.le_of_ble_eq_true rfl⟩) (va_recv hK hP (ci := 2) (q0 := 1) rfl rfl) hK hX hP hD hS hA [1] rfl (by decide) tYb_0 (fun _ _ _ => trivial) rfl hl.1 rfl (Nat.le_of_ble_eq_true rfl) dX1_inkShare_9 ⟨(show 0 ≤ 0 from by omega), (show 0 ≤ 0 from by omega)⟩ ?_
  refine W.eq (g2 := F0 m0 12 ls [.int (iI ((w * g : Nat) : Int)), .double (FP.i2d (iI ((fb_ct P 1024 : Nat) : Int)))]) rfl ?_
  refine lv_i2d kx kb dX1_inkShare_12 ?_
  refine lv_ddiv kx kb dX1_inkShare_13 (ddiv_vf (by omega) ⟨hwp, by omega⟩) ?_
  subst hQ
  exact tm_dret C () trivial hP hD hS (show 0 ≤ 0 from by omega) (show 0 ≤ 0 from by omega) rfl rfl dX1_inkShare_14
