set_option maxRecDepth 100000
set_option maxHeartbeats 4000000 in
set_option maxRecDepth 100000 in
theorem met_J16_init (l : Launch) (D : TG) (E : TE) (a : Nat) : tMet l yJ16_init cJ16_init 1 none 1 40 (0) (0) [.ref a] D E [] tY0 (S := Unit) (fun u_ => True) (fun u_ => none) (fun u_ => []) := by
  refine tu_met (by decide +kernel) (Nat.le_of_ble_eq_true rfl) ?_
  intro p0 e0 s0 m0 below meth c0 A ls args Q hag hQ C hK hX hY hP hD hA hAe hl
  obtain ⟨kx, kb, hml, hown, hts, -⟩ := id C
  have hS : va_S A s0.heap s0.heap [] := va_S.rf
  have hl : lv_has ls 1 [(0, .ref a)] := hl
  refine lv_aload_n kx kb dJ16_init_0 rfl (lv_at hl 0 rfl) ?_
  refine W.objInit kx kb hown (hts _ q856) (hts _ q102) (hts _ q103) rfl (by rw [hml]; exact hl.1) rfl dJ16_init_1 (Nat.le_of_ble_eq_true rfl) (Nat.le_of_ble_eq_true rfl) ?_
  refine W.eq (g2 := F0 m0 4 ls []) rfl ?_
  subst hQ
  exact tm_vret C () trivial hP hD hS (show 0 ≤ 0 from by omega) (show 0 ≤ 0 from by omega) rfl rfl dJ16_init_4
set_option maxHeartbeats 4000000 in
set_option maxRecDepth 100000 in
theorem met_J17_init (l : Launch) (D : TG) (E : TE) (a : Nat) (z : Nat) : tMet l yJ17_init cJ17_init 2 none 2 60 (0) (0) [.ref a, .int (iI ((z : Nat) : Int))] D E [(a, .inr (5, [.int (iI 0)]))] tY0 (S := Unit) (fun u_ => True) (fun u_ => none) (fun u_ => [(a, .inr (5, [.int (iI ((z : Nat) : Int))]))]) := by
  refine tu_met (by decide +kernel) (Nat.le_of_ble_eq_true rfl) ?_
  intro p0 e0 s0 m0 below meth c0 A ls args Q hag hQ C hK hX hY hP hD hA hAe hl
  obtain ⟨kx, kb, hml, hown, hts, -⟩ := id C
  have hS : va_S A s0.heap s0.heap [] := va_S.rf
  have hl : lv_has ls 2 [(0, .ref a), (1, .int (iI ((z : Nat) : Int)))] := hl
  refine lv_aload_n kx kb dJ17_init_0 rfl (lv_at hl 0 rfl) ?_
  refine t_callI (wr := [(a, .inr (5, [.int (iI 0)]))]) C (met_J16_init l D E a) (cwI 0 hts (lw_meth q855) rfl rfl rfl (hts _ q79) (hts _ q853) (hts _ q854) rfl (by decide +kernel) ⟨Nat.le_of_ble_eq_true rfl, Nat.le_of_ble_eq_true rfl⟩) hK hX hP hD hS hA [] [0] rfl rfl (by decide) (by decide) (by decide) tYb_0 (fun _ _ _ => trivial) rfl hl.1 rfl (Nat.le_of_ble_eq_true rfl) dJ17_init_1 ⟨(show 0 ≤ 0 from by omega), (show 0 ≤ 0 from by omega)⟩ (fun u_ H locs hp hP hD hS => ?_)
  have hP : va_P D.1 clAll [(a, .inr (5, [.int (iI 0)]))] H := hP
  have hD : va_D A [(a, .inr (5, [.int (iI 0)]))] := hD
  refine W.eq (g2 := F0 m0 4 ls []) rfl ?_
  refine lv_aload_n kx kb dJ17_init_4 rfl (lv_at hl 0 rfl) ?_
  refine lv_iload_n kx kb dJ17_init_5 rfl (lv_at hl 1 rfl) ?_
  refine va_putF (D := D.1) (ci := 5) (v := .int (iI ((z : Nat) : Int))) (ty := .int) (C := RJ17) (T := TJ17) (N := 1) kx kb hts in_J17 tyJ17 tyJ17_ok nmJ17 hown hK hP hD hS 0 rfl rfl 0 (by decide) (hts _ q857) (fun _ h9 => h9) rfl C.2.2.2.2.2.2.2 rfl (by decide +kernel) rfl rfl (Nat.le_of_ble_eq_true rfl) dJ17_init_6 (fun H locs hP hD hS => ?_)
  have hP : va_P D.1 clAll [(a, .inr (5, [.int (iI ((z : Nat) : Int))]))] H := hP
  have hD : va_D A [(a, .inr (5, [.int (iI ((z : Nat) : Int))]))] := hD
  subst hQ
  exact tm_vret C () trivial hP hD hS (show 0 ≤ 0 from by omega) (show 0 ≤ 0 from by omega) rfl rfl dJ17_init_9
set_option maxHeartbeats 4000000 in
set_option maxRecDepth 100000 in
theorem met_J17_intValue_n (l : Launch) (D : TG) (E : TE) (a : Nat) (z : Nat) : tRd l yJ17_intValue cJ17_intValue 1 (some .int) 0 0 [.ref a] D E [(a, .inr (5, [.int (iI ((z : Nat) : Int))]))] tY0 (some (.int (iI ((z : Nat) : Int)))) := by
  refine tu_rd (by decide +kernel) (Nat.le_of_ble_eq_true rfl) ?_
  intro p0 e0 s0 m0 below meth c0 A ls args Q hag hQ C hK hX hY hP hD hA hAe hl
  obtain ⟨kx, kb, hml, hown, hts, -⟩ := id C
  have hS : va_S A s0.heap s0.heap [] := va_S.rf
  have hl : lv_has ls 1 [(0, .ref a)] := hl
  refine lv_aload_n kx kb dJ17_intValue_0 rfl (lv_at hl 0 rfl) ?_
  refine va_get (D := D.1) (ci := 5) (v := .int (iI ((z : Nat) : Int))) (C := RJ17) (T := TJ17) (N := 1) kx kb hts in_J17 hown hK hP 0 rfl rfl 0 (by decide) (hts _ q857) (fun _ h9 => h9) rfl dJ17_intValue_1 ?_
  subst hQ
  exact tr_iret C rfl rfl dJ17_intValue_4
set_option maxHeartbeats 4000000 in
set_option maxRecDepth 100000 in
theorem met_J17_valueOf (l : Launch) (D : TG) (E : TE) (z : Nat) (hz : z < 1024) : tMet l yJ17_valueOf cJ17_valueOf 1 (some (.object "java/lang/Integer")) 3 81 (1) (1) [.int (iI ((z : Nat) : Int))] D E [] tY0 (S := Nat × (List (Nat × Int))) (fun u_ => bxv E u_.2 u_.1 ((z : Nat) : Int)) (fun u_ => some (.ref u_.1)) (fun u_ => ([] ++ (bxp u_.2))) := by
  refine tu_met (by decide +kernel) (Nat.le_of_ble_eq_true rfl) ?_
  intro p0 e0 s0 m0 below meth c0 A ls args Q hag hQ C hK hX hY hP hD hA hAe hl
  obtain ⟨kx, kb, hml, hown, hts, -⟩ := id C
  have hS : va_S A s0.heap s0.heap [] := va_S.rf
  have hl : lv_has ls 1 [(0, .int (iI ((z : Nat) : Int)))] := hl
  refine lv_iload_n kx kb dJ17_valueOf_0 rfl (lv_at hl 0 rfl) ?_
  refine lv_bipush (v := iI (-128)) kx kb dJ17_valueOf_1 rfl ?_
  refine ti_icmp_lt (tgt := 23) kx kb (by omega) dJ17_valueOf_3 (by decide) (fun h3 => ?_) (fun h3 => ?_)
  · omega
  · refine lv_iload_n kx kb dJ17_valueOf_6 rfl (lv_at hl 0 rfl) ?_
    refine va_gets (v := .int (iI 127)) kx kb hX.2.2.2.1 hS hown (hts _ q844) (fun _ h9 => h9) dJ17_valueOf_7 ?_
    refine ti_icmp_gt (tgt := 23) kx kb (by omega) dJ17_valueOf_10 (by decide) (fun h10 => ?_) (fun h10 => ?_)
    · refine va_new (D := D.1) (ci := 5) (fs := [.int (iI 0)]) (C := RJ17) (T := TJ17) (N := 1) kx kb hts in_J17 tyJ17 tyJ17_ok hown (hts _ q848) (hts _ q849) (hts _ q80) hK hP hD hS hA rfl (fun j hj => by rcases (show j = 0 by omega) with rfl <;> rfl) (show 1 ≤ 1 from by omega) (show 1 ≤ 1 from by omega) dJ17_valueOf_23 (fun q_1 H hP hD hS => ?_)
      have hP : va_P D.1 clAll [(q_1, .inr (5, [.int (iI 0)]))] H := hP
      have hD : va_D A [(q_1, .inr (5, [.int (iI 0)]))] := hD
      refine lv_dup kx kb dJ17_valueOf_26 rfl ?_
      refine lv_iload_n kx kb dJ17_valueOf_27 rfl (lv_at hl 0 rfl) ?_
      refine t_callI (wr := []) C (met_J17_init l D E q_1 z) (cwI 1 hts (lw_meth q852) rfl rfl rfl (hts _ q80) (hts _ q850) (hts _ q851) rfl (by decide +kernel) ⟨Nat.le_of_ble_eq_true rfl, Nat.le_of_ble_eq_true rfl⟩) hK hX hP hD hS hA [0] [] rfl rfl (by decide) (by decide) (by decide) tYb_0 (fun _ _ _ => trivial) rfl hl.1 rfl (Nat.le_of_ble_eq_true rfl) dJ17_valueOf_28 ⟨(show 1 ≤ 1 from by omega), (show 1 ≤ 1 from by omega)⟩ (fun u_ H locs hp hP hD hS => ?_)
      have hP : va_P D.1 clAll [(q_1, .inr (5, [.int (iI ((z : Nat) : Int))]))] H := hP
      have hD : va_D A [(q_1, .inr (5, [.int (iI ((z : Nat) : Int))]))] := hD
      refine W.eq (g2 := F0 m0 31 ls [.ref q_1]) rfl ?_
      have hP : va_P D.1 clAll ([] ++ (bxp [(q_1, ((z : Nat) : Int))])) H := hP
      have hD : va_D A ([] ++ (bxp [(q_1, ((z : Nat) : Int))])) := hD
      subst hQ
      exact tm_aret C (q_1, [(q_1, ((z : Nat) : Int))]) (Or.inl (List.mem_singleton.mpr rfl)) hP hD hS (show 1 ≤ 1 from by omega) (show 1 ≤ 1 from by omega) rfl rfl (Or.inl ⟨_, rfl⟩) (Or.inr ⟨_, rfl⟩) dJ17_valueOf_31
    · refine va_gets (v := .ref E.2.2.1) kx kb hX.2.2.2.2.1 hS hown (hts _ q846) (fun _ h9 => h9) dJ17_valueOf_13 ?_
      refine lv_iload_n kx kb dJ17_valueOf_16 rfl (lv_at hl 0 rfl) ?_
      refine lv_sipush (v := iI 128) kx kb dJ17_valueOf_17 rfl ?_
      refine ti_iadd kx kb dJ17_valueOf_20 ?_
      refine vb_tq kx kb hX.2.2.2.2.2.1 hS (iI_in (k := (((z : Nat) : Int) + 128).toNat) (n := 256) (by omega) (by omega) (by decide)) (v := .ref (E.1 ((((z : Nat) : Int) + 128).toNat))) (by rw [iI_clamp (k := (((z : Nat) : Int) + 128).toNat) (by omega) (by omega)]) dJ17_valueOf_21 ?_
      have hP : va_P D.1 clAll ([] ++ (bxp [])) s0.heap := hP
      have hD : va_D A ([] ++ (bxp [])) := hD
      subst hQ
      exact tm_aret C (E.1 ((((z : Nat) : Int) + 128).toNat), []) (Or.inr ⟨(((z : Nat) : Int) + 128).toNat, by omega, rfl, by omega⟩) hP hD hS (show 0 ≤ 1 from by omega) (show 0 ≤ 1 from by omega) rfl rfl (Or.inl ⟨_, rfl⟩) (Or.inr ⟨_, rfl⟩) dJ17_valueOf_22
