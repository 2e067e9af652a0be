set_option maxRecDepth 100000
set_option maxHeartbeats 4000000 in
set_option maxRecDepth 100000 in
theorem met_J27_init (l : Launch) (D : TG) (E : TE) (it : Nat) (ll : Nat) (mq : Int) (L : List RR) (hL : L.length ≤ 100) : tMet l yJ27_init cJ27_init 3 none 1 40 (0) (0) [.ref it, .ref ll, .int (iI 0)] D E ([(ll, .inr (6, [.int (iI mq), .int (iI ((L.length : Nat) : Int)), va_rf (llF L), va_rf (llH L)])), (it, .inr (9, [.null, .null, .int (iI 0), .int (iI 0), .null]))] ++ (llW none L)) tY0 (S := Unit) (fun u_ => True) (fun u_ => none) (fun u_ => ([(ll, .inr (6, [.int (iI mq), .int (iI ((L.length : Nat) : Int)), va_rf (llF L), va_rf (llH L)])), (it, .inr (9, [.null, va_rf (llXt L 0), .int (iI 0), .int (iI mq), .ref ll]))] ++ (llW none L))) := by
  refine tu_met (by decide +kernel) (Nat.le_of_ble_eq_true rfl) ?_
  intro p0 e0 s0 m0 below meth c0 A ls args Q hag hQ C hK hX hY hP hD hA hAe hl
  obtain ⟨kx, kb, hml, hown, hts, -⟩ := id C
  have hS : va_S A s0.heap s0.heap [] := va_S.rf
  have hl : lv_has ls 3 [(0, .ref it), (1, .ref ll), (2, .int (iI 0))] := hl
  refine lv_aload_n kx kb dJ27_init_0 rfl (lv_at hl 0 rfl) ?_
  refine lv_aload_n kx kb dJ27_init_1 rfl (lv_at hl 1 rfl) ?_
  refine va_putF (D := D.1) (ci := 9) (v := .ref ll) (ty := (.object "java/util/LinkedList")) (C := RJ27) (T := TJ27) (N := 5) kx kb hts in_J27 tyJ27 tyJ27_ok nmJ27 hown hK hP hD hS 1 rfl rfl 4 (by decide) (hts _ q1052) (fun _ h9 => h9) rfl C.2.2.2.2.2.2.2 rfl (by decide +kernel) rfl rfl (Nat.le_of_ble_eq_true rfl) dJ27_init_2 (fun H locs hP hD hS => ?_)
  have hP : va_P D.1 clAll ([(ll, .inr (6, [.int (iI mq), .int (iI ((L.length : Nat) : Int)), va_rf (llF L), va_rf (llH L)])), (it, .inr (9, [.null, .null, .int (iI 0), .int (iI 0), .ref ll]))] ++ (llW none L)) H := hP
  have hD : va_D A ([(ll, .inr (6, [.int (iI mq), .int (iI ((L.length : Nat) : Int)), va_rf (llF L), va_rf (llH L)])), (it, .inr (9, [.null, .null, .int (iI 0), .int (iI 0), .ref ll]))] ++ (llW none L)) := hD
  refine lv_aload_n kx kb dJ27_init_5 rfl (lv_at hl 0 rfl) ?_
  refine W.objInit kx kb hown (hts _ q1043) (hts _ q102) (hts _ q103) rfl (by rw [hml]; exact hl.1) rfl dJ27_init_6 (Nat.le_of_ble_eq_true rfl) (Nat.le_of_ble_eq_true rfl) ?_
  refine W.eq (g2 := F0 m0 9 ls []) rfl ?_
  refine lv_aload_n kx kb dJ27_init_9 rfl (lv_at hl 0 rfl) ?_
  refine lv_aload_n kx kb dJ27_init_10 rfl (lv_at hl 0 rfl) ?_
  refine va_get (D := D.1) (ci := 9) (v := .ref ll) (C := RJ27) (T := TJ27) (N := 5) kx kb hts in_J27 hown hK hP 1 rfl rfl 4 (by decide) (hts _ q1052) (fun _ h9 => h9) rfl dJ27_init_11 ?_
  refine va_get (D := D.1) (ci := 6) (v := .int (iI mq)) (C := RJ24) (T := TJ24) (N := 4) kx kb hts in_J24 hown hK hP 0 rfl rfl 0 (by decide) (hts _ q729) (fun x9 h9 => u_same (hts _ q730) x9 h9) rfl dJ27_init_14 ?_
  refine va_put (D := D.1) (ci := 9) (v := .int (iI mq)) (ty := .int) (C := RJ27) (T := TJ27) (N := 5) kx kb hts in_J27 tyJ27 tyJ27_ok nmJ27 hown hK hP hD hS 1 rfl rfl 3 (by decide) (hts _ q1051) (fun _ h9 => h9) rfl (by decide +kernel) rfl rfl (Nat.le_of_ble_eq_true rfl) dJ27_init_17 (fun H locs hP hD hS => ?_)
  have hP : va_P D.1 clAll ([(ll, .inr (6, [.int (iI mq), .int (iI ((L.length : Nat) : Int)), va_rf (llF L), va_rf (llH L)])), (it, .inr (9, [.null, .null, .int (iI 0), .int (iI mq), .ref ll]))] ++ (llW none L)) H := hP
  have hD : va_D A ([(ll, .inr (6, [.int (iI mq), .int (iI ((L.length : Nat) : Int)), va_rf (llF L), va_rf (llH L)])), (it, .inr (9, [.null, .null, .int (iI 0), .int (iI mq), .ref ll]))] ++ (llW none L)) := hD
  refine lv_aload_n kx kb dJ27_init_20 rfl (lv_at hl 0 rfl) ?_
  refine lv_iload_n kx kb dJ27_init_21 rfl (lv_at hl 2 rfl) ?_
  refine lv_aload_n kx kb dJ27_init_22 rfl (lv_at hl 1 rfl) ?_
  refine va_get (D := D.1) (ci := 6) (v := .int (iI ((L.length : Nat) : Int))) (C := RJ24) (T := TJ24) (N := 4) kx kb hts in_J24 hown hK hP 0 rfl rfl 1 (by decide) (hts _ q725) (fun _ h9 => h9) rfl dJ27_init_23 ?_
  refine ti_icmp_ne (tgt := 33) kx kb (by omega) dJ27_init_26 (by decide) (fun h26 => ?_) (fun h26 => ?_)
  · refine lv_aload_n kx kb dJ27_init_33 rfl (lv_at hl 1 rfl) ?_
    refine lv_iload_n kx kb dJ27_init_34 rfl (lv_at hl 2 rfl) ?_
    refine t_callRV C (met_J24_node l D E ll mq L 0 (by omega)) (cwV 1 hts (lw_V q1044 q1045 q1046 q90 q1047) rfl rfl rfl (by decide +kernel) ⟨Nat.le_of_ble_eq_true rfl, Nat.le_of_ble_eq_true rfl⟩) (va_recv hK hP (ci := 6) (q0 := 0) rfl rfl) hK hX hP hD hS hA ([0] ++ List.range' 2 (llW none L).length) (pl_R (fx := [(ll, .inr (6, [.int (iI mq), .int (iI ((L.length : Nat) : Int)), va_rf (llF L), va_rf (llH L)])), (it, .inr (9, [.null, .null, .int (iI 0), .int (iI mq), .ref ll]))]) (pool := llW none L) rfl) (pl_ndR (by decide) (by decide)) tYb_0 (fun _ _ _ => trivial) rfl hl.1 rfl (Nat.le_of_ble_eq_true rfl) dJ27_init_35 ⟨(show 0 ≤ 0 from by omega), (show 0 ≤ 0 from by omega)⟩ ?_
    refine W.eq (g2 := F0 m0 38 ls [.ref ((llG L 0).1), .ref it]) rfl ?_
    refine va_put (D := D.1) (ci := 9) (v := .ref ((llG L 0).1)) (ty := (.object "java/util/LinkedList$Node")) (C := RJ27) (T := TJ27) (N := 5) kx kb hts in_J27 tyJ27 tyJ27_ok nmJ27 hown hK hP hD hS 1 rfl rfl 1 (by decide) (hts _ q1049) (fun _ h9 => h9) rfl (by decide +kernel) rfl rfl (Nat.le_of_ble_eq_true rfl) dJ27_init_38 (fun H locs hP hD hS => ?_)
    have hP : va_P D.1 clAll ([(ll, .inr (6, [.int (iI mq), .int (iI ((L.length : Nat) : Int)), va_rf (llF L), va_rf (llH L)])), (it, .inr (9, [.null, .ref ((llG L 0).1), .int (iI 0), .int (iI mq), .ref ll]))] ++ (llW none L)) H := hP
    have hD : va_D A ([(ll, .inr (6, [.int (iI mq), .int (iI ((L.length : Nat) : Int)), va_rf (llF L), va_rf (llH L)])), (it, .inr (9, [.null, .ref ((llG L 0).1), .int (iI 0), .int (iI mq), .ref ll]))] ++ (llW none L)) := hD
    have hP : va_P D.1 clAll ([(ll, .inr (6, [.int (iI mq), .int (iI ((L.length : Nat) : Int)), va_rf (llF L), va_rf (llH L)])), (it, .inr (9, [.null, va_rf (llXt L 0), .int (iI 0), .int (iI mq), .ref ll]))] ++ (llW none L)) H := by rw [show llXt L 0 = some (llG L 0).1 from if_pos (by omega)]; exact hP
    have hD : va_D A ([(ll, .inr (6, [.int (iI mq), .int (iI ((L.length : Nat) : Int)), va_rf (llF L), va_rf (llH L)])), (it, .inr (9, [.null, va_rf (llXt L 0), .int (iI 0), .int (iI mq), .ref ll]))] ++ (llW none L)) := by rw [show llXt L 0 = some (llG L 0).1 from if_pos (by omega)]; exact hD
    refine lv_aload_n kx kb dJ27_init_41 rfl (lv_at hl 0 rfl) ?_
    refine lv_iload_n kx kb dJ27_init_42 rfl (lv_at hl 2 rfl) ?_
    refine va_put (D := D.1) (ci := 9) (v := .int (iI 0)) (ty := .int) (C := RJ27) (T := TJ27) (N := 5) kx kb hts in_J27 tyJ27 tyJ27_ok nmJ27 hown hK hP hD hS 1 rfl rfl 2 (by decide) (hts _ q1050) (fun _ h9 => h9) rfl (by decide +kernel) rfl rfl (Nat.le_of_ble_eq_true rfl) dJ27_init_43 (fun H locs hP hD hS => ?_)
    have hP : va_P D.1 clAll ([(ll, .inr (6, [.int (iI mq), .int (iI ((L.length : Nat) : Int)), va_rf (llF L), va_rf (llH L)])), (it, .inr (9, [.null, va_rf (llXt L 0), .int (iI 0), .int (iI mq), .ref ll]))] ++ (llW none L)) H := hP
    have hD : va_D A ([(ll, .inr (6, [.int (iI mq), .int (iI ((L.length : Nat) : Int)), va_rf (llF L), va_rf (llH L)])), (it, .inr (9, [.null, va_rf (llXt L 0), .int (iI 0), .int (iI mq), .ref ll]))] ++ (llW none L)) := hD
    subst hQ
    exact tm_vret C () trivial hP hD hS (show 0 ≤ 0 from by omega) (show 0 ≤ 0 from by omega) rfl rfl dJ27_init_46
  · refine lv_null kx kb dJ27_init_29 ?_
    refine lv_goto (tgt := 38) kx kb dJ27_init_30 (by decide) ?_
    refine va_put (D := D.1) (ci := 9) (v := .null) (ty := (.object "java/util/LinkedList$Node")) (C := RJ27) (T := TJ27) (N := 5) kx kb hts in_J27 tyJ27 tyJ27_ok nmJ27 hown hK hP hD hS 1 rfl rfl 1 (by decide) (hts _ q1049) (fun _ h9 => h9) rfl (by decide +kernel) rfl rfl (Nat.le_of_ble_eq_true rfl) dJ27_init_38 (fun H locs hP hD hS => ?_)
    have hP : va_P D.1 clAll ([(ll, .inr (6, [.int (iI mq), .int (iI ((L.length : Nat) : Int)), va_rf (llF L), va_rf (llH L)])), (it, .inr (9, [.null, .null, .int (iI 0), .int (iI mq), .ref ll]))] ++ (llW none L)) H := hP
    have hD : va_D A ([(ll, .inr (6, [.int (iI mq), .int (iI ((L.length : Nat) : Int)), va_rf (llF L), va_rf (llH L)])), (it, .inr (9, [.null, .null, .int (iI 0), .int (iI mq), .ref ll]))] ++ (llW none L)) := hD
    have hP : va_P D.1 clAll ([(ll, .inr (6, [.int (iI mq), .int (iI ((L.length : Nat) : Int)), va_rf (llF L), va_rf (llH L)])), (it, .inr (9, [.null, va_rf (llXt L 0), .int (iI 0), .int (iI mq), .ref ll]))] ++ (llW none L)) H := by rw [show llXt L 0 = none from if_neg (by omega)]; exact hP
    have hD : va_D A ([(ll, .inr (6, [.int (iI mq), .int (iI ((L.length : Nat) : Int)), va_rf (llF L), va_rf (llH L)])), (it, .inr (9, [.null, va_rf (llXt L 0), .int (iI 0), .int (iI mq), .ref ll]))] ++ (llW none L)) := by rw [show llXt L 0 = none from if_neg (by omega)]; exact hD
    refine lv_aload_n kx kb dJ27_init_41 rfl (lv_at hl 0 rfl) ?_
    refine lv_iload_n kx kb dJ27_init_42 rfl (lv_at hl 2 rfl) ?_
    refine va_put (D := D.1) (ci := 9) (v := .int (iI 0)) (ty := .int) (C := RJ27) (T := TJ27) (N := 5) kx kb hts in_J27 tyJ27 tyJ27_ok nmJ27 hown hK hP hD hS 1 rfl rfl 2 (by decide) (hts _ q1050) (fun _ h9 => h9) rfl (by decide +kernel) rfl rfl (Nat.le_of_ble_eq_true rfl) dJ27_init_43 (fun H locs hP hD hS => ?_)
    have hP : va_P D.1 clAll ([(ll, .inr (6, [.int (iI mq), .int (iI ((L.length : Nat) : Int)), va_rf (llF L), va_rf (llH L)])), (it, .inr (9, [.null, va_rf (llXt L 0), .int (iI 0), .int (iI mq), .ref ll]))] ++ (llW none L)) H := hP
    have hD : va_D A ([(ll, .inr (6, [.int (iI mq), .int (iI ((L.length : Nat) : Int)), va_rf (llF L), va_rf (llH L)])), (it, .inr (9, [.null, va_rf (llXt L 0), .int (iI 0), .int (iI mq), .ref ll]))] ++ (llW none L)) := hD
    subst hQ
    exact tm_vret C () trivial hP hD hS (show 0 ≤ 0 from by omega) (show 0 ≤ 0 from by omega) rfl rfl dJ27_init_46
set_option maxHeartbeats 4000000 in
set_option maxRecDepth 100000 in
theorem met_J27_hasNext (l : Launch) (D : TG) (E : TE) (it : Nat) (ll : Nat) (mq : Int) (L : List RR) (lr : Option Nat) (nx : Option Nat) (i : Nat) (hi : i ≤ L.length ∧ L.length ≤ 100) : tRd l yJ27_hasNext cJ27_hasNext 1 (some .boolean) 0 0 [.ref it] D E [(it, .inr (9, [va_rf lr, va_rf nx, .int (iI ((i : Nat) : Int)), .int (iI mq), .ref ll])), (ll, .inr (6, [.int (iI mq), .int (iI ((L.length : Nat) : Int)), va_rf (llF L), va_rf (llH L)]))] tY0 (some (.int (zI (decide (i < L.length))))) := by
  refine tu_rd (by decide +kernel) (Nat.le_of_ble_eq_true rfl) ?_
  intro p0 e0 s0 m0 below meth c0 A ls args Q hag hQ C hK hX hY hP hD hA hAe hl
  obtain ⟨kx, kb, hml, hown, hts, -⟩ := id C
  have hS : va_S A s0.heap s0.heap [] := va_S.rf
  have hl : lv_has ls 1 [(0, .ref it)] := hl
  refine lv_aload_n kx kb dJ27_hasNext_0 rfl (lv_at hl 0 rfl) ?_
  refine va_get (D := D.1) (ci := 9) (v := .int (iI ((i : Nat) : Int))) (C := RJ27) (T := TJ27) (N := 5) kx kb hts in_J27 hown hK hP 0 rfl rfl 2 (by decide) (hts _ q1050) (fun _ h9 => h9) rfl dJ27_hasNext_1 ?_
  refine lv_aload_n kx kb dJ27_hasNext_4 rfl (lv_at hl 0 rfl) ?_
  refine va_get (D := D.1) (ci := 9) (v := .ref ll) (C := RJ27) (T := TJ27) (N := 5) kx kb hts in_J27 hown hK hP 0 rfl rfl 4 (by decide) (hts _ q1052) (fun _ h9 => h9) rfl dJ27_hasNext_5 ?_
  refine va_get (D := D.1) (ci := 6) (v := .int (iI ((L.length : Nat) : Int))) (C := RJ24) (T := TJ24) (N := 4) kx kb hts in_J24 hown hK hP 1 rfl rfl 1 (by decide) (hts _ q725) (fun _ h9 => h9) rfl dJ27_hasNext_8 ?_
  refine ti_icmp_ge (tgt := 18) kx kb (by omega) dJ27_hasNext_11 (by decide) (fun h11 => ?_) (fun h11 => ?_)
  · refine lv_iconst (v := iI 0) kx kb dJ27_hasNext_18 rfl ?_
    refine W.eq (g2 := F0 m0 19 ls [.int (zI false)]) rfl ?_
    subst hQ
    exact tr_zret C rfl (by rw [decide_eq_false (p := i < L.length) (by omega)]) dJ27_hasNext_19
  · refine lv_iconst (v := iI 1) kx kb dJ27_hasNext_14 rfl ?_
    refine lv_goto (tgt := 19) kx kb dJ27_hasNext_15 (by decide) ?_
    refine W.eq (g2 := F0 m0 19 ls [.int (zI true)]) rfl ?_
    subst hQ
    exact tr_zret C rfl (by rw [decide_eq_true (p := i < L.length) (by omega)]) dJ27_hasNext_19
set_option maxHeartbeats 4000000 in
set_option maxRecDepth 100000 in
theorem met_J27_checkForComodification (l : Launch) (D : TG) (E : TE) (it : Nat) (ll : Nat) (mq : Int) (L : List RR) (lr : Option Nat) (nx : Option Nat) (i : Nat) : tRd l yJ27_checkForComodification cJ27_checkForComodification 1 none 0 0 [.ref it] D E [(it, .inr (9, [va_rf lr, va_rf nx, .int (iI ((i : Nat) : Int)), .int (iI mq), .ref ll])), (ll, .inr (6, [.int (iI mq), .int (iI ((L.length : Nat) : Int)), va_rf (llF L), va_rf (llH L)]))] tY0 (none) := by
  refine tu_rd (by decide +kernel) (Nat.le_of_ble_eq_true rfl) ?_
  intro p0 e0 s0 m0 below meth c0 A ls args Q hag hQ C hK hX hY hP hD hA hAe hl
  obtain ⟨kx, kb, hml, hown, hts, -⟩ := id C
  have hS : va_S A s0.heap s0.heap [] := va_S.rf
  have hl : lv_has ls 1 [(0, .ref it)] := hl
  refine lv_aload_n kx kb dJ27_checkForComodification_0 rfl (lv_at hl 0 rfl) ?_
  refine va_get (D := D.1) (ci := 9) (v := .ref ll) (C := RJ27) (T := TJ27) (N := 5) kx kb hts in_J27 hown hK hP 0 rfl rfl 4 (by decide) (hts _ q1052) (fun _ h9 => h9) rfl dJ27_checkForComodification_1 ?_
  refine va_get (D := D.1) (ci := 6) (v := .int (iI mq)) (C := RJ24) (T := TJ24) (N := 4) kx kb hts in_J24 hown hK hP 1 rfl rfl 0 (by decide) (hts _ q729) (fun x9 h9 => u_same (hts _ q730) x9 h9) rfl dJ27_checkForComodification_4 ?_
  refine lv_aload_n kx kb dJ27_checkForComodification_7 rfl (lv_at hl 0 rfl) ?_
  refine va_get (D := D.1) (ci := 9) (v := .int (iI mq)) (C := RJ27) (T := TJ27) (N := 5) kx kb hts in_J27 hown hK hP 0 rfl rfl 3 (by decide) (hts _ q1051) (fun _ h9 => h9) rfl dJ27_checkForComodification_8 ?_
  refine lv_icmp_eq (tgt := 22) kx kb dJ27_checkForComodification_11 (by decide) (fun h11 => ?_) (fun h11 => ?_)
  · subst hQ
    exact tr_vret C rfl rfl dJ27_checkForComodification_22
  · exact absurd rfl h11
set_option maxHeartbeats 4000000 in
set_option maxRecDepth 100000 in
theorem met_J27_next (l : Launch) (D : TG) (E : TE) (it : Nat) (ll : Nat) (mq : Int) (L : List RR) (lr : Option Nat) (i : Nat) (hi : i < L.length ∧ L.length ≤ 100) : tMet l yJ27_next cJ27_next 1 (some (.object "java/lang/Object")) 1 20 (0) (0) [.ref it] D E ([(it, .inr (9, [va_rf lr, .ref ((llG L i).1), .int (iI ((i : Nat) : Int)), .int (iI mq), .ref ll])), (ll, .inr (6, [.int (iI mq), .int (iI ((L.length : Nat) : Int)), va_rf (llF L), va_rf (llH L)]))] ++ (llW none L)) tY0 (S := Unit) (fun u_ => True) (fun u_ => some (.ref ((llG L i).2.1))) (fun u_ => ([(it, .inr (9, [.ref ((llG L i).1), va_rf (llXt L (i + 1)), .int (iI ((i + 1 : Nat) : Int)), .int (iI mq), .ref ll])), (ll, .inr (6, [.int (iI mq), .int (iI ((L.length : Nat) : Int)), va_rf (llF L), va_rf (llH L)]))] ++ (llW none L))) := by
  refine tu_met (by decide +kernel) (Nat.le_of_ble_eq_true rfl) ?_
  intro p0 e0 s0 m0 below meth c0 A ls args Q hag hQ C hK hX hY hP hD hA hAe hl
  obtain ⟨kx, kb, hml, hown, hts, -⟩ := id C
  have hS : va_S A s0.heap s0.heap [] := va_S.rf
  have hl : lv_has ls 1 [(0, .ref it)] := hl
  refine lv_aload_n kx kb dJ27_next_0 rfl (lv_at hl 0 rfl) ?_
  refine t_callRV C (met_J27_checkForComodification l D E it ll mq L lr (some ((llG L i).1)) i) (cwV 0 hts (lw_V q1162 q1163 q1164 q95 q1165) rfl rfl rfl (by decide +kernel) ⟨Nat.le_of_ble_eq_true rfl, Nat.le_of_ble_eq_true rfl⟩) (va_recv hK hP (ci := 9) (q0 := 0) rfl rfl) hK hX hP hD hS hA [0, 1] (pl_F (fx := [(it, .inr (9, [va_rf lr, .ref ((llG L i).1), .int (iI ((i : Nat) : Int)), .int (iI mq), .ref ll])), (ll, .inr (6, [.int (iI mq), .int (iI ((L.length : Nat) : Int)), va_rf (llF L), va_rf (llH L)]))]) (pool := llW none L) rfl) (by decide) tYb_0 (fun _ _ _ => trivial) rfl hl.1 rfl (Nat.le_of_ble_eq_true rfl) dJ27_next_1 ⟨(show 0 ≤ 0 from by omega), (show 0 ≤ 0 from by omega)⟩ ?_
  refine W.eq (g2 := F0 m0 4 ls []) rfl ?_
  refine lv_aload_n kx kb dJ27_next_4 rfl (lv_at hl 0 rfl) ?_
  refine t_callRV C (met_J27_hasNext l D E it ll mq L lr (some ((llG L i).1)) i (by omega)) (cwV 0 hts (lw_V q1166 q1082 q1688 q95 q1084) rfl rfl rfl (by decide +kernel) ⟨Nat.le_of_ble_eq_true rfl, Nat.le_of_ble_eq_true rfl⟩) (va_recv hK hP (ci := 9) (q0 := 0) rfl rfl) hK hX hP hD hS hA [0, 1] (pl_F (fx := [(it, .inr (9, [va_rf lr, .ref ((llG L i).1), .int (iI ((i : Nat) : Int)), .int (iI mq), .ref ll])), (ll, .inr (6, [.int (iI mq), .int (iI ((L.length : Nat) : Int)), va_rf (llF L), va_rf (llH L)]))]) (pool := llW none L) rfl) (by decide) tYb_0 (fun _ _ _ => trivial) rfl hl.1 rfl (Nat.le_of_ble_eq_true rfl) dJ27_next_5 ⟨(show 0 ≤ 0 from by omega), (show 0 ≤ 0 from by omega)⟩ ?_
  refine W.eq (g2 := F0 m0 8 ls [.int (zI (decide (i < L.length)))]) rfl ?_
  refine tz_if_ne (tgt := 19) kx kb dJ27_next_8 (by decide) (fun h8 => ?_) (fun h8 => ?_)
  · simp only [decide_eq_true_eq, decide_eq_false_iff_not] at h8
    refine lv_aload_n kx kb dJ27_next_19 rfl (lv_at hl 0 rfl) ?_
    refine lv_aload_n kx kb dJ27_next_20 rfl (lv_at hl 0 rfl) ?_
    refine va_get (D := D.1) (ci := 9) (v := .ref ((llG L i).1)) (C := RJ27) (T := TJ27) (N := 5) kx kb hts in_J27 hown hK hP 0 rfl rfl 1 (by decide) (hts _ q1049) (fun _ h9 => h9) rfl dJ27_next_21 ?_
    refine va_put (D := D.1) (ci := 9) (v := .ref ((llG L i).1)) (ty := (.object "java/util/LinkedList$Node")) (C := RJ27) (T := TJ27) (N := 5) kx kb hts in_J27 tyJ27 tyJ27_ok nmJ27 hown hK hP hD hS 0 rfl rfl 0 (by decide) (hts _ q1048) (fun _ h9 => h9) rfl (by decide +kernel) rfl rfl (Nat.le_of_ble_eq_true rfl) dJ27_next_24 (fun H locs hP hD hS => ?_)
    have hP : va_P D.1 clAll ([(it, .inr (9, [.ref ((llG L i).1), .ref ((llG L i).1), .int (iI ((i : Nat) : Int)), .int (iI mq), .ref ll])), (ll, .inr (6, [.int (iI mq), .int (iI ((L.length : Nat) : Int)), va_rf (llF L), va_rf (llH L)]))] ++ (llW none L)) H := hP
    have hD : va_D A ([(it, .inr (9, [.ref ((llG L i).1), .ref ((llG L i).1), .int (iI ((i : Nat) : Int)), .int (iI mq), .ref ll])), (ll, .inr (6, [.int (iI mq), .int (iI ((L.length : Nat) : Int)), va_rf (llF L), va_rf (llH L)]))] ++ (llW none L)) := hD
    refine lv_aload_n kx kb dJ27_next_27 rfl (lv_at hl 0 rfl) ?_
    refine lv_aload_n kx kb dJ27_next_28 rfl (lv_at hl 0 rfl) ?_
    refine va_get (D := D.1) (ci := 9) (v := .ref ((llG L i).1)) (C := RJ27) (T := TJ27) (N := 5) kx kb hts in_J27 hown hK hP 0 rfl rfl 1 (by decide) (hts _ q1049) (fun _ h9 => h9) rfl dJ27_next_29 ?_
    obtain ⟨kq, hkq⟩ := List.mem_iff_getElem?.mp (show _ ∈ ([(it, .inr (9, [.ref ((llG L i).1), .ref ((llG L i).1), .int (iI ((i : Nat) : Int)), .int (iI mq), .ref ll])), (ll, .inr (6, [.int (iI mq), .int (iI ((L.length : Nat) : Int)), va_rf (llF L), va_rf (llH L)]))] ++ (llW none L)) from by have h9_ := ll_node (L := L) (nx := none) (k := i) (by omega); simp only [List.mem_append]; first | exact Or.inr h9_ | exact Or.inr (Or.inr h9_) | exact Or.inr (Or.inl h9_) | exact Or.inr (Or.inr (Or.inr h9_)))
    refine va_get (D := D.1) (ci := 7) (v := va_rf (llNx none L i)) (C := RJ25) (T := TJ25) (N := 3) kx kb hts in_J25 hown hK hP kq hkq rfl 1 (by decide) (hts _ q795) (fun _ h9 => h9) rfl dJ27_next_32 ?_
    refine va_put (D := D.1) (ci := 9) (v := va_rf (llNx none L i)) (ty := (.object "java/util/LinkedList$Node")) (C := RJ27) (T := TJ27) (N := 5) kx kb hts in_J27 tyJ27 tyJ27_ok nmJ27 hown hK hP hD hS 0 rfl rfl 1 (by decide) (hts _ q1049) (fun _ h9 => h9) rfl (by decide +kernel) (txO_nar _ _) (txO_fit _ _) (Nat.le_of_ble_eq_true rfl) dJ27_next_35 (fun H locs hP hD hS => ?_)
    have hP : va_P D.1 clAll ([(it, .inr (9, [.ref ((llG L i).1), va_rf (llNx none L i), .int (iI ((i : Nat) : Int)), .int (iI mq), .ref ll])), (ll, .inr (6, [.int (iI mq), .int (iI ((L.length : Nat) : Int)), va_rf (llF L), va_rf (llH L)]))] ++ (llW none L)) H := hP
    have hD : va_D A ([(it, .inr (9, [.ref ((llG L i).1), va_rf (llNx none L i), .int (iI ((i : Nat) : Int)), .int (iI mq), .ref ll])), (ll, .inr (6, [.int (iI mq), .int (iI ((L.length : Nat) : Int)), va_rf (llF L), va_rf (llH L)]))] ++ (llW none L)) := hD
    have hP : va_P D.1 clAll ([(it, .inr (9, [.ref ((llG L i).1), va_rf (llXt L (i + 1)), .int (iI ((i : Nat) : Int)), .int (iI mq), .ref ll])), (ll, .inr (6, [.int (iI mq), .int (iI ((L.length : Nat) : Int)), va_rf (llF L), va_rf (llH L)]))] ++ (llW none L)) H := by skip; exact hP
    have hD : va_D A ([(it, .inr (9, [.ref ((llG L i).1), va_rf (llXt L (i + 1)), .int (iI ((i : Nat) : Int)), .int (iI mq), .ref ll])), (ll, .inr (6, [.int (iI mq), .int (iI ((L.length : Nat) : Int)), va_rf (llF L), va_rf (llH L)]))] ++ (llW none L)) := by skip; exact hD
    refine lv_aload_n kx kb dJ27_next_38 rfl (lv_at hl 0 rfl) ?_
    refine lv_dup kx kb dJ27_next_39 rfl ?_
    refine va_get (D := D.1) (ci := 9) (v := .int (iI ((i : Nat) : Int))) (C := RJ27) (T := TJ27) (N := 5) kx kb hts in_J27 hown hK hP 0 rfl rfl 2 (by decide) (hts _ q1050) (fun _ h9 => h9) rfl dJ27_next_40 ?_
    refine lv_iconst (v := iI 1) kx kb dJ27_next_43 rfl ?_
    refine ti_iadd kx kb dJ27_next_44 ?_
    refine va_put (D := D.1) (ci := 9) (v := .int (iI (((i : Nat) : Int) + 1))) (ty := .int) (C := RJ27) (T := TJ27) (N := 5) kx kb hts in_J27 tyJ27 tyJ27_ok nmJ27 hown hK hP hD hS 0 rfl rfl 2 (by decide) (hts _ q1050) (fun _ h9 => h9) rfl (by decide +kernel) rfl rfl (Nat.le_of_ble_eq_true rfl) dJ27_next_45 (fun H locs hP hD hS => ?_)
    have hP : va_P D.1 clAll ([(it, .inr (9, [.ref ((llG L i).1), va_rf (llXt L (i + 1)), .int (iI (((i : Nat) : Int) + 1)), .int (iI mq), .ref ll])), (ll, .inr (6, [.int (iI mq), .int (iI ((L.length : Nat) : Int)), va_rf (llF L), va_rf (llH L)]))] ++ (llW none L)) H := hP
    have hD : va_D A ([(it, .inr (9, [.ref ((llG L i).1), va_rf (llXt L (i + 1)), .int (iI (((i : Nat) : Int) + 1)), .int (iI mq), .ref ll])), (ll, .inr (6, [.int (iI mq), .int (iI ((L.length : Nat) : Int)), va_rf (llF L), va_rf (llH L)]))] ++ (llW none L)) := hD
    have hP : va_P D.1 clAll ([(it, .inr (9, [.ref ((llG L i).1), va_rf (llXt L (i + 1)), .int (iI ((i + 1 : Nat) : Int)), .int (iI mq), .ref ll])), (ll, .inr (6, [.int (iI mq), .int (iI ((L.length : Nat) : Int)), va_rf (llF L), va_rf (llH L)]))] ++ (llW none L)) H := by rw [show ((i + 1 : Nat) : Int) = ((i : Nat) : Int) + 1 from rfl]; exact hP
    have hD : va_D A ([(it, .inr (9, [.ref ((llG L i).1), va_rf (llXt L (i + 1)), .int (iI ((i + 1 : Nat) : Int)), .int (iI mq), .ref ll])), (ll, .inr (6, [.int (iI mq), .int (iI ((L.length : Nat) : Int)), va_rf (llF L), va_rf (llH L)]))] ++ (llW none L)) := by rw [show ((i + 1 : Nat) : Int) = ((i : Nat) : Int) + 1 from rfl]; exact hD
    refine lv_aload_n kx kb dJ27_next_48 rfl (lv_at hl 0 rfl) ?_
    refine va_get (D := D.1) (ci := 9) (v := .ref ((llG L i).1)) (C := RJ27) (T := TJ27) (N := 5) kx kb hts in_J27 hown hK hP 0 rfl rfl 0 (by decide) (hts _ q1048) (fun _ h9 => h9) rfl dJ27_next_49 ?_
    obtain ⟨kq, hkq⟩ := List.mem_iff_getElem?.mp (show _ ∈ ([(it, .inr (9, [.ref ((llG L i).1), va_rf (llXt L (i + 1)), .int (iI ((i + 1 : Nat) : Int)), .int (iI mq), .ref ll])), (ll, .inr (6, [.int (iI mq), .int (iI ((L.length : Nat) : Int)), va_rf (llF L), va_rf (llH L)]))] ++ (llW none L)) from by have h9_ := ll_node (L := L) (nx := none) (k := i) (by omega); simp only [List.mem_append]; first | exact Or.inr h9_ | exact Or.inr (Or.inr h9_) | exact Or.inr (Or.inl h9_) | exact Or.inr (Or.inr (Or.inr h9_)))
    refine va_get (D := D.1) (ci := 7) (v := .ref ((llG L i).2.1)) (C := RJ25) (T := TJ25) (N := 3) kx kb hts in_J25 hown hK hP kq hkq rfl 0 (by decide) (hts _ q792) (fun _ h9 => h9) rfl dJ27_next_52 ?_
    subst hQ
    exact tm_aret C () trivial hP hD hS (show 0 ≤ 0 from by omega) (show 0 ≤ 0 from by omega) rfl rfl (Or.inl ⟨_, rfl⟩) (Or.inr ⟨_, rfl⟩) dJ27_next_55
  · simp only [decide_eq_false_iff_not] at h8; omega
set_option maxHeartbeats 4000000 in
set_option maxRecDepth 100000 in
theorem met_J24_listIterator (l : Launch) (D : TG) (E : TE) (ll : Nat) (mq : Int) (L : List RR) (hL : L.length ≤ 100) : tMet l yJ24_listIterator cJ24_listIterator 2 (some (.object "java/util/ListIterator")) 2 62 (1) (5) [.ref ll, .int (iI 0)] D E ([(ll, .inr (6, [.int (iI mq), .int (iI ((L.length : Nat) : Int)), va_rf (llF L), va_rf (llH L)]))] ++ (llW none L)) tY0 (S := Nat) (fun u_ => True) (fun u_ => some (.ref u_)) (fun u_ => ([(ll, .inr (6, [.int (iI mq), .int (iI ((L.length : Nat) : Int)), va_rf (llF L), va_rf (llH L)])), (u_, .inr (9, [.null, va_rf (llXt L 0), .int (iI 0), .int (iI mq), .ref ll]))] ++ (llW none L))) := by
  refine tu_met (by decide +kernel) (Nat.le_of_ble_eq_true rfl) ?_
  intro p0 e0 s0 m0 below meth c0 A ls args Q hag hQ C hK hX hY hP hD hA hAe hl
  obtain ⟨kx, kb, hml, hown, hts, -⟩ := id C
  have hS : va_S A s0.heap s0.heap [] := va_S.rf
  have hl : lv_has ls 2 [(0, .ref ll), (1, .int (iI 0))] := hl
  refine lv_aload_n kx kb dJ24_listIterator_0 rfl (lv_at hl 0 rfl) ?_
  refine lv_iload_n kx kb dJ24_listIterator_1 rfl (lv_at hl 1 rfl) ?_
  refine t_callRV C (met_J24_checkPositionIndex l D E ll mq L (by first | assumption | omega)) (cwV 1 hts (lw_V q1017 q1019 qs13 q90 q1020) rfl rfl rfl (by decide +kernel) ⟨Nat.le_of_ble_eq_true rfl, Nat.le_of_ble_eq_true rfl⟩) (va_recv hK hP (ci := 6) (q0 := 0) rfl rfl) hK hX hP hD hS hA [0] (pl_F (fx := [(ll, .inr (6, [.int (iI mq), .int (iI ((L.length : Nat) : Int)), va_rf (llF L), va_rf (llH L)]))]) (pool := llW none L) rfl) (by decide) tYb_0 (fun _ _ _ => trivial) rfl hl.1 rfl (Nat.le_of_ble_eq_true rfl) dJ24_listIterator_2 ⟨(show 0 ≤ 1 from by omega), (show 0 ≤ 5 from by omega)⟩ ?_
  refine W.eq (g2 := F0 m0 5 ls []) rfl ?_
  refine va_new (D := D.1) (ci := 9) (fs := [.null, .null, .int (iI 0), .int (iI 0), .null]) (C := RJ27) (T := TJ27) (N := 5) kx kb hts in_J27 tyJ27 tyJ27_ok hown (hts _ q1038) (hts _ q1039) (hts _ q95) hK hP hD hS hA rfl (fun j hj => by rcases (show j = 0 ∨ j = 1 ∨ j = 2 ∨ j = 3 ∨ j = 4 by omega) with rfl | rfl | rfl | rfl | rfl <;> rfl) (show 1 ≤ 1 from by omega) (show 5 ≤ 5 from by omega) dJ24_listIterator_5 (fun q_1 H hP hD hS => ?_)
  have hP := pl_P hP
  have hD := pl_D hD
  have hP : va_P D.1 clAll ([(ll, .inr (6, [.int (iI mq), .int (iI ((L.length : Nat) : Int)), va_rf (llF L), va_rf (llH L)])), (q_1, .inr (9, [.null, .null, .int (iI 0), .int (iI 0), .null]))] ++ (llW none L)) H := hP
  have hD : va_D A ([(ll, .inr (6, [.int (iI mq), .int (iI ((L.length : Nat) : Int)), va_rf (llF L), va_rf (llH L)])), (q_1, .inr (9, [.null, .null, .int (iI 0), .int (iI 0), .null]))] ++ (llW none L)) := hD
  refine lv_dup kx kb dJ24_listIterator_8 rfl ?_
  refine lv_aload_n kx kb dJ24_listIterator_9 rfl (lv_at hl 0 rfl) ?_
  refine lv_iload_n kx kb dJ24_listIterator_10 rfl (lv_at hl 1 rfl) ?_
  refine t_callI (wr := []) C (met_J27_init l D E q_1 ll mq L (by first | assumption | omega)) (cwI 2 hts (lw_meth q1042) rfl rfl rfl (hts _ q95) (hts _ q1040) (hts _ q1041) rfl (by decide +kernel) ⟨Nat.le_of_ble_eq_true rfl, Nat.le_of_ble_eq_true rfl⟩) hK hX hP hD hS hA ([0, 1] ++ List.range' 2 (llW none L).length) [] (pl_R (fx := [(ll, .inr (6, [.int (iI mq), .int (iI ((L.length : Nat) : Int)), va_rf (llF L), va_rf (llH L)])), (q_1, .inr (9, [.null, .null, .int (iI 0), .int (iI 0), .null]))]) (pool := llW none L) rfl) (pl_F (fx := [(ll, .inr (6, [.int (iI mq), .int (iI ((L.length : Nat) : Int)), va_rf (llF L), va_rf (llH L)])), (q_1, .inr (9, [.null, .null, .int (iI 0), .int (iI 0), .null]))]) (pool := llW none L) rfl) (pl_ndR (by decide) (by decide)) (by decide) (pl_dis1 (by decide) (by decide)) tYb_0 (fun _ _ _ => trivial) rfl hl.1 rfl (Nat.le_of_ble_eq_true rfl) dJ24_listIterator_11 ⟨(show 1 ≤ 1 from by omega), (show 5 ≤ 5 from by omega)⟩ (fun u_ H locs hp hP hD hS => ?_)
  have hP : va_P D.1 clAll ([(ll, .inr (6, [.int (iI mq), .int (iI ((L.length : Nat) : Int)), va_rf (llF L), va_rf (llH L)])), (q_1, .inr (9, [.null, va_rf (llXt L 0), .int (iI 0), .int (iI mq), .ref ll]))] ++ (llW none L)) H := hP
  have hD : va_D A ([(ll, .inr (6, [.int (iI mq), .int (iI ((L.length : Nat) : Int)), va_rf (llF L), va_rf (llH L)])), (q_1, .inr (9, [.null, va_rf (llXt L 0), .int (iI 0), .int (iI mq), .ref ll]))] ++ (llW none L)) := hD
  refine W.eq (g2 := F0 m0 14 ls [.ref q_1]) rfl ?_
  subst hQ
  exact tm_aret C q_1 trivial hP hD hS (show 1 ≤ 1 from by omega) (show 5 ≤ 5 from by omega) rfl rfl (Or.inl ⟨_, rfl⟩) (Or.inr ⟨_, rfl⟩) dJ24_listIterator_14
set_option maxHeartbeats 4000000 in
set_option maxRecDepth 100000 in
theorem met_J22_listIterator (l : Launch) (D : TG) (E : TE) (ll : Nat) (mq : Int) (L : List RR) (hL : L.length ≤ 100) : tMet l yJ22_listIterator cJ22_listIterator 1 (some (.object "java/util/ListIterator")) 3 83 (1) (5) [.ref ll] D E ([(ll, .inr (6, [.int (iI mq), .int (iI ((L.length : Nat) : Int)), va_rf (llF L), va_rf (llH L)]))] ++ (llW none L)) tY0 (S := Nat) (fun u_ => True) (fun u_ => some (.ref u_)) (fun u_ => ([(ll, .inr (6, [.int (iI mq), .int (iI ((L.length : Nat) : Int)), va_rf (llF L), va_rf (llH L)])), (u_, .inr (9, [.null, va_rf (llXt L 0), .int (iI 0), .int (iI mq), .ref ll]))] ++ (llW none L))) := by
  refine tu_met (by decide +kernel) (Nat.le_of_ble_eq_true rfl) ?_
  intro p0 e0 s0 m0 below meth c0 A ls args Q hag hQ C hK hX hY hP hD hA hAe hl
  obtain ⟨kx, kb, hml, hown, hts, -⟩ := id C
  have hS : va_S A s0.heap s0.heap [] := va_S.rf
  have hl : lv_has ls 1 [(0, .ref ll)] := hl
  refine lv_aload_n kx kb dJ22_listIterator_0 rfl (lv_at hl 0 rfl) ?_
  refine lv_iconst (v := iI 0) kx kb dJ22_listIterator_1 rfl ?_
  refine t_callU (wr := []) C (met_J24_listIterator l D E ll mq L (by first | assumption | omega)) (va_cwA (x := (⟨"java/util/AbstractList", "listIterator", "(I)Ljava/util/ListIterator;"⟩ : MethodName)) (y := yJ24_listIterator) (owner := "java/util/AbstractList") 1 hts (lw_U q1011 q1013 q1014 q1015 q90 q1016) rfl rfl rfl (hX.1 _ q1064 rfl) (by decide +kernel) ⟨Nat.le_of_ble_eq_true rfl, Nat.le_of_ble_eq_true rfl⟩) (va_recv hK hP (ci := 6) (q0 := 0) rfl rfl) hK hX hP hD hS hA ([0] ++ List.range' 1 (llW none L).length) [] (pl_R (fx := [(ll, .inr (6, [.int (iI mq), .int (iI ((L.length : Nat) : Int)), va_rf (llF L), va_rf (llH L)]))]) (pool := llW none L) rfl) (pl_F (fx := [(ll, .inr (6, [.int (iI mq), .int (iI ((L.length : Nat) : Int)), va_rf (llF L), va_rf (llH L)]))]) (pool := llW none L) rfl) (pl_ndR (by decide) (by decide)) (by decide) (pl_dis1 (by decide) (by decide)) tYb_0 (fun _ _ _ => trivial) rfl hl.1 rfl (Nat.le_of_ble_eq_true rfl) dJ22_listIterator_2 ⟨(show 1 ≤ 1 from by omega), (show 5 ≤ 5 from by omega)⟩ (fun u_ H locs hp hP hD hS => ?_)
  obtain ⟨it_1, rfl⟩ : ∃ z, z = u_ := ⟨_, rfl⟩
  have hP : va_P D.1 clAll ([(ll, .inr (6, [.int (iI mq), .int (iI ((L.length : Nat) : Int)), va_rf (llF L), va_rf (llH L)])), (it_1, .inr (9, [.null, va_rf (llXt L 0), .int (iI 0), .int (iI mq), .ref ll]))] ++ (llW none L)) H := hP
  have hD : va_D A ([(ll, .inr (6, [.int (iI mq), .int (iI ((L.length : Nat) : Int)), va_rf (llF L), va_rf (llH L)])), (it_1, .inr (9, [.null, va_rf (llXt L 0), .int (iI 0), .int (iI mq), .ref ll]))] ++ (llW none L)) := hD
  refine W.eq (g2 := F0 m0 5 ls [.ref it_1]) rfl ?_
  refine W.widen (k := 1) (n := 5) (Nat.le_refl _) (Nat.le_refl _) ?_
  subst hQ
  exact tm_aret C it_1 trivial hP hD hS (show 1 ≤ 1 from by omega) (show 5 ≤ 5 from by omega) rfl rfl (Or.inl ⟨_, rfl⟩) (Or.inr ⟨_, rfl⟩) dJ22_listIterator_5
set_option maxHeartbeats 4000000 in
set_option maxRecDepth 100000 in
theorem met_J23_iterator (l : Launch) (D : TG) (E : TE) (ll : Nat) (mq : Int) (L : List RR) (hL : L.length ≤ 100) : tMet l yJ23_iterator cJ23_iterator 1 (some (.object "java/util/Iterator")) 4 103 (1) (5) [.ref ll] D E ([(ll, .inr (6, [.int (iI mq), .int (iI ((L.length : Nat) : Int)), va_rf (llF L), va_rf (llH L)]))] ++ (llW none L)) tY0 (S := Nat) (fun u_ => True) (fun u_ => some (.ref u_)) (fun u_ => ([(ll, .inr (6, [.int (iI mq), .int (iI ((L.length : Nat) : Int)), va_rf (llF L), va_rf (llH L)])), (u_, .inr (9, [.null, va_rf (llXt L 0), .int (iI 0), .int (iI mq), .ref ll]))] ++ (llW none L))) := by
  refine tu_met (by decide +kernel) (Nat.le_of_ble_eq_true rfl) ?_
  intro p0 e0 s0 m0 below meth c0 A ls args Q hag hQ C hK hX hY hP hD hA hAe hl
  obtain ⟨kx, kb, hml, hown, hts, -⟩ := id C
  have hS : va_S A s0.heap s0.heap [] := va_S.rf
  have hl : lv_has ls 1 [(0, .ref ll)] := hl
  refine lv_aload_n kx kb dJ23_iterator_0 rfl (lv_at hl 0 rfl) ?_
  refine t_callU (wr := []) C (met_J22_listIterator l D E ll mq L (by first | assumption | omega)) (va_cwU (x := (⟨"java/util/AbstractSequentialList", "listIterator", "()Ljava/util/ListIterator;"⟩ : MethodName)) (y := yJ22_listIterator) (owner := "java/util/AbstractList") 0 hts (lw_U q1005 q1006 q1008 q1009 q88 q1010) rfl rfl rfl rfl (by decide +kernel) ⟨Nat.le_of_ble_eq_true rfl, Nat.le_of_ble_eq_true rfl⟩) (va_recv hK hP (ci := 6) (q0 := 0) rfl rfl) hK hX hP hD hS hA ([0] ++ List.range' 1 (llW none L).length) [] (pl_R (fx := [(ll, .inr (6, [.int (iI mq), .int (iI ((L.length : Nat) : Int)), va_rf (llF L), va_rf (llH L)]))]) (pool := llW none L) rfl) (pl_F (fx := [(ll, .inr (6, [.int (iI mq), .int (iI ((L.length : Nat) : Int)), va_rf (llF L), va_rf (llH L)]))]) (pool := llW none L) rfl) (pl_ndR (by decide) (by decide)) (by decide) (pl_dis1 (by decide) (by decide)) tYb_0 (fun _ _ _ => trivial) rfl hl.1 rfl (Nat.le_of_ble_eq_true rfl) dJ23_iterator_1 ⟨(show 1 ≤ 1 from by omega), (show 5 ≤ 5 from by omega)⟩ (fun u_ H locs hp hP hD hS => ?_)
  obtain ⟨it_1, rfl⟩ : ∃ z, z = u_ := ⟨_, rfl⟩
  have hP : va_P D.1 clAll ([(ll, .inr (6, [.int (iI mq), .int (iI ((L.length : Nat) : Int)), va_rf (llF L), va_rf (llH L)])), (it_1, .inr (9, [.null, va_rf (llXt L 0), .int (iI 0), .int (iI mq), .ref ll]))] ++ (llW none L)) H := hP
  have hD : va_D A ([(ll, .inr (6, [.int (iI mq), .int (iI ((L.length : Nat) : Int)), va_rf (llF L), va_rf (llH L)])), (it_1, .inr (9, [.null, va_rf (llXt L 0), .int (iI 0), .int (iI mq), .ref ll]))] ++ (llW none L)) := hD
  refine W.eq (g2 := F0 m0 4 ls [.ref it_1]) rfl ?_
  refine W.widen (k := 1) (n := 5) (Nat.le_refl _) (Nat.le_refl _) ?_
  subst hQ
  exact tm_aret C it_1 trivial hP hD hS (show 1 ≤ 1 from by omega) (show 5 ≤ 5 from by omega) rfl rfl (Or.inl ⟨_, rfl⟩) (Or.inr ⟨_, rfl⟩) dJ23_iterator_4
