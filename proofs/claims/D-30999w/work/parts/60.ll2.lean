set_option maxRecDepth 100000
set_option maxHeartbeats 4000000 in
set_option maxRecDepth 100000 in
theorem met_J22_init (l : Launch) (D : TG) (E : TE) (ll : Nat) : tMet l yJ22_init cJ22_init 1 none 2 60 (0) (0) [.ref ll] D E [(ll, .inr (6, [.int (iI 0), .int (iI 0), .null, .null]))] tY0 (S := Unit) (fun u_ => True) (fun u_ => none) (fun u_ => [(ll, .inr (6, [.int (iI 0), .int (iI 0), .null, .null]))]) := by
  refine tu_met (by decide +kernel) (Nat.le_of_ble_eq_true rfl) ?_
  intro p0 e0 s0 m0 below meth c0 A ls args Q hag hQ C hK hX hY hP hD hA hAe hl
  obtain ⟨kx, kb, hml, hown, hts, -⟩ := id C
  have hS : va_S A s0.heap s0.heap [] := va_S.rf
  have hl : lv_has ls 1 [(0, .ref ll)] := hl
  refine lv_aload_n kx kb dJ22_init_0 rfl (lv_at hl 0 rfl) ?_
  refine t_callI (wr := [(ll, .inr (6, [.int (iI 0), .int (iI 0), .null, .null]))]) C (met_J19_init l D E ll) (cwI 0 hts (lw_meth q722) rfl rfl rfl (hts _ q82) (hts _ q720) (hts _ q721) rfl (by decide +kernel) ⟨Nat.le_of_ble_eq_true rfl, Nat.le_of_ble_eq_true rfl⟩) hK hX hP hD hS hA [] [0] rfl rfl (by decide) (by decide) (by decide) tYb_0 (fun _ _ _ => trivial) rfl hl.1 rfl (Nat.le_of_ble_eq_true rfl) dJ22_init_1 ⟨(show 0 ≤ 0 from by omega), (show 0 ≤ 0 from by omega)⟩ (fun u_ H locs hp hP hD hS => ?_)
  have hP : va_P D.1 clAll [(ll, .inr (6, [.int (iI 0), .int (iI 0), .null, .null]))] H := hP
  have hD : va_D A [(ll, .inr (6, [.int (iI 0), .int (iI 0), .null, .null]))] := hD
  refine W.eq (g2 := F0 m0 4 ls []) rfl ?_
  refine lv_aload_n kx kb dJ22_init_4 rfl (lv_at hl 0 rfl) ?_
  refine lv_iconst (v := iI 0) kx kb dJ22_init_5 rfl ?_
  refine va_put (D := D.1) (ci := 6) (v := .int (iI 0)) (ty := .int) (C := RJ24) (T := TJ24) (N := 4) kx kb hts in_J24 tyJ24 tyJ24_ok nmJ24 hown hK hP hD hS 0 rfl rfl 0 (by decide) (hts _ q728) (fun _ h9 => h9) rfl (by decide +kernel) rfl rfl (Nat.le_of_ble_eq_true rfl) dJ22_init_6 (fun H locs hP hD hS => ?_)
  have hP : va_P D.1 clAll [(ll, .inr (6, [.int (iI 0), .int (iI 0), .null, .null]))] H := hP
  have hD : va_D A [(ll, .inr (6, [.int (iI 0), .int (iI 0), .null, .null]))] := hD
  subst hQ
  exact tm_vret C () trivial hP hD hS (show 0 ≤ 0 from by omega) (show 0 ≤ 0 from by omega) rfl rfl dJ22_init_9
set_option maxHeartbeats 4000000 in
set_option maxRecDepth 100000 in
theorem met_J23_init (l : Launch) (D : TG) (E : TE) (ll : Nat) : tMet l yJ23_init cJ23_init 1 none 3 80 (0) (0) [.ref ll] D E [(ll, .inr (6, [.int (iI 0), .int (iI 0), .null, .null]))] tY0 (S := Unit) (fun u_ => True) (fun u_ => none) (fun u_ => [(ll, .inr (6, [.int (iI 0), .int (iI 0), .null, .null]))]) := by
  refine tu_met (by decide +kernel) (Nat.le_of_ble_eq_true rfl) ?_
  intro p0 e0 s0 m0 below meth c0 A ls args Q hag hQ C hK hX hY hP hD hA hAe hl
  obtain ⟨kx, kb, hml, hown, hts, -⟩ := id C
  have hS : va_S A s0.heap s0.heap [] := va_S.rf
  have hl : lv_has ls 1 [(0, .ref ll)] := hl
  refine lv_aload_n kx kb dJ23_init_0 rfl (lv_at hl 0 rfl) ?_
  refine t_callI (wr := []) C (met_J22_init l D E ll) (cwI 0 hts (lw_meth q719) rfl rfl rfl (hts _ q88) (hts _ q717) (hts _ q718) rfl (by decide +kernel) ⟨Nat.le_of_ble_eq_true rfl, Nat.le_of_ble_eq_true rfl⟩) hK hX hP hD hS hA [0] [] rfl rfl (by decide) (by decide) (by decide) tYb_0 (fun _ _ _ => trivial) rfl hl.1 rfl (Nat.le_of_ble_eq_true rfl) dJ23_init_1 ⟨(show 0 ≤ 0 from by omega), (show 0 ≤ 0 from by omega)⟩ (fun u_ H locs hp hP hD hS => ?_)
  have hP : va_P D.1 clAll [(ll, .inr (6, [.int (iI 0), .int (iI 0), .null, .null]))] H := hP
  have hD : va_D A [(ll, .inr (6, [.int (iI 0), .int (iI 0), .null, .null]))] := hD
  refine W.eq (g2 := F0 m0 4 ls []) rfl ?_
  subst hQ
  exact tm_vret C () trivial hP hD hS (show 0 ≤ 0 from by omega) (show 0 ≤ 0 from by omega) rfl rfl dJ23_init_4
set_option maxHeartbeats 4000000 in
set_option maxRecDepth 100000 in
theorem met_J24_init (l : Launch) (D : TG) (E : TE) (ll : Nat) : tMet l yJ24_init cJ24_init 1 none 4 100 (0) (0) [.ref ll] D E [(ll, .inr (6, [.int (iI 0), .int (iI 0), .null, .null]))] tY0 (S := Unit) (fun u_ => True) (fun u_ => none) (fun u_ => [(ll, .inr (6, [.int (iI 0), .int (iI 0), .null, .null]))]) := by
  refine tu_met (by decide +kernel) (Nat.le_of_ble_eq_true rfl) ?_
  intro p0 e0 s0 m0 below meth c0 A ls args Q hag hQ C hK hX hY hP hD hA hAe hl
  obtain ⟨kx, kb, hml, hown, hts, -⟩ := id C
  have hS : va_S A s0.heap s0.heap [] := va_S.rf
  have hl : lv_has ls 1 [(0, .ref ll)] := hl
  refine lv_aload_n kx kb dJ24_init_0 rfl (lv_at hl 0 rfl) ?_
  refine t_callI (wr := []) C (met_J23_init l D E ll) (cwI 0 hts (lw_meth q716) rfl rfl rfl (hts _ q89) (hts _ q714) (hts _ q715) rfl (by decide +kernel) ⟨Nat.le_of_ble_eq_true rfl, Nat.le_of_ble_eq_true rfl⟩) hK hX hP hD hS hA [0] [] rfl rfl (by decide) (by decide) (by decide) tYb_0 (fun _ _ _ => trivial) rfl hl.1 rfl (Nat.le_of_ble_eq_true rfl) dJ24_init_1 ⟨(show 0 ≤ 0 from by omega), (show 0 ≤ 0 from by omega)⟩ (fun u_ H locs hp hP hD hS => ?_)
  have hP : va_P D.1 clAll [(ll, .inr (6, [.int (iI 0), .int (iI 0), .null, .null]))] H := hP
  have hD : va_D A [(ll, .inr (6, [.int (iI 0), .int (iI 0), .null, .null]))] := hD
  refine W.eq (g2 := F0 m0 4 ls []) rfl ?_
  refine lv_aload_n kx kb dJ24_init_4 rfl (lv_at hl 0 rfl) ?_
  refine lv_iconst (v := iI 0) kx kb dJ24_init_5 rfl ?_
  refine va_put (D := D.1) (ci := 6) (v := .int (iI 0)) (ty := .int) (C := RJ24) (T := TJ24) (N := 4) kx kb hts in_J24 tyJ24 tyJ24_ok nmJ24 hown hK hP hD hS 0 rfl rfl 1 (by decide) (hts _ q724) (fun _ h9 => h9) rfl (by decide +kernel) rfl rfl (Nat.le_of_ble_eq_true rfl) dJ24_init_6 (fun H locs hP hD hS => ?_)
  have hP : va_P D.1 clAll [(ll, .inr (6, [.int (iI 0), .int (iI 0), .null, .null]))] H := hP
  have hD : va_D A [(ll, .inr (6, [.int (iI 0), .int (iI 0), .null, .null]))] := hD
  subst hQ
  exact tm_vret C () trivial hP hD hS (show 0 ≤ 0 from by omega) (show 0 ≤ 0 from by omega) rfl rfl dJ24_init_9
set_option maxHeartbeats 4000000 in
set_option maxRecDepth 100000 in
theorem met_J25_init_0 (l : Launch) (D : TG) (E : TE) (nd : Nat) (e : Nat) : tMet l yJ25_init cJ25_init 4 none 1 40 (0) (0) [.ref nd, .null, .ref e, .null] D E [(nd, .inr (7, [.null, .null, .null]))] tY0 (S := Unit) (fun u_ => True) (fun u_ => none) (fun u_ => [(nd, .inr (7, [.ref e, .null, .null]))]) := by
  refine tu_met (by decide +kernel) (Nat.le_of_ble_eq_true rfl) ?_
  intro p0 e0 s0 m0 below meth c0 A ls args Q hag hQ C hK hX hY hP hD hA hAe hl
  obtain ⟨kx, kb, hml, hown, hts, -⟩ := id C
  have hS : va_S A s0.heap s0.heap [] := va_S.rf
  have hl : lv_has ls 4 [(0, .ref nd), (1, .null), (2, .ref e), (3, .null)] := hl
  refine lv_aload_n kx kb dJ25_init_0 rfl (lv_at hl 0 rfl) ?_
  refine W.objInit kx kb hown (hts _ q790) (hts _ q102) (hts _ q103) rfl (by rw [hml]; exact hl.1) rfl dJ25_init_1 (Nat.le_of_ble_eq_true rfl) (Nat.le_of_ble_eq_true rfl) ?_
  refine W.eq (g2 := F0 m0 4 ls []) rfl ?_
  refine lv_aload_n kx kb dJ25_init_4 rfl (lv_at hl 0 rfl) ?_
  refine lv_aload_n kx kb dJ25_init_5 rfl (lv_at hl 2 rfl) ?_
  refine va_put (D := D.1) (ci := 7) (v := .ref e) (ty := (.object "java/lang/Object")) (C := RJ25) (T := TJ25) (N := 3) kx kb hts in_J25 tyJ25 tyJ25_ok nmJ25 hown hK hP hD hS 0 rfl rfl 0 (by decide) (hts _ q791) (fun _ h9 => h9) rfl (by decide +kernel) rfl rfl (Nat.le_of_ble_eq_true rfl) dJ25_init_6 (fun H locs hP hD hS => ?_)
  have hP : va_P D.1 clAll [(nd, .inr (7, [.ref e, .null, .null]))] H := hP
  have hD : va_D A [(nd, .inr (7, [.ref e, .null, .null]))] := hD
  refine lv_aload_n kx kb dJ25_init_9 rfl (lv_at hl 0 rfl) ?_
  refine lv_aload_nN kx kb dJ25_init_10 rfl (lv_at hl 3 rfl) ?_
  refine va_put (D := D.1) (ci := 7) (v := .null) (ty := (.object "java/util/LinkedList$Node")) (C := RJ25) (T := TJ25) (N := 3) kx kb hts in_J25 tyJ25 tyJ25_ok nmJ25 hown hK hP hD hS 0 rfl rfl 1 (by decide) (hts _ q794) (fun _ h9 => h9) rfl (by decide +kernel) rfl rfl (Nat.le_of_ble_eq_true rfl) dJ25_init_11 (fun H locs hP hD hS => ?_)
  have hP : va_P D.1 clAll [(nd, .inr (7, [.ref e, .null, .null]))] H := hP
  have hD : va_D A [(nd, .inr (7, [.ref e, .null, .null]))] := hD
  refine lv_aload_n kx kb dJ25_init_14 rfl (lv_at hl 0 rfl) ?_
  refine lv_aload_nN kx kb dJ25_init_15 rfl (lv_at hl 1 rfl) ?_
  refine va_put (D := D.1) (ci := 7) (v := .null) (ty := (.object "java/util/LinkedList$Node")) (C := RJ25) (T := TJ25) (N := 3) kx kb hts in_J25 tyJ25 tyJ25_ok nmJ25 hown hK hP hD hS 0 rfl rfl 2 (by decide) (hts _ q797) (fun _ h9 => h9) rfl (by decide +kernel) rfl rfl (Nat.le_of_ble_eq_true rfl) dJ25_init_16 (fun H locs hP hD hS => ?_)
  have hP : va_P D.1 clAll [(nd, .inr (7, [.ref e, .null, .null]))] H := hP
  have hD : va_D A [(nd, .inr (7, [.ref e, .null, .null]))] := hD
  subst hQ
  exact tm_vret C () trivial hP hD hS (show 0 ≤ 0 from by omega) (show 0 ≤ 0 from by omega) rfl rfl dJ25_init_19
set_option maxHeartbeats 4000000 in
set_option maxRecDepth 100000 in
theorem met_J25_init_1 (l : Launch) (D : TG) (E : TE) (nd : Nat) (pv : Nat) (e : Nat) : tMet l yJ25_init cJ25_init 4 none 1 40 (0) (0) [.ref nd, .ref pv, .ref e, .null] D E [(nd, .inr (7, [.null, .null, .null]))] tY0 (S := Unit) (fun u_ => True) (fun u_ => none) (fun u_ => [(nd, .inr (7, [.ref e, .null, .ref pv]))]) := by
  refine tu_met (by decide +kernel) (Nat.le_of_ble_eq_true rfl) ?_
  intro p0 e0 s0 m0 below meth c0 A ls args Q hag hQ C hK hX hY hP hD hA hAe hl
  obtain ⟨kx, kb, hml, hown, hts, -⟩ := id C
  have hS : va_S A s0.heap s0.heap [] := va_S.rf
  have hl : lv_has ls 4 [(0, .ref nd), (1, .ref pv), (2, .ref e), (3, .null)] := hl
  refine lv_aload_n kx kb dJ25_init_0 rfl (lv_at hl 0 rfl) ?_
  refine W.objInit kx kb hown (hts _ q790) (hts _ q102) (hts _ q103) rfl (by rw [hml]; exact hl.1) rfl dJ25_init_1 (Nat.le_of_ble_eq_true rfl) (Nat.le_of_ble_eq_true rfl) ?_
  refine W.eq (g2 := F0 m0 4 ls []) rfl ?_
  refine lv_aload_n kx kb dJ25_init_4 rfl (lv_at hl 0 rfl) ?_
  refine lv_aload_n kx kb dJ25_init_5 rfl (lv_at hl 2 rfl) ?_
  refine va_put (D := D.1) (ci := 7) (v := .ref e) (ty := (.object "java/lang/Object")) (C := RJ25) (T := TJ25) (N := 3) kx kb hts in_J25 tyJ25 tyJ25_ok nmJ25 hown hK hP hD hS 0 rfl rfl 0 (by decide) (hts _ q791) (fun _ h9 => h9) rfl (by decide +kernel) rfl rfl (Nat.le_of_ble_eq_true rfl) dJ25_init_6 (fun H locs hP hD hS => ?_)
  have hP : va_P D.1 clAll [(nd, .inr (7, [.ref e, .null, .null]))] H := hP
  have hD : va_D A [(nd, .inr (7, [.ref e, .null, .null]))] := hD
  refine lv_aload_n kx kb dJ25_init_9 rfl (lv_at hl 0 rfl) ?_
  refine lv_aload_nN kx kb dJ25_init_10 rfl (lv_at hl 3 rfl) ?_
  refine va_put (D := D.1) (ci := 7) (v := .null) (ty := (.object "java/util/LinkedList$Node")) (C := RJ25) (T := TJ25) (N := 3) kx kb hts in_J25 tyJ25 tyJ25_ok nmJ25 hown hK hP hD hS 0 rfl rfl 1 (by decide) (hts _ q794) (fun _ h9 => h9) rfl (by decide +kernel) rfl rfl (Nat.le_of_ble_eq_true rfl) dJ25_init_11 (fun H locs hP hD hS => ?_)
  have hP : va_P D.1 clAll [(nd, .inr (7, [.ref e, .null, .null]))] H := hP
  have hD : va_D A [(nd, .inr (7, [.ref e, .null, .null]))] := hD
  refine lv_aload_n kx kb dJ25_init_14 rfl (lv_at hl 0 rfl) ?_
  refine lv_aload_n kx kb dJ25_init_15 rfl (lv_at hl 1 rfl) ?_
  refine va_put (D := D.1) (ci := 7) (v := .ref pv) (ty := (.object "java/util/LinkedList$Node")) (C := RJ25) (T := TJ25) (N := 3) kx kb hts in_J25 tyJ25 tyJ25_ok nmJ25 hown hK hP hD hS 0 rfl rfl 2 (by decide) (hts _ q797) (fun _ h9 => h9) rfl (by decide +kernel) rfl rfl (Nat.le_of_ble_eq_true rfl) dJ25_init_16 (fun H locs hP hD hS => ?_)
  have hP : va_P D.1 clAll [(nd, .inr (7, [.ref e, .null, .ref pv]))] H := hP
  have hD : va_D A [(nd, .inr (7, [.ref e, .null, .ref pv]))] := hD
  subst hQ
  exact tm_vret C () trivial hP hD hS (show 0 ≤ 0 from by omega) (show 0 ≤ 0 from by omega) rfl rfl dJ25_init_19
set_option maxHeartbeats 4000000 in
set_option maxRecDepth 100000 in
theorem met_J24_linkLast_0 (l : Launch) (D : TG) (E : TE) (ll : Nat) (mq : Int) (sz : Int) (e : Nat) : tMet l yJ24_linkLast cJ24_linkLast 4 none 2 63 (1) (3) [.ref ll, .ref e] D E [(ll, .inr (6, [.int (iI mq), .int (iI sz), .null, .null]))] tY0 (S := Nat) (fun u_ => True) (fun u_ => none) (fun u_ => [(ll, .inr (6, [.int (iI (mq + 1)), .int (iI (sz + 1)), .ref u_, .ref u_])), (u_, .inr (7, [.ref e, .null, .null]))]) := by
  refine tu_met (by decide +kernel) (Nat.le_of_ble_eq_true rfl) ?_
  intro p0 e0 s0 m0 below meth c0 A ls args Q hag hQ C hK hX hY hP hD hA hAe hl
  obtain ⟨kx, kb, hml, hown, hts, -⟩ := id C
  have hS : va_S A s0.heap s0.heap [] := va_S.rf
  have hl : lv_has ls 4 [(0, .ref ll), (1, .ref e)] := hl
  refine lv_aload_n kx kb dJ24_linkLast_0 rfl (lv_at hl 0 rfl) ?_
  refine va_get (D := D.1) (ci := 6) (v := .null) (C := RJ24) (T := TJ24) (N := 4) kx kb hts in_J24 hown hK hP 0 rfl rfl 3 (by decide) (hts _ q727) (fun _ h9 => h9) rfl dJ24_linkLast_1 ?_
  refine lv_astore_nN (lv' := [(2, .null), (0, .ref ll), (1, .ref e)]) kx kb dJ24_linkLast_4 rfl hl (by decide) rfl (fun ls hl => ?_)
  refine va_new (D := D.1) (ci := 7) (fs := [.null, .null, .null]) (C := RJ25) (T := TJ25) (N := 3) kx kb hts in_J25 tyJ25 tyJ25_ok hown (hts _ q785) (hts _ q786) (hts _ q92) hK hP hD hS hA rfl (fun j hj => by rcases (show j = 0 ∨ j = 1 ∨ j = 2 by omega) with rfl | rfl | rfl <;> rfl) (show 1 ≤ 1 from by omega) (show 3 ≤ 3 from by omega) dJ24_linkLast_5 (fun q_1 H hP hD hS => ?_)
  have hP : va_P D.1 clAll [(ll, .inr (6, [.int (iI mq), .int (iI sz), .null, .null])), (q_1, .inr (7, [.null, .null, .null]))] H := hP
  have hD : va_D A [(ll, .inr (6, [.int (iI mq), .int (iI sz), .null, .null])), (q_1, .inr (7, [.null, .null, .null]))] := hD
  refine lv_dup kx kb dJ24_linkLast_8 rfl ?_
  refine lv_aload_nN kx kb dJ24_linkLast_9 rfl (lv_at hl 0 rfl) ?_
  refine lv_aload_n kx kb dJ24_linkLast_10 rfl (lv_at hl 2 rfl) ?_
  refine lv_null kx kb dJ24_linkLast_11 ?_
  refine t_callI (wr := [(ll, .inr (6, [.int (iI mq), .int (iI sz), .null, .null]))]) C (met_J25_init_0 l D E q_1 e) (cwI 3 hts (lw_meth q789) rfl rfl rfl (hts _ q92) (hts _ q787) (hts _ q788) rfl (by decide +kernel) ⟨Nat.le_of_ble_eq_true rfl, Nat.le_of_ble_eq_true rfl⟩) hK hX hP hD hS hA [1] [0] rfl rfl (by decide) (by decide) (by decide) tYb_0 (fun _ _ _ => trivial) rfl hl.1 rfl (Nat.le_of_ble_eq_true rfl) dJ24_linkLast_12 ⟨(show 1 ≤ 1 from by omega), (show 3 ≤ 3 from by omega)⟩ (fun u_ H locs hp hP hD hS => ?_)
  have hP : va_P D.1 clAll [(ll, .inr (6, [.int (iI mq), .int (iI sz), .null, .null])), (q_1, .inr (7, [.ref e, .null, .null]))] H := hP
  have hD : va_D A [(ll, .inr (6, [.int (iI mq), .int (iI sz), .null, .null])), (q_1, .inr (7, [.ref e, .null, .null]))] := hD
  refine W.eq (g2 := F0 m0 15 ls [.ref q_1]) rfl ?_
  refine lv_astore_n (lv' := [(3, .ref q_1), (2, .null), (0, .ref ll), (1, .ref e)]) kx kb dJ24_linkLast_15 rfl hl (by decide) rfl (fun ls hl => ?_)
  refine lv_aload_n kx kb dJ24_linkLast_16 rfl (lv_at hl 2 rfl) ?_
  refine lv_aload_n kx kb dJ24_linkLast_17 rfl (lv_at hl 0 rfl) ?_
  refine va_put (D := D.1) (ci := 6) (v := .ref q_1) (ty := (.object "java/util/LinkedList$Node")) (C := RJ24) (T := TJ24) (N := 4) kx kb hts in_J24 tyJ24 tyJ24_ok nmJ24 hown hK hP hD hS 0 rfl rfl 3 (by decide) (hts _ q727) (fun _ h9 => h9) rfl (by decide +kernel) rfl rfl (Nat.le_of_ble_eq_true rfl) dJ24_linkLast_18 (fun H locs hP hD hS => ?_)
  have hP : va_P D.1 clAll [(ll, .inr (6, [.int (iI mq), .int (iI sz), .null, .ref q_1])), (q_1, .inr (7, [.ref e, .null, .null]))] H := hP
  have hD : va_D A [(ll, .inr (6, [.int (iI mq), .int (iI sz), .null, .ref q_1])), (q_1, .inr (7, [.ref e, .null, .null]))] := hD
  refine lv_aload_nN kx kb dJ24_linkLast_21 rfl (lv_at hl 1 rfl) ?_
  refine lv_ifnonnullN kx kb dJ24_linkLast_22 ?_
  refine lv_aload_n kx kb dJ24_linkLast_25 rfl (lv_at hl 2 rfl) ?_
  refine lv_aload_n kx kb dJ24_linkLast_26 rfl (lv_at hl 0 rfl) ?_
  refine va_put (D := D.1) (ci := 6) (v := .ref q_1) (ty := (.object "java/util/LinkedList$Node")) (C := RJ24) (T := TJ24) (N := 4) kx kb hts in_J24 tyJ24 tyJ24_ok nmJ24 hown hK hP hD hS 0 rfl rfl 2 (by decide) (hts _ q726) (fun _ h9 => h9) rfl (by decide +kernel) rfl rfl (Nat.le_of_ble_eq_true rfl) dJ24_linkLast_27 (fun H locs hP hD hS => ?_)
  have hP : va_P D.1 clAll [(ll, .inr (6, [.int (iI mq), .int (iI sz), .ref q_1, .ref q_1])), (q_1, .inr (7, [.ref e, .null, .null]))] H := hP
  have hD : va_D A [(ll, .inr (6, [.int (iI mq), .int (iI sz), .ref q_1, .ref q_1])), (q_1, .inr (7, [.ref e, .null, .null]))] := hD
  refine lv_goto (tgt := 38) kx kb dJ24_linkLast_30 (by decide) ?_
  refine lv_aload_n kx kb dJ24_linkLast_38 rfl (lv_at hl 2 rfl) ?_
  refine lv_dup kx kb dJ24_linkLast_39 rfl ?_
  refine va_get (D := D.1) (ci := 6) (v := .int (iI sz)) (C := RJ24) (T := TJ24) (N := 4) kx kb hts in_J24 hown hK hP 0 rfl rfl 1 (by decide) (hts _ q724) (fun _ h9 => h9) rfl dJ24_linkLast_40 ?_
  refine lv_iconst (v := iI 1) kx kb dJ24_linkLast_43 rfl ?_
  refine ti_iadd kx kb dJ24_linkLast_44 ?_
  refine va_put (D := D.1) (ci := 6) (v := .int (iI (sz + 1))) (ty := .int) (C := RJ24) (T := TJ24) (N := 4) kx kb hts in_J24 tyJ24 tyJ24_ok nmJ24 hown hK hP hD hS 0 rfl rfl 1 (by decide) (hts _ q724) (fun _ h9 => h9) rfl (by decide +kernel) rfl rfl (Nat.le_of_ble_eq_true rfl) dJ24_linkLast_45 (fun H locs hP hD hS => ?_)
  have hP : va_P D.1 clAll [(ll, .inr (6, [.int (iI mq), .int (iI (sz + 1)), .ref q_1, .ref q_1])), (q_1, .inr (7, [.ref e, .null, .null]))] H := hP
  have hD : va_D A [(ll, .inr (6, [.int (iI mq), .int (iI (sz + 1)), .ref q_1, .ref q_1])), (q_1, .inr (7, [.ref e, .null, .null]))] := hD
  refine lv_aload_n kx kb dJ24_linkLast_48 rfl (lv_at hl 2 rfl) ?_
  refine lv_dup kx kb dJ24_linkLast_49 rfl ?_
  refine va_get (D := D.1) (ci := 6) (v := .int (iI mq)) (C := RJ24) (T := TJ24) (N := 4) kx kb hts in_J24 hown hK hP 0 rfl rfl 0 (by decide) (hts _ q732) (fun x9 h9 => u_same (hts _ q730) x9 h9) rfl dJ24_linkLast_50 ?_
  refine lv_iconst (v := iI 1) kx kb dJ24_linkLast_53 rfl ?_
  refine ti_iadd kx kb dJ24_linkLast_54 ?_
  refine va_put (D := D.1) (ci := 6) (v := .int (iI (mq + 1))) (ty := .int) (C := RJ24) (T := TJ24) (N := 4) kx kb hts in_J24 tyJ24 tyJ24_ok nmJ24 hown hK hP hD hS 0 rfl rfl 0 (by decide) (hts _ q732) (fun x9 h9 => u_same (hts _ q730) x9 h9) rfl (by decide +kernel) rfl rfl (Nat.le_of_ble_eq_true rfl) dJ24_linkLast_55 (fun H locs hP hD hS => ?_)
  have hP : va_P D.1 clAll [(ll, .inr (6, [.int (iI (mq + 1)), .int (iI (sz + 1)), .ref q_1, .ref q_1])), (q_1, .inr (7, [.ref e, .null, .null]))] H := hP
  have hD : va_D A [(ll, .inr (6, [.int (iI (mq + 1)), .int (iI (sz + 1)), .ref q_1, .ref q_1])), (q_1, .inr (7, [.ref e, .null, .null]))] := hD
  subst hQ
  exact tm_vret C q_1 trivial hP hD hS (show 1 ≤ 1 from by omega) (show 3 ≤ 3 from by omega) rfl rfl dJ24_linkLast_58
set_option maxHeartbeats 4000000 in
set_option maxRecDepth 100000 in
theorem met_J24_linkLast_1 (l : Launch) (D : TG) (E : TE) (ll : Nat) (mq : Int) (sz : Int) (fi : Option Nat) (la : Nat) (it : Nat) (pv : Option Nat) (e : Nat) : tMet l yJ24_linkLast cJ24_linkLast 4 none 2 63 (1) (3) [.ref ll, .ref e] D E [(ll, .inr (6, [.int (iI mq), .int (iI sz), va_rf fi, .ref la])), (la, .inr (7, [.ref it, .null, va_rf pv]))] tY0 (S := Nat) (fun u_ => True) (fun u_ => none) (fun u_ => [(ll, .inr (6, [.int (iI (mq + 1)), .int (iI (sz + 1)), va_rf fi, .ref u_])), (la, .inr (7, [.ref it, .ref u_, va_rf pv])), (u_, .inr (7, [.ref e, .null, .ref la]))]) := by
  refine tu_met (by decide +kernel) (Nat.le_of_ble_eq_true rfl) ?_
  intro p0 e0 s0 m0 below meth c0 A ls args Q hag hQ C hK hX hY hP hD hA hAe hl
  obtain ⟨kx, kb, hml, hown, hts, -⟩ := id C
  have hS : va_S A s0.heap s0.heap [] := va_S.rf
  have hl : lv_has ls 4 [(0, .ref ll), (1, .ref e)] := hl
  refine lv_aload_n kx kb dJ24_linkLast_0 rfl (lv_at hl 0 rfl) ?_
  refine va_get (D := D.1) (ci := 6) (v := .ref la) (C := RJ24) (T := TJ24) (N := 4) kx kb hts in_J24 hown hK hP 0 rfl rfl 3 (by decide) (hts _ q727) (fun _ h9 => h9) rfl dJ24_linkLast_1 ?_
  refine lv_astore_n (lv' := [(2, .ref la), (0, .ref ll), (1, .ref e)]) kx kb dJ24_linkLast_4 rfl hl (by decide) rfl (fun ls hl => ?_)
  refine va_new (D := D.1) (ci := 7) (fs := [.null, .null, .null]) (C := RJ25) (T := TJ25) (N := 3) kx kb hts in_J25 tyJ25 tyJ25_ok hown (hts _ q785) (hts _ q786) (hts _ q92) hK hP hD hS hA rfl (fun j hj => by rcases (show j = 0 ∨ j = 1 ∨ j = 2 by omega) with rfl | rfl | rfl <;> rfl) (show 1 ≤ 1 from by omega) (show 3 ≤ 3 from by omega) dJ24_linkLast_5 (fun q_1 H hP hD hS => ?_)
  have hP : va_P D.1 clAll [(ll, .inr (6, [.int (iI mq), .int (iI sz), va_rf fi, .ref la])), (la, .inr (7, [.ref it, .null, va_rf pv])), (q_1, .inr (7, [.null, .null, .null]))] H := hP
  have hD : va_D A [(ll, .inr (6, [.int (iI mq), .int (iI sz), va_rf fi, .ref la])), (la, .inr (7, [.ref it, .null, va_rf pv])), (q_1, .inr (7, [.null, .null, .null]))] := hD
  refine lv_dup kx kb dJ24_linkLast_8 rfl ?_
  refine lv_aload_n kx kb dJ24_linkLast_9 rfl (lv_at hl 0 rfl) ?_
  refine lv_aload_n kx kb dJ24_linkLast_10 rfl (lv_at hl 2 rfl) ?_
  refine lv_null kx kb dJ24_linkLast_11 ?_
  refine t_callI (wr := [(ll, .inr (6, [.int (iI mq), .int (iI sz), va_rf fi, .ref la])), (la, .inr (7, [.ref it, .null, va_rf pv]))]) C (met_J25_init_1 l D E q_1 la e) (cwI 3 hts (lw_meth q789) rfl rfl rfl (hts _ q92) (hts _ q787) (hts _ q788) rfl (by decide +kernel) ⟨Nat.le_of_ble_eq_true rfl, Nat.le_of_ble_eq_true rfl⟩) hK hX hP hD hS hA [2] [0, 1] rfl rfl (by decide) (by decide) (by decide) tYb_0 (fun _ _ _ => trivial) rfl hl.1 rfl (Nat.le_of_ble_eq_true rfl) dJ24_linkLast_12 ⟨(show 1 ≤ 1 from by omega), (show 3 ≤ 3 from by omega)⟩ (fun u_ H locs hp hP hD hS => ?_)
  have hP : va_P D.1 clAll [(ll, .inr (6, [.int (iI mq), .int (iI sz), va_rf fi, .ref la])), (la, .inr (7, [.ref it, .null, va_rf pv])), (q_1, .inr (7, [.ref e, .null, .ref la]))] H := hP
  have hD : va_D A [(ll, .inr (6, [.int (iI mq), .int (iI sz), va_rf fi, .ref la])), (la, .inr (7, [.ref it, .null, va_rf pv])), (q_1, .inr (7, [.ref e, .null, .ref la]))] := hD
  refine W.eq (g2 := F0 m0 15 ls [.ref q_1]) rfl ?_
  refine lv_astore_n (lv' := [(3, .ref q_1), (2, .ref la), (0, .ref ll), (1, .ref e)]) kx kb dJ24_linkLast_15 rfl hl (by decide) rfl (fun ls hl => ?_)
  refine lv_aload_n kx kb dJ24_linkLast_16 rfl (lv_at hl 2 rfl) ?_
  refine lv_aload_n kx kb dJ24_linkLast_17 rfl (lv_at hl 0 rfl) ?_
  refine va_put (D := D.1) (ci := 6) (v := .ref q_1) (ty := (.object "java/util/LinkedList$Node")) (C := RJ24) (T := TJ24) (N := 4) kx kb hts in_J24 tyJ24 tyJ24_ok nmJ24 hown hK hP hD hS 0 rfl rfl 3 (by decide) (hts _ q727) (fun _ h9 => h9) rfl (by decide +kernel) rfl rfl (Nat.le_of_ble_eq_true rfl) dJ24_linkLast_18 (fun H locs hP hD hS => ?_)
  have hP : va_P D.1 clAll [(ll, .inr (6, [.int (iI mq), .int (iI sz), va_rf fi, .ref q_1])), (la, .inr (7, [.ref it, .null, va_rf pv])), (q_1, .inr (7, [.ref e, .null, .ref la]))] H := hP
  have hD : va_D A [(ll, .inr (6, [.int (iI mq), .int (iI sz), va_rf fi, .ref q_1])), (la, .inr (7, [.ref it, .null, va_rf pv])), (q_1, .inr (7, [.ref e, .null, .ref la]))] := hD
  refine lv_aload_n kx kb dJ24_linkLast_21 rfl (lv_at hl 1 rfl) ?_
  refine lv_ifnonnull (tgt := 33) kx kb dJ24_linkLast_22 (by decide) ?_
  refine lv_aload_n kx kb dJ24_linkLast_33 rfl (lv_at hl 1 rfl) ?_
  refine lv_aload_n kx kb dJ24_linkLast_34 rfl (lv_at hl 0 rfl) ?_
  refine va_put (D := D.1) (ci := 7) (v := .ref q_1) (ty := (.object "java/util/LinkedList$Node")) (C := RJ25) (T := TJ25) (N := 3) kx kb hts in_J25 tyJ25 tyJ25_ok nmJ25 hown hK hP hD hS 1 rfl rfl 1 (by decide) (hts _ q796) (fun _ h9 => h9) rfl (by decide +kernel) rfl rfl (Nat.le_of_ble_eq_true rfl) dJ24_linkLast_35 (fun H locs hP hD hS => ?_)
  have hP : va_P D.1 clAll [(ll, .inr (6, [.int (iI mq), .int (iI sz), va_rf fi, .ref q_1])), (la, .inr (7, [.ref it, .ref q_1, va_rf pv])), (q_1, .inr (7, [.ref e, .null, .ref la]))] H := hP
  have hD : va_D A [(ll, .inr (6, [.int (iI mq), .int (iI sz), va_rf fi, .ref q_1])), (la, .inr (7, [.ref it, .ref q_1, va_rf pv])), (q_1, .inr (7, [.ref e, .null, .ref la]))] := hD
  refine lv_aload_n kx kb dJ24_linkLast_38 rfl (lv_at hl 2 rfl) ?_
  refine lv_dup kx kb dJ24_linkLast_39 rfl ?_
  refine va_get (D := D.1) (ci := 6) (v := .int (iI sz)) (C := RJ24) (T := TJ24) (N := 4) kx kb hts in_J24 hown hK hP 0 rfl rfl 1 (by decide) (hts _ q724) (fun _ h9 => h9) rfl dJ24_linkLast_40 ?_
  refine lv_iconst (v := iI 1) kx kb dJ24_linkLast_43 rfl ?_
  refine ti_iadd kx kb dJ24_linkLast_44 ?_
  refine va_put (D := D.1) (ci := 6) (v := .int (iI (sz + 1))) (ty := .int) (C := RJ24) (T := TJ24) (N := 4) kx kb hts in_J24 tyJ24 tyJ24_ok nmJ24 hown hK hP hD hS 0 rfl rfl 1 (by decide) (hts _ q724) (fun _ h9 => h9) rfl (by decide +kernel) rfl rfl (Nat.le_of_ble_eq_true rfl) dJ24_linkLast_45 (fun H locs hP hD hS => ?_)
  have hP : va_P D.1 clAll [(ll, .inr (6, [.int (iI mq), .int (iI (sz + 1)), va_rf fi, .ref q_1])), (la, .inr (7, [.ref it, .ref q_1, va_rf pv])), (q_1, .inr (7, [.ref e, .null, .ref la]))] H := hP
  have hD : va_D A [(ll, .inr (6, [.int (iI mq), .int (iI (sz + 1)), va_rf fi, .ref q_1])), (la, .inr (7, [.ref it, .ref q_1, va_rf pv])), (q_1, .inr (7, [.ref e, .null, .ref la]))] := hD
  refine lv_aload_n kx kb dJ24_linkLast_48 rfl (lv_at hl 2 rfl) ?_
  refine lv_dup kx kb dJ24_linkLast_49 rfl ?_
  refine va_get (D := D.1) (ci := 6) (v := .int (iI mq)) (C := RJ24) (T := TJ24) (N := 4) kx kb hts in_J24 hown hK hP 0 rfl rfl 0 (by decide) (hts _ q732) (fun x9 h9 => u_same (hts _ q730) x9 h9) rfl dJ24_linkLast_50 ?_
  refine lv_iconst (v := iI 1) kx kb dJ24_linkLast_53 rfl ?_
  refine ti_iadd kx kb dJ24_linkLast_54 ?_
  refine va_put (D := D.1) (ci := 6) (v := .int (iI (mq + 1))) (ty := .int) (C := RJ24) (T := TJ24) (N := 4) kx kb hts in_J24 tyJ24 tyJ24_ok nmJ24 hown hK hP hD hS 0 rfl rfl 0 (by decide) (hts _ q732) (fun x9 h9 => u_same (hts _ q730) x9 h9) rfl (by decide +kernel) rfl rfl (Nat.le_of_ble_eq_true rfl) dJ24_linkLast_55 (fun H locs hP hD hS => ?_)
  have hP : va_P D.1 clAll [(ll, .inr (6, [.int (iI (mq + 1)), .int (iI (sz + 1)), va_rf fi, .ref q_1])), (la, .inr (7, [.ref it, .ref q_1, va_rf pv])), (q_1, .inr (7, [.ref e, .null, .ref la]))] H := hP
  have hD : va_D A [(ll, .inr (6, [.int (iI (mq + 1)), .int (iI (sz + 1)), va_rf fi, .ref q_1])), (la, .inr (7, [.ref it, .ref q_1, va_rf pv])), (q_1, .inr (7, [.ref e, .null, .ref la]))] := hD
  subst hQ
  exact tm_vret C q_1 trivial hP hD hS (show 1 ≤ 1 from by omega) (show 3 ≤ 3 from by omega) rfl rfl dJ24_linkLast_58
set_option maxHeartbeats 4000000 in
set_option maxRecDepth 100000 in
theorem met_J24_addLast_0 (l : Launch) (D : TG) (E : TE) (ll : Nat) (mq : Int) (sz : Int) (e : Nat) : tMet l yJ24_addLast cJ24_addLast 2 none 3 86 (1) (3) [.ref ll, .ref e] D E [(ll, .inr (6, [.int (iI mq), .int (iI sz), .null, .null]))] tY0 (S := Nat) (fun u_ => True) (fun u_ => none) (fun u_ => [(ll, .inr (6, [.int (iI (mq + 1)), .int (iI (sz + 1)), .ref u_, .ref u_])), (u_, .inr (7, [.ref e, .null, .null]))]) := by
  refine tu_met (by decide +kernel) (Nat.le_of_ble_eq_true rfl) ?_
  intro p0 e0 s0 m0 below meth c0 A ls args Q hag hQ C hK hX hY hP hD hA hAe hl
  obtain ⟨kx, kb, hml, hown, hts, -⟩ := id C
  have hS : va_S A s0.heap s0.heap [] := va_S.rf
  have hl : lv_has ls 2 [(0, .ref ll), (1, .ref e)] := hl
  refine lv_aload_n kx kb dJ24_addLast_0 rfl (lv_at hl 0 rfl) ?_
  refine lv_aload_n kx kb dJ24_addLast_1 rfl (lv_at hl 1 rfl) ?_
  refine t_callV (wr := []) C (met_J24_linkLast_0 l D E ll mq sz e) (cwV 1 hts (lw_V q781 q782 q783 q90 q784) rfl rfl rfl (by decide +kernel) ⟨Nat.le_of_ble_eq_true rfl, Nat.le_of_ble_eq_true rfl⟩) (va_recv hK hP (ci := 6) (q0 := 0) rfl rfl) hK hX hP hD hS hA [0] [] rfl rfl (by decide) (by decide) (by decide) tYb_0 (fun _ _ _ => trivial) rfl hl.1 rfl (Nat.le_of_ble_eq_true rfl) dJ24_addLast_2 ⟨(show 1 ≤ 1 from by omega), (show 3 ≤ 3 from by omega)⟩ (fun u_ H locs hp hP hD hS => ?_)
  obtain ⟨nd_1, rfl⟩ : ∃ z, z = u_ := ⟨_, rfl⟩
  have hP : va_P D.1 clAll [(ll, .inr (6, [.int (iI (mq + 1)), .int (iI (sz + 1)), .ref nd_1, .ref nd_1])), (nd_1, .inr (7, [.ref e, .null, .null]))] H := hP
  have hD : va_D A [(ll, .inr (6, [.int (iI (mq + 1)), .int (iI (sz + 1)), .ref nd_1, .ref nd_1])), (nd_1, .inr (7, [.ref e, .null, .null]))] := hD
  refine W.eq (g2 := F0 m0 5 ls []) rfl ?_
  refine W.widen (k := 1) (n := 3) (Nat.le_refl _) (Nat.le_refl _) ?_
  subst hQ
  exact tm_vret C nd_1 trivial hP hD hS (show 1 ≤ 1 from by omega) (show 3 ≤ 3 from by omega) rfl rfl dJ24_addLast_5
set_option maxHeartbeats 4000000 in
set_option maxRecDepth 100000 in
theorem met_J24_addLast_1 (l : Launch) (D : TG) (E : TE) (ll : Nat) (mq : Int) (sz : Int) (fi : Option Nat) (la : Nat) (it : Nat) (pv : Option Nat) (e : Nat) : tMet l yJ24_addLast cJ24_addLast 2 none 3 86 (1) (3) [.ref ll, .ref e] D E [(ll, .inr (6, [.int (iI mq), .int (iI sz), va_rf fi, .ref la])), (la, .inr (7, [.ref it, .null, va_rf pv]))] tY0 (S := Nat) (fun u_ => True) (fun u_ => none) (fun u_ => [(ll, .inr (6, [.int (iI (mq + 1)), .int (iI (sz + 1)), va_rf fi, .ref u_])), (la, .inr (7, [.ref it, .ref u_, va_rf pv])), (u_, .inr (7, [.ref e, .null, .ref la]))]) := by
  refine tu_met (by decide +kernel) (Nat.le_of_ble_eq_true rfl) ?_
  intro p0 e0 s0 m0 below meth c0 A ls args Q hag hQ C hK hX hY hP hD hA hAe hl
  obtain ⟨kx, kb, hml, hown, hts, -⟩ := id C
  have hS : va_S A s0.heap s0.heap [] := va_S.rf
  have hl : lv_has ls 2 [(0, .ref ll), (1, .ref e)] := hl
  refine lv_aload_n kx kb dJ24_addLast_0 rfl (lv_at hl 0 rfl) ?_
  refine lv_aload_n kx kb dJ24_addLast_1 rfl (lv_at hl 1 rfl) ?_
  refine t_callV (wr := []) C (met_J24_linkLast_1 l D E ll mq sz fi la it pv e) (cwV 1 hts (lw_V q781 q782 q783 q90 q784) rfl rfl rfl (by decide +kernel) ⟨Nat.le_of_ble_eq_true rfl, Nat.le_of_ble_eq_true rfl⟩) (va_recv hK hP (ci := 6) (q0 := 0) rfl rfl) hK hX hP hD hS hA [0, 1] [] rfl rfl (by decide) (by decide) (by decide) tYb_0 (fun _ _ _ => trivial) rfl hl.1 rfl (Nat.le_of_ble_eq_true rfl) dJ24_addLast_2 ⟨(show 1 ≤ 1 from by omega), (show 3 ≤ 3 from by omega)⟩ (fun u_ H locs hp hP hD hS => ?_)
  obtain ⟨nd_1, rfl⟩ : ∃ z, z = u_ := ⟨_, rfl⟩
  have hP : va_P D.1 clAll [(ll, .inr (6, [.int (iI (mq + 1)), .int (iI (sz + 1)), va_rf fi, .ref nd_1])), (la, .inr (7, [.ref it, .ref nd_1, va_rf pv])), (nd_1, .inr (7, [.ref e, .null, .ref la]))] H := hP
  have hD : va_D A [(ll, .inr (6, [.int (iI (mq + 1)), .int (iI (sz + 1)), va_rf fi, .ref nd_1])), (la, .inr (7, [.ref it, .ref nd_1, va_rf pv])), (nd_1, .inr (7, [.ref e, .null, .ref la]))] := hD
  refine W.eq (g2 := F0 m0 5 ls []) rfl ?_
  refine W.widen (k := 1) (n := 3) (Nat.le_refl _) (Nat.le_refl _) ?_
  subst hQ
  exact tm_vret C nd_1 trivial hP hD hS (show 1 ≤ 1 from by omega) (show 3 ≤ 3 from by omega) rfl rfl dJ24_addLast_5
set_option maxHeartbeats 4000000 in
set_option maxRecDepth 100000 in
theorem met_J24_getLast (l : Launch) (D : TG) (E : TE) (ll : Nat) (mq : Int) (sz : Int) (fi : Option Nat) (la : Nat) (it : Nat) (nx : Option Nat) (pv : Option Nat) : tRd l yJ24_getLast cJ24_getLast 2 (some (.object "java/lang/Object")) 0 0 [.ref ll] D E [(ll, .inr (6, [.int (iI mq), .int (iI sz), va_rf fi, .ref la])), (la, .inr (7, [.ref it, va_rf nx, va_rf pv]))] tY0 (some (.ref it)) := by
  refine tu_rd (by decide +kernel) (Nat.le_of_ble_eq_true rfl) ?_
  intro p0 e0 s0 m0 below meth c0 A ls args Q hag hQ C hK hX hY hP hD hA hAe hl
  obtain ⟨kx, kb, hml, hown, hts, -⟩ := id C
  have hS : va_S A s0.heap s0.heap [] := va_S.rf
  have hl : lv_has ls 2 [(0, .ref ll)] := hl
  refine lv_aload_n kx kb dJ24_getLast_0 rfl (lv_at hl 0 rfl) ?_
  refine va_get (D := D.1) (ci := 6) (v := .ref la) (C := RJ24) (T := TJ24) (N := 4) kx kb hts in_J24 hown hK hP 0 rfl rfl 3 (by decide) (hts _ q727) (fun _ h9 => h9) rfl dJ24_getLast_1 ?_
  refine lv_astore_n (lv' := [(1, .ref la), (0, .ref ll)]) kx kb dJ24_getLast_4 rfl hl (by decide) rfl (fun ls hl => ?_)
  refine lv_aload_n kx kb dJ24_getLast_5 rfl (lv_at hl 0 rfl) ?_
  refine lv_ifnonnull (tgt := 17) kx kb dJ24_getLast_6 (by decide) ?_
  refine lv_aload_n kx kb dJ24_getLast_17 rfl (lv_at hl 0 rfl) ?_
  refine va_get (D := D.1) (ci := 7) (v := .ref it) (C := RJ25) (T := TJ25) (N := 3) kx kb hts in_J25 hown hK hP 1 rfl rfl 0 (by decide) (hts _ q793) (fun _ h9 => h9) rfl dJ24_getLast_18 ?_
  subst hQ
  exact tr_aret C rfl (Or.inl ⟨_, rfl⟩) (Or.inr ⟨_, rfl⟩) rfl dJ24_getLast_21
set_option maxHeartbeats 4000000 in
set_option maxRecDepth 100000 in
theorem met_J24_size (l : Launch) (D : TG) (E : TE) (ll : Nat) (mq : Int) (sz : Int) (fi : Option Nat) (la : Option Nat) : tRd l yJ24_size cJ24_size 1 (some .int) 0 0 [.ref ll] D E [(ll, .inr (6, [.int (iI mq), .int (iI sz), va_rf fi, va_rf la]))] tY0 (some (.int (iI sz))) := by
  refine tu_rd (by decide +kernel) (Nat.le_of_ble_eq_true rfl) ?_
  intro p0 e0 s0 m0 below meth c0 A ls args Q hag hQ C hK hX hY hP hD hA hAe hl
  obtain ⟨kx, kb, hml, hown, hts, -⟩ := id C
  have hS : va_S A s0.heap s0.heap [] := va_S.rf
  have hl : lv_has ls 1 [(0, .ref ll)] := hl
  refine lv_aload_n kx kb dJ24_size_0 rfl (lv_at hl 0 rfl) ?_
  refine va_get (D := D.1) (ci := 6) (v := .int (iI sz)) (C := RJ24) (T := TJ24) (N := 4) kx kb hts in_J24 hown hK hP 0 rfl rfl 1 (by decide) (hts _ q724) (fun _ h9 => h9) rfl dJ24_size_1 ?_
  subst hQ
  exact tr_iret C rfl rfl dJ24_size_4
set_option maxHeartbeats 4000000 in
set_option maxRecDepth 100000 in
theorem met_J24_isElementIndex (l : Launch) (D : TG) (E : TE) (ll : Nat) (mq : Int) (L : List RR) (i : Nat) (hi : i < L.length ∧ L.length ≤ 100) : tRd l yJ24_isElementIndex cJ24_isElementIndex 2 (some .boolean) 0 0 [.ref ll, .int (iI ((i : Nat) : Int))] D E [(ll, .inr (6, [.int (iI mq), .int (iI ((L.length : Nat) : Int)), va_rf (llF L), va_rf (llH L)]))] tY0 (some (.int (zI true))) := by
  refine tu_rd (by decide +kernel) (Nat.le_of_ble_eq_true rfl) ?_
  intro p0 e0 s0 m0 below meth c0 A ls args Q hag hQ C hK hX hY hP hD hA hAe hl
  obtain ⟨kx, kb, hml, hown, hts, -⟩ := id C
  have hS : va_S A s0.heap s0.heap [] := va_S.rf
  have hl : lv_has ls 2 [(0, .ref ll), (1, .int (iI ((i : Nat) : Int)))] := hl
  refine lv_iload_n kx kb dJ24_isElementIndex_0 rfl (lv_at hl 1 rfl) ?_
  refine ti_if_lt (tgt := 16) kx kb (by omega) dJ24_isElementIndex_1 (by decide) (fun h1 => ?_) (fun h1 => ?_)
  · omega
  · refine lv_iload_n kx kb dJ24_isElementIndex_4 rfl (lv_at hl 1 rfl) ?_
    refine lv_aload_n kx kb dJ24_isElementIndex_5 rfl (lv_at hl 0 rfl) ?_
    refine va_get (D := D.1) (ci := 6) (v := .int (iI ((L.length : Nat) : Int))) (C := RJ24) (T := TJ24) (N := 4) kx kb hts in_J24 hown hK hP 0 rfl rfl 1 (by decide) (hts _ q724) (fun _ h9 => h9) rfl dJ24_isElementIndex_6 ?_
    refine ti_icmp_ge (tgt := 16) kx kb (by omega) dJ24_isElementIndex_9 (by decide) (fun h9 => ?_) (fun h9 => ?_)
    · omega
    · refine lv_iconst (v := iI 1) kx kb dJ24_isElementIndex_12 rfl ?_
      refine lv_goto (tgt := 17) kx kb dJ24_isElementIndex_13 (by decide) ?_
      refine W.eq (g2 := F0 m0 17 ls [.int (zI true)]) rfl ?_
      subst hQ
      exact tr_zret C rfl rfl dJ24_isElementIndex_17
set_option maxHeartbeats 4000000 in
set_option maxRecDepth 100000 in
theorem met_J24_isPositionIndex (l : Launch) (D : TG) (E : TE) (ll : Nat) (mq : Int) (L : List RR) (hL : L.length ≤ 100) : tRd l yJ24_isPositionIndex cJ24_isPositionIndex 2 (some .boolean) 0 0 [.ref ll, .int (iI 0)] D E [(ll, .inr (6, [.int (iI mq), .int (iI ((L.length : Nat) : Int)), va_rf (llF L), va_rf (llH L)]))] tY0 (some (.int (zI true))) := by
  refine tu_rd (by decide +kernel) (Nat.le_of_ble_eq_true rfl) ?_
  intro p0 e0 s0 m0 below meth c0 A ls args Q hag hQ C hK hX hY hP hD hA hAe hl
  obtain ⟨kx, kb, hml, hown, hts, -⟩ := id C
  have hS : va_S A s0.heap s0.heap [] := va_S.rf
  have hl : lv_has ls 2 [(0, .ref ll), (1, .int (iI 0))] := hl
  refine lv_iload_n kx kb dJ24_isPositionIndex_0 rfl (lv_at hl 1 rfl) ?_
  refine ti_if_lt (tgt := 16) kx kb (by omega) dJ24_isPositionIndex_1 (by decide) (fun h1 => ?_) (fun h1 => ?_)
  · omega
  · refine lv_iload_n kx kb dJ24_isPositionIndex_4 rfl (lv_at hl 1 rfl) ?_
    refine lv_aload_n kx kb dJ24_isPositionIndex_5 rfl (lv_at hl 0 rfl) ?_
    refine va_get (D := D.1) (ci := 6) (v := .int (iI ((L.length : Nat) : Int))) (C := RJ24) (T := TJ24) (N := 4) kx kb hts in_J24 hown hK hP 0 rfl rfl 1 (by decide) (hts _ q724) (fun _ h9 => h9) rfl dJ24_isPositionIndex_6 ?_
    refine ti_icmp_gt (tgt := 16) kx kb (by omega) dJ24_isPositionIndex_9 (by decide) (fun h9 => ?_) (fun h9 => ?_)
    · omega
    · refine lv_iconst (v := iI 1) kx kb dJ24_isPositionIndex_12 rfl ?_
      refine lv_goto (tgt := 17) kx kb dJ24_isPositionIndex_13 (by decide) ?_
      refine W.eq (g2 := F0 m0 17 ls [.int (zI true)]) rfl ?_
      subst hQ
      exact tr_zret C rfl rfl dJ24_isPositionIndex_17
set_option maxHeartbeats 4000000 in
set_option maxRecDepth 100000 in
theorem met_J24_checkElementIndex (l : Launch) (D : TG) (E : TE) (ll : Nat) (mq : Int) (L : List RR) (i : Nat) (hi : i < L.length ∧ L.length ≤ 100) : tRd l yJ24_checkElementIndex cJ24_checkElementIndex 2 none 1 21 [.ref ll, .int (iI ((i : Nat) : Int))] D E [(ll, .inr (6, [.int (iI mq), .int (iI ((L.length : Nat) : Int)), va_rf (llF L), va_rf (llH L)]))] tY0 (none) := by
  refine tu_rd (by decide +kernel) (Nat.le_of_ble_eq_true rfl) ?_
  intro p0 e0 s0 m0 below meth c0 A ls args Q hag hQ C hK hX hY hP hD hA hAe hl
  obtain ⟨kx, kb, hml, hown, hts, -⟩ := id C
  have hS : va_S A s0.heap s0.heap [] := va_S.rf
  have hl : lv_has ls 2 [(0, .ref ll), (1, .int (iI ((i : Nat) : Int)))] := hl
  refine lv_aload_n kx kb dJ24_checkElementIndex_0 rfl (lv_at hl 0 rfl) ?_
  refine lv_iload_n kx kb dJ24_checkElementIndex_1 rfl (lv_at hl 1 rfl) ?_
  refine t_callRV C (met_J24_isElementIndex l D E ll mq L i (by first | assumption | omega)) (cwV 1 hts (lw_V q1109 q1111 qs17 q90 q1112) rfl rfl rfl (by decide +kernel) ⟨Nat.le_of_ble_eq_true rfl, Nat.le_of_ble_eq_true rfl⟩) (va_recv hK hP (ci := 6) (q0 := 0) rfl rfl) hK hX hP hD hS hA [0] rfl (by decide) tYb_0 (fun _ _ _ => trivial) rfl hl.1 rfl (Nat.le_of_ble_eq_true rfl) dJ24_checkElementIndex_2 ⟨(show 0 ≤ 0 from by omega), (show 0 ≤ 0 from by omega)⟩ ?_
  refine W.eq (g2 := F0 m0 5 ls [.int (zI true)]) rfl ?_
  refine tz_if_ne (tgt := 21) kx kb dJ24_checkElementIndex_5 (by decide) (fun h5 => ?_) (fun h5 => ?_)
  · subst hQ
    exact tr_vret C rfl rfl dJ24_checkElementIndex_21
  · exact absurd h5 (by decide)
set_option maxHeartbeats 4000000 in
set_option maxRecDepth 100000 in
theorem met_J24_checkPositionIndex (l : Launch) (D : TG) (E : TE) (ll : Nat) (mq : Int) (L : List RR) (hL : L.length ≤ 100) : tRd l yJ24_checkPositionIndex cJ24_checkPositionIndex 2 none 1 21 [.ref ll, .int (iI 0)] D E [(ll, .inr (6, [.int (iI mq), .int (iI ((L.length : Nat) : Int)), va_rf (llF L), va_rf (llH L)]))] tY0 (none) := by
  refine tu_rd (by decide +kernel) (Nat.le_of_ble_eq_true rfl) ?_
  intro p0 e0 s0 m0 below meth c0 A ls args Q hag hQ C hK hX hY hP hD hA hAe hl
  obtain ⟨kx, kb, hml, hown, hts, -⟩ := id C
  have hS : va_S A s0.heap s0.heap [] := va_S.rf
  have hl : lv_has ls 2 [(0, .ref ll), (1, .int (iI 0))] := hl
  refine lv_aload_n kx kb dJ24_checkPositionIndex_0 rfl (lv_at hl 0 rfl) ?_
  refine lv_iload_n kx kb dJ24_checkPositionIndex_1 rfl (lv_at hl 1 rfl) ?_
  refine t_callRV C (met_J24_isPositionIndex l D E ll mq L (by first | assumption | omega)) (cwV 1 hts (lw_V q1021 q1023 qs14 q90 q1024) rfl rfl rfl (by decide +kernel) ⟨Nat.le_of_ble_eq_true rfl, Nat.le_of_ble_eq_true rfl⟩) (va_recv hK hP (ci := 6) (q0 := 0) rfl rfl) hK hX hP hD hS hA [0] rfl (by decide) tYb_0 (fun _ _ _ => trivial) rfl hl.1 rfl (Nat.le_of_ble_eq_true rfl) dJ24_checkPositionIndex_2 ⟨(show 0 ≤ 0 from by omega), (show 0 ≤ 0 from by omega)⟩ ?_
  refine W.eq (g2 := F0 m0 5 ls [.int (zI true)]) rfl ?_
  refine tz_if_ne (tgt := 21) kx kb dJ24_checkPositionIndex_5 (by decide) (fun h5 => ?_) (fun h5 => ?_)
  · subst hQ
    exact tr_vret C rfl rfl dJ24_checkPositionIndex_21
  · exact absurd h5 (by decide)
set_option maxHeartbeats 4000000 in
set_option maxRecDepth 100000 in
theorem met_J24_node (l : Launch) (D : TG) (E : TE) (ll : Nat) (mq : Int) (L : List RR) (i : Nat) (hi : i < L.length ∧ L.length ≤ 100) : tRd l yJ24_node cJ24_node 4 (some (.object "java/util/LinkedList$Node")) 0 0 [.ref ll, .int (iI ((i : Nat) : Int))] D E ([(ll, .inr (6, [.int (iI mq), .int (iI ((L.length : Nat) : Int)), va_rf (llF L), va_rf (llH L)]))] ++ (llW none L)) tY0 (some (.ref ((llG L i).1))) := by
  refine tu_rd (by decide +kernel) (Nat.le_of_ble_eq_true rfl) ?_
  intro p0 e0 s0 m0 below meth c0 A ls args Q hag hQ C hK hX hY hP hD hA hAe hl
  obtain ⟨kx, kb, hml, hown, hts, -⟩ := id C
  have hS : va_S A s0.heap s0.heap [] := va_S.rf
  have hl : lv_has ls 4 [(0, .ref ll), (1, .int (iI ((i : Nat) : Int)))] := hl
  refine lv_iload_n kx kb dJ24_node_0 rfl (lv_at hl 1 rfl) ?_
  refine lv_aload_n kx kb dJ24_node_1 rfl (lv_at hl 0 rfl) ?_
  refine va_get (D := D.1) (ci := 6) (v := .int (iI ((L.length : Nat) : Int))) (C := RJ24) (T := TJ24) (N := 4) kx kb hts in_J24 hown hK hP 0 rfl rfl 1 (by decide) (hts _ q724) (fun _ h9 => h9) rfl dJ24_node_2 ?_
  refine lv_iconst (v := iI 1) kx kb dJ24_node_5 rfl ?_
  refine lv_ishr kx kb dJ24_node_6 ?_
  refine W.eq (g2 := F0 m0 7 ls [.int (iI ((L.length / 2 : Nat) : Int)), .int (iI ((i : Nat) : Int))]) (by rw [n_shr1 L.length (by omega)]) ?_
  refine ti_icmp_ge (tgt := 35) kx kb (by omega) dJ24_node_7 (by decide) (fun h7 => ?_) (fun h7 => ?_)
  · refine lv_aload_n kx kb dJ24_node_35 rfl (lv_at hl 0 rfl) ?_
    refine va_get (D := D.1) (ci := 6) (v := va_rf (llH L)) (C := RJ24) (T := TJ24) (N := 4) kx kb hts in_J24 hown hK hP 0 rfl rfl 3 (by decide) (hts _ q727) (fun _ h9 => h9) rfl dJ24_node_36 ?_
    refine W.eq (g2 := F0 m0 39 ls [.ref ((llG L (L.length - 1)).1)]) (by rw [llH_some (by omega)]; rfl) ?_
    refine lv_astore_n (lv' := [(2, .ref ((llG L (L.length - 1)).1)), (0, .ref ll), (1, .int (iI ((i : Nat) : Int)))]) kx kb dJ24_node_39 rfl hl (by decide) rfl (fun ls hl => ?_)
    refine lv_aload_n kx kb dJ24_node_40 rfl (lv_at hl 1 rfl) ?_
    refine va_get (D := D.1) (ci := 6) (v := .int (iI ((L.length : Nat) : Int))) (C := RJ24) (T := TJ24) (N := 4) kx kb hts in_J24 hown hK hP 0 rfl rfl 1 (by decide) (hts _ q724) (fun _ h9 => h9) rfl dJ24_node_41 ?_
    refine lv_iconst (v := iI 1) kx kb dJ24_node_44 rfl ?_
    refine ti_isub kx kb dJ24_node_45 ?_
    refine lv_istore_n (lv' := [(3, .int (iI (((L.length : Nat) : Int) - 1))), (2, .ref ((llG L (L.length - 1)).1)), (0, .ref ll), (1, .int (iI ((i : Nat) : Int)))]) kx kb dJ24_node_46 rfl hl (by decide) rfl (fun ls hl => ?_)
    have cut47 : ∀ (fuel : Nat) (z : Int) (k : Nat), (i ≤ k ∧ k < L.length ∧ z = (k : Int)) → k < fuel → ∀ ls : Array Slot, lv_has ls 4 [(3, .int (iI z)), (2, .ref ((llG L k).1)), (0, .ref ll), (1, .int (iI ((i : Nat) : Int)))] → W p0 l e0 ({ frames := 0, cells := 0, slots := 0, locals := 0 } : Room) s0 m0 args below meth c0 s0.heap [] (0) (0) Q (F0 m0 47 ls []) := by
      intro fuel
      induction fuel with
      | zero =>
        intro z k hk hfuel47
        exact absurd hfuel47 (Nat.not_lt_zero _)
      | succ fuel ih47 =>
        intro z k hk hfuel47  ls hl
        refine lv_iload_n kx kb dJ24_node_47 rfl (lv_at hl 0 rfl) ?_
        refine lv_iload_n kx kb dJ24_node_48 rfl (lv_at hl 3 rfl) ?_
        refine ti_icmp_le (tgt := 63) kx kb (by omega) dJ24_node_49 (by decide) (fun h49 => ?_) (fun h49 => ?_)
        · refine lv_aload_n kx kb dJ24_node_63 rfl (lv_at hl 1 rfl) ?_
          subst hQ
          exact tr_aret C rfl (Or.inl ⟨_, rfl⟩) (Or.inr ⟨_, rfl⟩) (by rw [show k = i by omega]) dJ24_node_64
        · refine lv_aload_n kx kb dJ24_node_52 rfl (lv_at hl 1 rfl) ?_
          obtain ⟨kq, hkq⟩ := List.mem_iff_getElem?.mp (show _ ∈ ([(ll, .inr (6, [.int (iI mq), .int (iI ((L.length : Nat) : Int)), va_rf (llF L), va_rf (llH L)]))] ++ (llW none L)) from by have h9_ := ll_node (L := L) (nx := none) (k := k) (by omega); simp only [List.mem_append]; first | exact Or.inr h9_ | exact Or.inr (Or.inr h9_) | exact Or.inr (Or.inl h9_) | exact Or.inr (Or.inr (Or.inr h9_)))
          refine va_get (D := D.1) (ci := 7) (v := va_rf (llPv L k)) (C := RJ25) (T := TJ25) (N := 3) kx kb hts in_J25 hown hK hP kq hkq rfl 2 (by decide) (hts _ q798) (fun _ h9 => h9) rfl dJ24_node_53 ?_
          refine W.eq (g2 := F0 m0 56 ls [.ref ((llG L (k - 1)).1)]) (by rw [show llPv L k = some (llG L (k - 1)).1 from if_neg (by omega)]; rfl) ?_
          refine lv_astore_n (lv' := [(2, .ref ((llG L (k - 1)).1)), (3, .int (iI z)), (0, .ref ll), (1, .int (iI ((i : Nat) : Int)))]) kx kb dJ24_node_56 rfl hl (by decide) rfl (fun ls hl => ?_)
          refine ti_iinc (a := z) (lv' := [(3, .int (iI (z + (-1)))), (2, .ref ((llG L (k - 1)).1)), (0, .ref ll), (1, .int (iI ((i : Nat) : Int)))]) kx kb dJ24_node_57 hl (k := 1) rfl (by decide) rfl (fun ls hl => ?_)
          refine lv_goto (tgt := 47) kx kb dJ24_node_60 (by decide) ?_
          exact ih47 (z + (-1)) (k - 1) (by omega) (by omega) ls hl
    exact cut47 ((L.length - 1) + 1) (((L.length : Nat) : Int) - 1) (L.length - 1) (by omega) (Nat.lt_succ_self _) ls hl
  · refine lv_aload_n kx kb dJ24_node_10 rfl (lv_at hl 0 rfl) ?_
    refine va_get (D := D.1) (ci := 6) (v := va_rf (llF L)) (C := RJ24) (T := TJ24) (N := 4) kx kb hts in_J24 hown hK hP 0 rfl rfl 2 (by decide) (hts _ q726) (fun _ h9 => h9) rfl dJ24_node_11 ?_
    refine W.eq (g2 := F0 m0 14 ls [.ref ((llG L 0).1)]) (by rw [llF_some (by omega)]; rfl) ?_
    refine lv_astore_n (lv' := [(2, .ref ((llG L 0).1)), (0, .ref ll), (1, .int (iI ((i : Nat) : Int)))]) kx kb dJ24_node_14 rfl hl (by decide) rfl (fun ls hl => ?_)
    refine lv_iconst (v := iI 0) kx kb dJ24_node_15 rfl ?_
    refine lv_istore_n (lv' := [(3, .int (iI 0)), (2, .ref ((llG L 0).1)), (0, .ref ll), (1, .int (iI ((i : Nat) : Int)))]) kx kb dJ24_node_16 rfl hl (by decide) rfl (fun ls hl => ?_)
    have cut17 : ∀ (fuel : Nat) (k : Nat), (k ≤ i) → (i - k) < fuel → ∀ ls : Array Slot, lv_has ls 4 [(3, .int (iI (k : Int))), (2, .ref ((llG L k).1)), (0, .ref ll), (1, .int (iI ((i : Nat) : Int)))] → W p0 l e0 ({ frames := 0, cells := 0, slots := 0, locals := 0 } : Room) s0 m0 args below meth c0 s0.heap [] (0) (0) Q (F0 m0 17 ls []) := by
      intro fuel
      induction fuel with
      | zero =>
        intro k hk hfuel17
        exact absurd hfuel17 (Nat.not_lt_zero _)
      | succ fuel ih17 =>
        intro k hk hfuel17  ls hl
        refine lv_iload_n kx kb dJ24_node_17 rfl (lv_at hl 0 rfl) ?_
        refine lv_iload_n kx kb dJ24_node_18 rfl (lv_at hl 3 rfl) ?_
        refine ti_icmp_ge (tgt := 33) kx kb (by omega) dJ24_node_19 (by decide) (fun h19 => ?_) (fun h19 => ?_)
        · refine lv_aload_n kx kb dJ24_node_33 rfl (lv_at hl 1 rfl) ?_
          subst hQ
          exact tr_aret C rfl (Or.inl ⟨_, rfl⟩) (Or.inr ⟨_, rfl⟩) (by rw [show k = i by omega]) dJ24_node_34
        · refine lv_aload_n kx kb dJ24_node_22 rfl (lv_at hl 1 rfl) ?_
          obtain ⟨kq, hkq⟩ := List.mem_iff_getElem?.mp (show _ ∈ ([(ll, .inr (6, [.int (iI mq), .int (iI ((L.length : Nat) : Int)), va_rf (llF L), va_rf (llH L)]))] ++ (llW none L)) from by have h9_ := ll_node (L := L) (nx := none) (k := k) (by omega); simp only [List.mem_append]; first | exact Or.inr h9_ | exact Or.inr (Or.inr h9_) | exact Or.inr (Or.inl h9_) | exact Or.inr (Or.inr (Or.inr h9_)))
          refine va_get (D := D.1) (ci := 7) (v := va_rf (llNx none L k)) (C := RJ25) (T := TJ25) (N := 3) kx kb hts in_J25 hown hK hP kq hkq rfl 1 (by decide) (hts _ q796) (fun _ h9 => h9) rfl dJ24_node_23 ?_
          refine W.eq (g2 := F0 m0 26 ls [.ref ((llG L (k + 1)).1)]) (by rw [show llNx none L k = some (llG L (k + 1)).1 from if_pos (by omega)]; rfl) ?_
          refine lv_astore_n (lv' := [(2, .ref ((llG L (k + 1)).1)), (3, .int (iI (k : Int))), (0, .ref ll), (1, .int (iI ((i : Nat) : Int)))]) kx kb dJ24_node_26 rfl hl (by decide) rfl (fun ls hl => ?_)
          refine ti_iinc (a := (k : Int)) (lv' := [(3, .int (iI ((k : Int) + 1))), (2, .ref ((llG L (k + 1)).1)), (0, .ref ll), (1, .int (iI ((i : Nat) : Int)))]) kx kb dJ24_node_27 hl (k := 1) rfl (by decide) rfl (fun ls hl => ?_)
          refine lv_goto (tgt := 17) kx kb dJ24_node_30 (by decide) ?_
          exact ih17 (k + 1) (by omega) (by omega) ls hl
    exact cut17 ((i - 0) + 1) 0 (by omega) (Nat.lt_succ_self _) ls hl
set_option maxHeartbeats 4000000 in
set_option maxRecDepth 100000 in
theorem met_J24_get (l : Launch) (D : TG) (E : TE) (ll : Nat) (mq : Int) (L : List RR) (i : Nat) (hi : i < L.length ∧ L.length ≤ 100) : tRd l yJ24_get cJ24_get 2 (some (.object "java/lang/Object")) 2 42 [.ref ll, .int (iI ((i : Nat) : Int))] D E ([(ll, .inr (6, [.int (iI mq), .int (iI ((L.length : Nat) : Int)), va_rf (llF L), va_rf (llH L)]))] ++ (llW none L)) tY0 (some (.ref ((llG L i).2.1))) := by
  refine tu_rd (by decide +kernel) (Nat.le_of_ble_eq_true rfl) ?_
  intro p0 e0 s0 m0 below meth c0 A ls args Q hag hQ C hK hX hY hP hD hA hAe hl
  obtain ⟨kx, kb, hml, hown, hts, -⟩ := id C
  have hS : va_S A s0.heap s0.heap [] := va_S.rf
  have hl : lv_has ls 2 [(0, .ref ll), (1, .int (iI ((i : Nat) : Int)))] := hl
  refine lv_aload_n kx kb dJ24_get_0 rfl (lv_at hl 0 rfl) ?_
  refine lv_iload_n kx kb dJ24_get_1 rfl (lv_at hl 1 rfl) ?_
  refine t_callRV C (met_J24_checkElementIndex l D E ll mq L i (by first | assumption | omega)) (cwV 1 hts (lw_V q1105 q1107 qs16 q90 q1108) rfl rfl rfl (by decide +kernel) ⟨Nat.le_of_ble_eq_true rfl, Nat.le_of_ble_eq_true rfl⟩) (va_recv hK hP (ci := 6) (q0 := 0) rfl rfl) hK hX hP hD hS hA [0] (pl_F (fx := [(ll, .inr (6, [.int (iI mq), .int (iI ((L.length : Nat) : Int)), va_rf (llF L), va_rf (llH L)]))]) (pool := llW none L) rfl) (by decide) tYb_0 (fun _ _ _ => trivial) rfl hl.1 rfl (Nat.le_of_ble_eq_true rfl) dJ24_get_2 ⟨(show 0 ≤ 0 from by omega), (show 0 ≤ 0 from by omega)⟩ ?_
  refine W.eq (g2 := F0 m0 5 ls []) rfl ?_
  refine lv_aload_n kx kb dJ24_get_5 rfl (lv_at hl 0 rfl) ?_
  refine lv_iload_n kx kb dJ24_get_6 rfl (lv_at hl 1 rfl) ?_
  refine t_callRV C (met_J24_node l D E ll mq L i (by first | assumption | omega)) (cwV 1 hts (lw_V q1113 q1045 q1046 q90 q1047) rfl rfl rfl (by decide +kernel) ⟨Nat.le_of_ble_eq_true rfl, Nat.le_of_ble_eq_true rfl⟩) (va_recv hK hP (ci := 6) (q0 := 0) rfl rfl) hK hX hP hD hS hA ([0] ++ List.range' 1 (llW none L).length) (pl_R (fx := [(ll, .inr (6, [.int (iI mq), .int (iI ((L.length : Nat) : Int)), va_rf (llF L), va_rf (llH L)]))]) (pool := llW none L) rfl) (pl_ndR (by decide) (by decide)) tYb_0 (fun _ _ _ => trivial)  rfl hl.1 rfl (Nat.le_of_ble_eq_true rfl) dJ24_get_7 ⟨(show 0 ≤ 0 from by omega), (show 0 ≤ 0 from by omega)⟩ ?_
  refine W.eq (g2 := F0 m0 10 ls [.ref ((llG L i).1)]) rfl ?_
  obtain ⟨kq, hkq⟩ := List.mem_iff_getElem?.mp (show _ ∈ ([(ll, .inr (6, [.int (iI mq), .int (iI ((L.length : Nat) : Int)), va_rf (llF L), va_rf (llH L)]))] ++ (llW none L)) from by have h9_ := ll_node (L := L) (nx := none) (k := i) (by omega); simp only [List.mem_append]; first | exact Or.inr h9_ | exact Or.inr (Or.inr h9_) | exact Or.inr (Or.inl h9_) | exact Or.inr (Or.inr (Or.inr h9_)))
  refine va_get (D := D.1) (ci := 7) (v := .ref ((llG L i).2.1)) (C := RJ25) (T := TJ25) (N := 3) kx kb hts in_J25 hown hK hP kq hkq rfl 0 (by decide) (hts _ q793) (fun _ h9 => h9) rfl dJ24_get_10 ?_
  subst hQ
  exact tr_aret C rfl (Or.inl ⟨_, rfl⟩) (Or.inr ⟨_, rfl⟩) rfl dJ24_get_13
