set_option maxRecDepth 100000
set_option maxHeartbeats 4000000 in
set_option maxRecDepth 100000 in
theorem met_J17_intValue_p (l : Launch) (D : TG) (E : TE) (a : Nat) (z : Nat) (M : List (Nat × Int)) (hx : bxv E M a ((z : Nat) : Int)) : tRd l yJ17_intValue cJ17_intValue 1 (some .int) 0 0 [.ref a] D E ([] ++ (bxp M)) tY0 (some (.int (iI ((z : Nat) : Int)))) := by
  refine tu_rd (by decide +kernel) (Nat.le_of_ble_eq_true rfl) ?_
  intro p0 e0 s0 m0 below meth c0 A ls args Q hag hQ C hK hX hY hP hD hA hAe hl
  obtain ⟨kx, kb, hml, hown, hts, -⟩ := id C
  have hS : va_S A s0.heap s0.heap [] := va_S.rf
  have hl : lv_has ls 1 [(0, .ref a)] := hl
  refine lv_aload_n kx kb dJ17_intValue_0 rfl (lv_at hl 0 rfl) ?_
  refine ta_boxget kx kb hts hown hX hK hS hP hx (hts _ q857) dJ17_intValue_1 ?_
  subst hQ
  exact tr_iret C rfl rfl dJ17_intValue_4
