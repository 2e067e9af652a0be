set_option maxRecDepth 100000
set_option maxHeartbeats 4000000 in
set_option maxRecDepth 100000 in
theorem met_J13_copyOf_4 (l : Launch) (D : TG) (E : TE) (el : Nat) (n : Nat) (f : Nat → Option Nat) (r : Nat) (L : List Nat) (hr : n ≤ r ∧ r < 4000) (hf : ∀ i_ y_, i_ < n → f i_ = some y_ → y_ ∈ L) : tMet l yJ13_copyOf_4 cJ13_copyOf_4 4 (some (.array (.object "java/lang/Object"))) 1 40 (1) (r) [.ref el, .int (iI ((r : Nat) : Int)), .ref E.2.2.2.2.1] D E [(el, .inl (D.2 5, n, .inr (.inr (.inr (.inr f)))))] (tYO L) (S := Nat) (fun u_ => True) (fun u_ => some (.ref u_)) (fun u_ => [(el, .inl (D.2 5, n, .inr (.inr (.inr (.inr f))))), (u_, .inl (D.2 5, r, .inr (.inr (.inr (.inr (va_cpy f (fun _ => none) 0 0 n))))))]) := by
  refine tu_met (by decide +kernel) (Nat.le_of_ble_eq_true rfl) ?_
  intro p0 e0 s0 m0 below meth c0 A ls args Q hag hQ C hK hX hY hP hD hA hAe hl
  obtain ⟨kx, kb, hml, hown, hts, -⟩ := id C
  have hS : va_S A s0.heap s0.heap [] := va_S.rf
  have hl : lv_has ls 4 [(0, .ref el), (1, .int (iI ((r : Nat) : Int))), (2, .ref E.2.2.2.2.1)] := hl
  refine lv_aload_n kx kb dJ13_copyOf_4_0 rfl (lv_at hl 2 rfl) ?_
  refine va_ldcM kx kb hown (hts _ q913) hX.2.2.2.2.2.2.2.2.2.2.2.2.2.1 dJ13_copyOf_4_1 ?_
  refine lv_acmp_ne (rx := some E.2.2.2.2.1) (ry := some E.2.2.2.2.1) (tgt := 13) kx kb dJ13_copyOf_4_3 (by decide) (fun h3 => ?_) (fun h3 => ?_)
  · exact absurd rfl h3
  · refine lv_iload_n kx kb dJ13_copyOf_4_6 rfl (lv_at hl 1 rfl) ?_
    refine ta_newO C hown (hts _ q914) hX hK hP hD hS hA r (by omega) ⟨(show 1 ≤ 1 from by omega), (show 0 + r ≤ r from by omega)⟩ dJ13_copyOf_4_7 (fun q_1 H hP hD hS => ?_)
    have hP : va_P D.1 clAll [(el, .inl (D.2 5, n, .inr (.inr (.inr (.inr f))))), (q_1, .inl (D.2 5, r, .inr (.inr (.inr (.inr (fun _ => none))))))] H := hP
    have hD : va_D A [(el, .inl (D.2 5, n, .inr (.inr (.inr (.inr f))))), (q_1, .inl (D.2 5, r, .inr (.inr (.inr (.inr (fun _ => none))))))] := hD
    refine lv_goto (tgt := 24) kx kb dJ13_copyOf_4_10 (by decide) ?_
    refine lv_astore_n (lv' := [(3, .ref q_1), (0, .ref el), (1, .int (iI ((r : Nat) : Int))), (2, .ref E.2.2.2.2.1)]) kx kb dJ13_copyOf_4_24 rfl hl (by decide) rfl (fun ls hl => ?_)
    refine lv_aload_n kx kb dJ13_copyOf_4_25 rfl (lv_at hl 1 rfl) ?_
    refine lv_iconst (v := iI 0) kx kb dJ13_copyOf_4_26 rfl ?_
    refine lv_aload_n kx kb dJ13_copyOf_4_27 rfl (lv_at hl 0 rfl) ?_
    refine lv_iconst (v := iI 0) kx kb dJ13_copyOf_4_28 rfl ?_
    refine lv_aload_n kx kb dJ13_copyOf_4_29 rfl (lv_at hl 1 rfl) ?_
    refine va_alen (v := iI (n : Int)) kx kb hK hP 0 5 rfl rfl (tx_ofNat _) dJ13_copyOf_4_30 ?_
    refine lv_iload_n kx kb dJ13_copyOf_4_31 rfl (lv_at hl 2 rfl) ?_
    refine ti_mmin kx kb (hml.trans hl.1.symm) hown (hts _ q289) (hts _ q290) (hts _ q74) (hts _ q291) (Nat.le_of_ble_eq_true rfl) (Nat.le_of_ble_eq_true rfl) (show 1 ≤ 1 from by omega) (show 0 + r ≤ r from by omega) (by omega) dJ13_copyOf_4_32 ?_
    refine ta_copyq kx kb (hml.trans hl.1.symm) hown (hts _ q292) (hts _ q294) (hts _ q293) (hts _ q76) hX hK hP hD hS 0 1 rfl rfl 0 0 n (by omega) (fun i_ hi_ y_ hy_ => tYO_at hY hS (hf _ y_ (by omega) hy_)) (Nat.le_of_ble_eq_true rfl) (Nat.le_of_ble_eq_true rfl) dJ13_copyOf_4_35 (fun H locs hP hD hS => ?_)
    have hP : va_P D.1 clAll [(el, .inl (D.2 5, n, .inr (.inr (.inr (.inr f))))), (q_1, .inl (D.2 5, r, .inr (.inr (.inr (.inr (va_cpy f (fun _ => none) 0 0 n))))))] H := hP
    have hD : va_D A [(el, .inl (D.2 5, n, .inr (.inr (.inr (.inr f))))), (q_1, .inl (D.2 5, r, .inr (.inr (.inr (.inr (va_cpy f (fun _ => none) 0 0 n))))))] := hD
    refine lv_aload_n kx kb dJ13_copyOf_4_38 rfl (lv_at hl 0 rfl) ?_
    subst hQ
    exact tm_aret C q_1 trivial hP hD hS (show 1 ≤ 1 from by omega) (show 0 + r ≤ r from by omega) rfl rfl (Or.inr ⟨_, rfl⟩) (Or.inr ⟨_, rfl⟩) dJ13_copyOf_4_39
set_option maxHeartbeats 4000000 in
set_option maxRecDepth 100000 in
theorem met_J13_copyOf_3 (l : Launch) (D : TG) (E : TE) (el : Nat) (n : Nat) (f : Nat → Option Nat) (r : Nat) (L : List Nat) (hr : n ≤ r ∧ r < 4000) (hf : ∀ i_ y_, i_ < n → f i_ = some y_ → y_ ∈ L) : tMet l yJ13_copyOf_3 cJ13_copyOf_3 2 (some (.array (.object "java/lang/Object"))) 2 63 (1) (r) [.ref el, .int (iI ((r : Nat) : Int))] D E [(el, .inl (D.2 5, n, .inr (.inr (.inr (.inr f)))))] (tYO L) (S := Nat) (fun u_ => True) (fun u_ => some (.ref u_)) (fun u_ => [(el, .inl (D.2 5, n, .inr (.inr (.inr (.inr f))))), (u_, .inl (D.2 5, r, .inr (.inr (.inr (.inr (va_cpy f (fun _ => none) 0 0 n))))))]) := by
  refine tu_met (by decide +kernel) (Nat.le_of_ble_eq_true rfl) ?_
  intro p0 e0 s0 m0 below meth c0 A ls args Q hag hQ C hK hX hY hP hD hA hAe hl
  obtain ⟨kx, kb, hml, hown, hts, -⟩ := id C
  have hS : va_S A s0.heap s0.heap [] := va_S.rf
  have hl : lv_has ls 2 [(0, .ref el), (1, .int (iI ((r : Nat) : Int)))] := hl
  refine lv_aload_n kx kb dJ13_copyOf_3_0 rfl (lv_at hl 0 rfl) ?_
  refine lv_iload_n kx kb dJ13_copyOf_3_1 rfl (lv_at hl 1 rfl) ?_
  refine lv_aload_n kx kb dJ13_copyOf_3_2 rfl (lv_at hl 0 rfl) ?_
  refine ta_getC kx kb (hml.trans hl.1.symm) hown (hts _ q885) (hts _ q1720) (hts _ q886) (hts _ q909) hX hK hP 0 rfl (Nat.le_of_ble_eq_true rfl) (Nat.le_of_ble_eq_true rfl) dJ13_copyOf_3_3 ?_
  refine t_callS (wr := []) C (met_J13_copyOf_4 l D E el n f r L (by first | assumption | omega) (by first | assumption | omega)) (va_cwS 3 hts (lw_S q910 q911 q75 q912) rfl rfl rfl (by decide +kernel) ⟨Nat.le_of_ble_eq_true rfl, Nat.le_of_ble_eq_true rfl⟩) hK hX hP hD hS hA [0] [] rfl rfl (by decide) (by decide) (by decide) (tYb_O L) (tYO_pass hY hS hD hA (fun _ h_ => h_) [0] rfl) rfl hl.1 rfl (Nat.le_of_ble_eq_true rfl) dJ13_copyOf_3_6 ⟨(show 1 ≤ 1 from by omega), (show 0 + r ≤ r from by omega)⟩ (fun u_ H locs hp hP hD hS => ?_)
  obtain ⟨q_1, rfl⟩ : ∃ z, z = u_ := ⟨_, rfl⟩
  have hP : va_P D.1 clAll [(el, .inl (D.2 5, n, .inr (.inr (.inr (.inr f))))), (q_1, .inl (D.2 5, r, .inr (.inr (.inr (.inr (va_cpy f (fun _ => none) 0 0 n))))))] H := hP
  have hD : va_D A [(el, .inl (D.2 5, n, .inr (.inr (.inr (.inr f))))), (q_1, .inl (D.2 5, r, .inr (.inr (.inr (.inr (va_cpy f (fun _ => none) 0 0 n))))))] := hD
  refine W.eq (g2 := F0 m0 9 ls [.ref q_1]) rfl ?_
  refine W.widen (k := 1) (n := 0 + r) (Nat.le_refl _) (Nat.le_refl _) ?_
  subst hQ
  exact tm_aret C q_1 trivial hP hD hS (show 1 ≤ 1 from by omega) (show 0 + r ≤ r from by omega) rfl rfl (Or.inr ⟨_, rfl⟩) (Or.inr ⟨_, rfl⟩) dJ13_copyOf_3_9
