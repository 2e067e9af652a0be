set_option maxRecDepth 100000
set_option maxHeartbeats 4000000 in
set_option maxRecDepth 100000 in
theorem met_J20_grow (l : Launch) (D : TG) (E : TE) (q : Nat) (el : Nat) (n : Nat) (h : Nat) (f : Nat → Option Nat) (L : List Nat) (hn : 17 ≤ n ∧ n ≤ 1400) (hh : h < n) (hL : L.length = n) (hfl : ∀ i_, i_ < n → f (wr n (h + i_)) = L[i_]?) (hf : ∀ i_ y_, i_ < n → f i_ = some y_ → y_ ∈ L) : tMet l yJ20_grow cJ20_grow 9 none 3 84 (1) (gq n) [.ref q, .int (iI 1)] D E [(q, .inr (4, [.ref el, .int (iI ((h : Nat) : Int)), .int (iI ((h : Nat) : Int))])), (el, .inl (D.2 5, n, .inr (.inr (.inr (.inr f)))))] (tYO L) (S := Nat × (Nat → Option Nat)) (fun u_ => DQ (gq n) (h + (gq n - n)) h u_.2 L) (fun u_ => none) (fun u_ => [(q, .inr (4, [.ref u_.1, .int (iI ((h + (gq n - n) : Nat) : Int)), .int (iI ((h : Nat) : Int))])), (u_.1, .inl (D.2 5, gq n, .inr (.inr (.inr (.inr u_.2)))))]) := by
  refine tu_met (by decide +kernel) (Nat.le_of_ble_eq_true rfl) ?_
  intro p0 e0 s0 m0 below meth c0 A ls args Q hag hQ C hK hX hY hP hD hA hAe hl
  obtain ⟨kx, kb, hml, hown, hts, -⟩ := id C
  have hS : va_S A s0.heap s0.heap [] := va_S.rf
  have hl : lv_has ls 9 [(0, .ref q), (1, .int (iI 1))] := hl
  have hgr := gq_rng hn.1
  refine lv_aload_n kx kb dJ20_grow_0 rfl (lv_at hl 0 rfl) ?_
  refine va_get (D := D.1) (ci := 4) (v := .ref el) (C := RJ20) (T := TJ20) (N := 3) kx kb hts in_J20 hown hK hP 0 rfl rfl 0 (by decide) (hts _ q830) (fun _ h9 => h9) rfl dJ20_grow_1 ?_
  refine va_alen (v := iI (n : Int)) kx kb hK hP 1 5 rfl rfl (tx_ofNat _) dJ20_grow_4 ?_
  refine lv_istore_n (lv' := [(2, .int (iI (n : Int))), (0, .ref q), (1, .int (iI 1))]) kx kb dJ20_grow_5 rfl hl (by decide) rfl (fun ls hl => ?_)
  refine lv_iload_n kx kb dJ20_grow_6 rfl (lv_at hl 0 rfl) ?_
  refine lv_bipush (v := iI 64) kx kb dJ20_grow_7 rfl ?_
  refine ti_icmp_ge (tgt := 18) kx kb (by omega) dJ20_grow_9 (by decide) (fun h9 => ?_) (fun h9 => ?_)
  · have hgq : gq n = n + n / 2 := if_neg (by omega)
    refine lv_iload_n kx kb dJ20_grow_18 rfl (lv_at hl 0 rfl) ?_
    refine lv_iconst (v := iI 1) kx kb dJ20_grow_19 rfl ?_
    refine lv_ishr kx kb dJ20_grow_20 ?_
    refine W.eq (g2 := F0 m0 21 ls [.int (iI ((gq n - n : Nat) : Int))]) (by rw [n_shr1 n (by omega), show (n / 2 : Nat) = gq n - n from by omega]) ?_
    refine lv_istore (lv' := [(4, .int (iI ((gq n - n : Nat) : Int))), (2, .int (iI (n : Int))), (0, .ref q), (1, .int (iI 1))]) kx kb dJ20_grow_21 hl (by decide) rfl (fun ls hl => ?_)
    refine lv_iload kx kb dJ20_grow_23 (lv_at hl 0 rfl) ?_
    refine lv_iload_n kx kb dJ20_grow_25 rfl (lv_at hl 3 rfl) ?_
    refine ti_icmp_lt (tgt := 41) kx kb (by omega) dJ20_grow_26 (by decide) (fun h26 => ?_) (fun h26 => ?_)
    · omega
    · refine lv_iload_n kx kb dJ20_grow_29 rfl (lv_at hl 1 rfl) ?_
      refine lv_iload kx kb dJ20_grow_30 (lv_at hl 0 rfl) ?_
      refine ti_iadd kx kb dJ20_grow_32 ?_
      refine W.eq (g2 := F0 m0 33 ls [.int (iI ((gq n : Nat) : Int))]) (by rw [show (n : Int) + ((gq n - n : Nat) : Int) = ((gq n : Nat) : Int) from by omega]) ?_
      refine lv_dup kx kb dJ20_grow_33 rfl ?_
      refine lv_istore_n (lv' := [(3, .int (iI ((gq n : Nat) : Int))), (4, .int (iI ((gq n - n : Nat) : Int))), (2, .int (iI (n : Int))), (0, .ref q), (1, .int (iI 1))]) kx kb dJ20_grow_34 rfl hl (by decide) rfl (fun ls hl => ?_)
      refine lv_ldc (v := iI 2147483639) kx kb hown (hts _ q876) dJ20_grow_35 ?_
      refine ti_isub kx kb dJ20_grow_37 ?_
      refine ti_if_le (tgt := 49) kx kb (by omega) dJ20_grow_38 (by decide) (fun h38 => ?_) (fun h38 => ?_)
      · refine lv_aload_n kx kb dJ20_grow_49 rfl (lv_at hl 3 rfl) ?_
        refine lv_aload_n kx kb dJ20_grow_50 rfl (lv_at hl 3 rfl) ?_
        refine va_get (D := D.1) (ci := 4) (v := .ref el) (C := RJ20) (T := TJ20) (N := 3) kx kb hts in_J20 hown hK hP 0 rfl rfl 0 (by decide) (hts _ q830) (fun _ h9 => h9) rfl dJ20_grow_51 ?_
        refine lv_iload_n kx kb dJ20_grow_54 rfl (lv_at hl 0 rfl) ?_
        refine t_callS (wr := [(q, .inr (4, [.ref el, .int (iI ((h : Nat) : Int)), .int (iI ((h : Nat) : Int))]))]) C (met_J13_copyOf_3 l D E el n f (gq n) L (by first | assumption | omega) (by first | assumption | omega)) (va_cwS 2 hts (lw_S q882 q883 q75 q884) rfl rfl rfl (by decide +kernel) ⟨Nat.le_of_ble_eq_true rfl, Nat.le_of_ble_eq_true rfl⟩) hK hX hP hD hS hA [1] [0] rfl rfl (by decide) (by decide) (by decide) (tYb_O L) (tYO_pass hY hS hD hA (fun _ h_ => h_) [1] rfl) rfl hl.1 rfl (Nat.le_of_ble_eq_true rfl) dJ20_grow_55 ⟨(show 1 ≤ 1 from by omega), (show 0 + (gq n) ≤ gq n from by omega)⟩ (fun u_ H locs hp hP hD hS => ?_)
        obtain ⟨q_1, rfl⟩ : ∃ z, z = u_ := ⟨_, rfl⟩
        have hP : va_P D.1 clAll [(q, .inr (4, [.ref el, .int (iI ((h : Nat) : Int)), .int (iI ((h : Nat) : Int))])), (el, .inl (D.2 5, n, .inr (.inr (.inr (.inr f))))), (q_1, .inl (D.2 5, (gq n), .inr (.inr (.inr (.inr (va_cpy f (fun _ => none) 0 0 n))))))] H := hP
        have hD : va_D A [(q, .inr (4, [.ref el, .int (iI ((h : Nat) : Int)), .int (iI ((h : Nat) : Int))])), (el, .inl (D.2 5, n, .inr (.inr (.inr (.inr f))))), (q_1, .inl (D.2 5, (gq n), .inr (.inr (.inr (.inr (va_cpy f (fun _ => none) 0 0 n))))))] := hD
        refine W.eq (g2 := F0 m0 58 ls [.ref q_1, .ref q]) rfl ?_
        refine W.widen (k := 1) (n := 0 + (gq n)) (Nat.le_refl _) (Nat.le_refl _) ?_
        refine lv_dup_x1 kx kb dJ20_grow_58 rfl rfl ?_
        refine va_put (D := D.1) (ci := 4) (v := .ref q_1) (ty := (.array (.object "java/lang/Object"))) (C := RJ20) (T := TJ20) (N := 3) kx kb hts in_J20 tyJ20 tyJ20_ok nmJ20 hown hK hP hD hS 0 rfl rfl 0 (by decide) (hts _ q830) (fun _ h9 => h9) rfl (by decide +kernel) rfl rfl (Nat.le_of_ble_eq_true rfl) dJ20_grow_59 (fun H locs hP hD hS => ?_)
        have hP : va_P D.1 clAll [(q, .inr (4, [.ref q_1, .int (iI ((h : Nat) : Int)), .int (iI ((h : Nat) : Int))])), (el, .inl (D.2 5, n, .inr (.inr (.inr (.inr f))))), (q_1, .inl (D.2 5, (gq n), .inr (.inr (.inr (.inr (va_cpy f (fun _ => none) 0 0 n))))))] H := hP
        have hD : va_D A [(q, .inr (4, [.ref q_1, .int (iI ((h : Nat) : Int)), .int (iI ((h : Nat) : Int))])), (el, .inl (D.2 5, n, .inr (.inr (.inr (.inr f))))), (q_1, .inl (D.2 5, (gq n), .inr (.inr (.inr (.inr (va_cpy f (fun _ => none) 0 0 n))))))] := hD
        refine lv_astore (lv' := [(5, .ref q_1), (3, .int (iI ((gq n : Nat) : Int))), (4, .int (iI ((gq n - n : Nat) : Int))), (2, .int (iI (n : Int))), (0, .ref q), (1, .int (iI 1))]) kx kb dJ20_grow_62 hl (by decide) rfl (fun ls hl => ?_)
        refine lv_aload_n kx kb dJ20_grow_64 rfl (lv_at hl 4 rfl) ?_
        refine va_get (D := D.1) (ci := 4) (v := .int (iI ((h : Nat) : Int))) (C := RJ20) (T := TJ20) (N := 3) kx kb hts in_J20 hown hK hP 0 rfl rfl 2 (by decide) (hts _ q832) (fun _ h9 => h9) rfl dJ20_grow_65 ?_
        refine lv_aload_n kx kb dJ20_grow_68 rfl (lv_at hl 4 rfl) ?_
        refine va_get (D := D.1) (ci := 4) (v := .int (iI ((h : Nat) : Int))) (C := RJ20) (T := TJ20) (N := 3) kx kb hts in_J20 hown hK hP 0 rfl rfl 1 (by decide) (hts _ q831) (fun _ h9 => h9) rfl dJ20_grow_69 ?_
        refine ti_icmp_lt (tgt := 96) kx kb (by omega) dJ20_grow_72 (by decide) (fun h72 => ?_) (fun h72 => ?_)
        · omega
        · refine lv_aload_n kx kb dJ20_grow_75 rfl (lv_at hl 4 rfl) ?_
          refine va_get (D := D.1) (ci := 4) (v := .int (iI ((h : Nat) : Int))) (C := RJ20) (T := TJ20) (N := 3) kx kb hts in_J20 hown hK hP 0 rfl rfl 2 (by decide) (hts _ q832) (fun _ h9 => h9) rfl dJ20_grow_76 ?_
          refine lv_aload_n kx kb dJ20_grow_79 rfl (lv_at hl 4 rfl) ?_
          refine va_get (D := D.1) (ci := 4) (v := .int (iI ((h : Nat) : Int))) (C := RJ20) (T := TJ20) (N := 3) kx kb hts in_J20 hown hK hP 0 rfl rfl 1 (by decide) (hts _ q831) (fun _ h9 => h9) rfl dJ20_grow_80 ?_
          refine ti_icmp_ne (tgt := 164) kx kb (by omega) dJ20_grow_83 (by decide) (fun h83 => ?_) (fun h83 => ?_)
          · exact absurd rfl h83
          · refine lv_aload kx kb dJ20_grow_86 (lv_at hl 0 rfl) ?_
            refine lv_aload_n kx kb dJ20_grow_88 rfl (lv_at hl 4 rfl) ?_
            refine va_get (D := D.1) (ci := 4) (v := .int (iI ((h : Nat) : Int))) (C := RJ20) (T := TJ20) (N := 3) kx kb hts in_J20 hown hK hP 0 rfl rfl 1 (by decide) (hts _ q831) (fun _ h9 => h9) rfl dJ20_grow_89 ?_
            refine ta_oald C hK hP 2 rfl h (by omega) dJ20_grow_92 ?_
            obtain ⟨y0, hy0⟩ : ∃ y_, f h = some y_ := ⟨L[0]'(by omega), by have h9 := hfl 0 (by omega); rw [show wr n (h + 0) = h from by unfold wr; split <;> omega] at h9; rw [h9]; exact List.getElem?_eq_getElem (by omega)⟩
            refine W.eq (g2 := F0 m0 93 ls [.ref y0]) (by rw [show (va_cpy f (fun _ => none) 0 0 n) h = some y0 from by unfold va_cpy; rw [if_pos (by omega), show 0 + (h - 0) = h from by omega]; exact hy0]; rfl) ?_
            refine lv_ifnull kx kb dJ20_grow_93 ?_
            refine lv_iload_n kx kb dJ20_grow_96 rfl (lv_at hl 1 rfl) ?_
            refine lv_iload_n kx kb dJ20_grow_97 rfl (lv_at hl 3 rfl) ?_
            refine ti_isub kx kb dJ20_grow_98 ?_
            refine W.eq (g2 := F0 m0 99 ls [.int (iI ((gq n - n : Nat) : Int))]) (by rw [show ((gq n : Nat) : Int) - (n : Int) = ((gq n - n : Nat) : Int) from by omega]) ?_
            refine lv_istore (lv' := [(6, .int (iI ((gq n - n : Nat) : Int))), (5, .ref q_1), (3, .int (iI ((gq n : Nat) : Int))), (4, .int (iI ((gq n - n : Nat) : Int))), (2, .int (iI (n : Int))), (0, .ref q), (1, .int (iI 1))]) kx kb dJ20_grow_99 hl (by decide) rfl (fun ls hl => ?_)
            refine lv_aload kx kb dJ20_grow_101 (lv_at hl 1 rfl) ?_
            refine lv_aload_n kx kb dJ20_grow_103 rfl (lv_at hl 5 rfl) ?_
            refine va_get (D := D.1) (ci := 4) (v := .int (iI ((h : Nat) : Int))) (C := RJ20) (T := TJ20) (N := 3) kx kb hts in_J20 hown hK hP 0 rfl rfl 1 (by decide) (hts _ q831) (fun _ h9 => h9) rfl dJ20_grow_104 ?_
            refine lv_aload kx kb dJ20_grow_107 (lv_at hl 1 rfl) ?_
            refine lv_aload_n kx kb dJ20_grow_109 rfl (lv_at hl 5 rfl) ?_
            refine va_get (D := D.1) (ci := 4) (v := .int (iI ((h : Nat) : Int))) (C := RJ20) (T := TJ20) (N := 3) kx kb hts in_J20 hown hK hP 0 rfl rfl 1 (by decide) (hts _ q831) (fun _ h9 => h9) rfl dJ20_grow_110 ?_
            refine lv_iload kx kb dJ20_grow_113 (lv_at hl 0 rfl) ?_
            refine ti_iadd kx kb dJ20_grow_115 ?_
            refine lv_iload_n kx kb dJ20_grow_116 rfl (lv_at hl 4 rfl) ?_
            refine lv_aload_n kx kb dJ20_grow_117 rfl (lv_at hl 5 rfl) ?_
            refine va_get (D := D.1) (ci := 4) (v := .int (iI ((h : Nat) : Int))) (C := RJ20) (T := TJ20) (N := 3) kx kb hts in_J20 hown hK hP 0 rfl rfl 1 (by decide) (hts _ q831) (fun _ h9 => h9) rfl dJ20_grow_118 ?_
            refine ti_isub kx kb dJ20_grow_121 ?_
            refine ta_copyq kx kb (hml.trans hl.1.symm) hown (hts _ q915) (hts _ q294) (hts _ q293) (hts _ q76) hX hK hP hD hS 2 2 rfl rfl h (h + (gq n - n)) (n - h) (by omega) (fun i_ hi_ y_ hy_ => tYO_at hY hS (hf (h + i_) y_ (by omega) (by rw [← hy_]; unfold va_cpy; rw [if_pos (by omega), show 0 + (h + i_ - 0) = h + i_ from by omega]))) (Nat.le_of_ble_eq_true rfl) (Nat.le_of_ble_eq_true rfl) dJ20_grow_122 (fun H locs hP hD hS => ?_)
            have hP : va_P D.1 clAll [(q, .inr (4, [.ref q_1, .int (iI ((h : Nat) : Int)), .int (iI ((h : Nat) : Int))])), (el, .inl (D.2 5, n, .inr (.inr (.inr (.inr f))))), (q_1, .inl (D.2 5, (gq n), .inr (.inr (.inr (.inr (va_cpy (va_cpy f (fun _ => none) 0 0 n) (va_cpy f (fun _ => none) 0 0 n) h (h + (gq n - n)) (n - h)))))))] H := hP
            have hD : va_D A [(q, .inr (4, [.ref q_1, .int (iI ((h : Nat) : Int)), .int (iI ((h : Nat) : Int))])), (el, .inl (D.2 5, n, .inr (.inr (.inr (.inr f))))), (q_1, .inl (D.2 5, (gq n), .inr (.inr (.inr (.inr (va_cpy (va_cpy f (fun _ => none) 0 0 n) (va_cpy f (fun _ => none) 0 0 n) h (h + (gq n - n)) (n - h)))))))] := hD
            refine lv_aload_n kx kb dJ20_grow_125 rfl (lv_at hl 5 rfl) ?_
            refine va_get (D := D.1) (ci := 4) (v := .int (iI ((h : Nat) : Int))) (C := RJ20) (T := TJ20) (N := 3) kx kb hts in_J20 hown hK hP 0 rfl rfl 1 (by decide) (hts _ q831) (fun _ h9 => h9) rfl dJ20_grow_126 ?_
            refine lv_istore (lv' := [(7, .int (iI ((h : Nat) : Int))), (6, .int (iI ((gq n - n : Nat) : Int))), (5, .ref q_1), (3, .int (iI ((gq n : Nat) : Int))), (4, .int (iI ((gq n - n : Nat) : Int))), (2, .int (iI (n : Int))), (0, .ref q), (1, .int (iI 1))]) kx kb dJ20_grow_129 hl (by decide) rfl (fun ls hl => ?_)
            refine lv_aload_n kx kb dJ20_grow_131 rfl (lv_at hl 6 rfl) ?_
            refine lv_dup kx kb dJ20_grow_132 rfl ?_
            refine va_get (D := D.1) (ci := 4) (v := .int (iI ((h : Nat) : Int))) (C := RJ20) (T := TJ20) (N := 3) kx kb hts in_J20 hown hK hP 0 rfl rfl 1 (by decide) (hts _ q831) (fun _ h9 => h9) rfl dJ20_grow_133 ?_
            refine lv_iload kx kb dJ20_grow_136 (lv_at hl 1 rfl) ?_
            refine ti_iadd kx kb dJ20_grow_138 ?_
            refine W.eq (g2 := F0 m0 139 ls [.int (iI ((h + (gq n - n) : Nat) : Int)), .ref q]) (by rw [show ((h : Nat) : Int) + ((gq n - n : Nat) : Int) = ((h + (gq n - n) : Nat) : Int) from by omega]) ?_
            refine lv_dup_x1 kx kb dJ20_grow_139 rfl rfl ?_
            refine va_put (D := D.1) (ci := 4) (v := .int (iI ((h + (gq n - n) : Nat) : Int))) (ty := .int) (C := RJ20) (T := TJ20) (N := 3) kx kb hts in_J20 tyJ20 tyJ20_ok nmJ20 hown hK hP hD hS 0 rfl rfl 1 (by decide) (hts _ q831) (fun _ h9 => h9) rfl (by decide +kernel) rfl rfl (Nat.le_of_ble_eq_true rfl) dJ20_grow_140 (fun H locs hP hD hS => ?_)
            have hP : va_P D.1 clAll [(q, .inr (4, [.ref q_1, .int (iI ((h + (gq n - n) : Nat) : Int)), .int (iI ((h : Nat) : Int))])), (el, .inl (D.2 5, n, .inr (.inr (.inr (.inr f))))), (q_1, .inl (D.2 5, (gq n), .inr (.inr (.inr (.inr (va_cpy (va_cpy f (fun _ => none) 0 0 n) (va_cpy f (fun _ => none) 0 0 n) h (h + (gq n - n)) (n - h)))))))] H := hP
            have hD : va_D A [(q, .inr (4, [.ref q_1, .int (iI ((h + (gq n - n) : Nat) : Int)), .int (iI ((h : Nat) : Int))])), (el, .inl (D.2 5, n, .inr (.inr (.inr (.inr f))))), (q_1, .inl (D.2 5, (gq n), .inr (.inr (.inr (.inr (va_cpy (va_cpy f (fun _ => none) 0 0 n) (va_cpy f (fun _ => none) 0 0 n) h (h + (gq n - n)) (n - h)))))))] := hD
            refine lv_istore (lv' := [(8, .int (iI ((h + (gq n - n) : Nat) : Int))), (7, .int (iI ((h : Nat) : Int))), (6, .int (iI ((gq n - n : Nat) : Int))), (5, .ref q_1), (3, .int (iI ((gq n : Nat) : Int))), (4, .int (iI ((gq n - n : Nat) : Int))), (2, .int (iI (n : Int))), (0, .ref q), (1, .int (iI 1))]) kx kb dJ20_grow_143 hl (by decide) rfl (fun ls hl => ?_)
            have cut145 : ∀ (fuel : Nat) (i : Nat) (k2 : Nat → Option Nat), (h ≤ i ∧ i ≤ h + (gq n - n)) → (∀ k_, k_ < gq n → k2 k_ = if h ≤ k_ ∧ k_ < i then none else (va_cpy (va_cpy f (fun _ => none) 0 0 n) (va_cpy f (fun _ => none) 0 0 n) h (h + (gq n - n)) (n - h)) k_) → (h + (gq n - n) - i) < fuel → ∀ (H : Heap) (locs : List Loc), va_P D.1 clAll [(q, .inr (4, [.ref q_1, .int (iI ((h + (gq n - n) : Nat) : Int)), .int (iI ((h : Nat) : Int))])), (el, .inl (D.2 5, n, .inr (.inr (.inr (.inr f))))), (q_1, .inl (D.2 5, (gq n), .inr (.inr (.inr (.inr k2)))))] H → va_D A [(q, .inr (4, [.ref q_1, .int (iI ((h + (gq n - n) : Nat) : Int)), .int (iI ((h : Nat) : Int))])), (el, .inl (D.2 5, n, .inr (.inr (.inr (.inr f))))), (q_1, .inl (D.2 5, (gq n), .inr (.inr (.inr (.inr k2)))))] → va_S A s0.heap H locs → ∀ ls : Array Slot, lv_has ls 9 [(8, .int (iI ((h + (gq n - n) : Nat) : Int))), (7, .int (iI (i : Int))), (6, .int (iI ((gq n - n : Nat) : Int))), (5, .ref q_1), (3, .int (iI ((gq n : Nat) : Int))), (4, .int (iI ((gq n - n : Nat) : Int))), (2, .int (iI (n : Int))), (0, .ref q), (1, .int (iI 1))] → W p0 l e0 ({ frames := 3, cells := 1, slots := gq n, locals := 84 } : Room) s0 m0 args below meth c0 H locs (1) (0 + (gq n)) Q (F0 m0 145 ls []) := by
              intro fuel
              induction fuel with
              | zero =>
                intro i k2 hi hk2 hfuel145
                exact absurd hfuel145 (Nat.not_lt_zero _)
              | succ fuel ih145 =>
                intro i k2 hi hk2 hfuel145 H locs hP hD hS ls hl
                refine lv_iload kx kb dJ20_grow_145 (lv_at hl 1 rfl) ?_
                refine lv_iload kx kb dJ20_grow_147 (lv_at hl 0 rfl) ?_
                refine ti_icmp_ge (tgt := 164) kx kb (by omega) dJ20_grow_149 (by decide) (fun h149 => ?_) (fun h149 => ?_)
                · subst hQ
                  exact tm_vret C (q_1, k2) (DQ_grow (by omega) hh hL hfl (gr_cpy f (by omega) hh) (fun k_ hk_ => by have h9 := hk2 k_ hk_; rw [show i = h + (gq n - n) from by omega] at h9; exact h9)) (hP.sub [0, 2] rfl) (hD.sub [0, 2] (by decide) rfl) hS (show 1 ≤ 1 from by omega) (show 0 + (gq n) ≤ gq n from by omega) rfl rfl dJ20_grow_164
                · refine lv_aload kx kb dJ20_grow_152 (lv_at hl 3 rfl) ?_
                  refine lv_iload kx kb dJ20_grow_154 (lv_at hl 1 rfl) ?_
                  refine lv_null kx kb dJ20_grow_156 ?_
                  refine ta_oastN C hK hP hD hS 2 rfl i (by omega) dJ20_grow_157 (fun H locs hP hD hS => ?_)
                  have hP : va_P D.1 clAll [(q, .inr (4, [.ref q_1, .int (iI ((h + (gq n - n) : Nat) : Int)), .int (iI ((h : Nat) : Int))])), (el, .inl (D.2 5, n, .inr (.inr (.inr (.inr f))))), (q_1, .inl (D.2 5, (gq n), .inr (.inr (.inr (.inr (va_up k2 i none))))))] H := hP
                  have hD : va_D A [(q, .inr (4, [.ref q_1, .int (iI ((h + (gq n - n) : Nat) : Int)), .int (iI ((h : Nat) : Int))])), (el, .inl (D.2 5, n, .inr (.inr (.inr (.inr f))))), (q_1, .inl (D.2 5, (gq n), .inr (.inr (.inr (.inr (va_up k2 i none))))))] := hD
                  refine ti_iinc (a := (i : Int)) (lv' := [(7, .int (iI ((i : Int) + 1))), (8, .int (iI ((h + (gq n - n) : Nat) : Int))), (6, .int (iI ((gq n - n : Nat) : Int))), (5, .ref q_1), (3, .int (iI ((gq n : Nat) : Int))), (4, .int (iI ((gq n - n : Nat) : Int))), (2, .int (iI (n : Int))), (0, .ref q), (1, .int (iI 1))]) kx kb dJ20_grow_158 hl (k := 1) rfl (by decide) rfl (fun ls hl => ?_)
                  refine lv_goto (tgt := 145) kx kb dJ20_grow_161 (by decide) ?_
                  exact ih145 (i + 1) (va_up k2 i none) (by omega) (fun k_ hk_ => by unfold va_up; by_cases e_ : k_ = i; (rw [if_pos e_, if_pos (by omega)]); (rw [if_neg e_, hk2 k_ hk_]; by_cases e2_ : h ≤ k_ ∧ k_ < i; (rw [if_pos e2_, if_pos (by omega)]); rw [if_neg e2_, if_neg (by omega)])) (by omega) H locs hP hD hS ls (lv_sub hl [1, 0, 2, 3, 4, 5, 6, 7, 8] rfl)
            exact cut145 ((h + (gq n - n) - h) + 1) h (va_cpy (va_cpy f (fun _ => none) 0 0 n) (va_cpy f (fun _ => none) 0 0 n) h (h + (gq n - n)) (n - h)) (by omega) (fun k_ hk_ => by rw [if_neg (by omega)]) (Nat.lt_succ_self _) H locs hP hD hS ls hl
      · omega
  · have hgq : gq n = n + (n + 2) := if_pos (by omega)
    refine lv_iload_n kx kb dJ20_grow_12 rfl (lv_at hl 0 rfl) ?_
    refine lv_iconst (v := iI 2) kx kb dJ20_grow_13 rfl ?_
    refine ti_iadd kx kb dJ20_grow_14 ?_
    refine lv_goto (tgt := 21) kx kb dJ20_grow_15 (by decide) ?_
    refine W.eq (g2 := F0 m0 21 ls [.int (iI ((gq n - n : Nat) : Int))]) (by rw [show (n : Int) + 2 = ((gq n - n : Nat) : Int) from by omega]) ?_
    refine lv_istore (lv' := [(4, .int (iI ((gq n - n : Nat) : Int))), (2, .int (iI (n : Int))), (0, .ref q), (1, .int (iI 1))]) kx kb dJ20_grow_21 hl (by decide) rfl (fun ls hl => ?_)
    refine lv_iload kx kb dJ20_grow_23 (lv_at hl 0 rfl) ?_
    refine lv_iload_n kx kb dJ20_grow_25 rfl (lv_at hl 3 rfl) ?_
    refine ti_icmp_lt (tgt := 41) kx kb (by omega) dJ20_grow_26 (by decide) (fun h26 => ?_) (fun h26 => ?_)
    · omega
    · refine lv_iload_n kx kb dJ20_grow_29 rfl (lv_at hl 1 rfl) ?_
      refine lv_iload kx kb dJ20_grow_30 (lv_at hl 0 rfl) ?_
      refine ti_iadd kx kb dJ20_grow_32 ?_
      refine W.eq (g2 := F0 m0 33 ls [.int (iI ((gq n : Nat) : Int))]) (by rw [show (n : Int) + ((gq n - n : Nat) : Int) = ((gq n : Nat) : Int) from by omega]) ?_
      refine lv_dup kx kb dJ20_grow_33 rfl ?_
      refine lv_istore_n (lv' := [(3, .int (iI ((gq n : Nat) : Int))), (4, .int (iI ((gq n - n : Nat) : Int))), (2, .int (iI (n : Int))), (0, .ref q), (1, .int (iI 1))]) kx kb dJ20_grow_34 rfl hl (by decide) rfl (fun ls hl => ?_)
      refine lv_ldc (v := iI 2147483639) kx kb hown (hts _ q876) dJ20_grow_35 ?_
      refine ti_isub kx kb dJ20_grow_37 ?_
      refine ti_if_le (tgt := 49) kx kb (by omega) dJ20_grow_38 (by decide) (fun h38 => ?_) (fun h38 => ?_)
      · refine lv_aload_n kx kb dJ20_grow_49 rfl (lv_at hl 3 rfl) ?_
        refine lv_aload_n kx kb dJ20_grow_50 rfl (lv_at hl 3 rfl) ?_
        refine va_get (D := D.1) (ci := 4) (v := .ref el) (C := RJ20) (T := TJ20) (N := 3) kx kb hts in_J20 hown hK hP 0 rfl rfl 0 (by decide) (hts _ q830) (fun _ h9 => h9) rfl dJ20_grow_51 ?_
        refine lv_iload_n kx kb dJ20_grow_54 rfl (lv_at hl 0 rfl) ?_
        refine t_callS (wr := [(q, .inr (4, [.ref el, .int (iI ((h : Nat) : Int)), .int (iI ((h : Nat) : Int))]))]) C (met_J13_copyOf_3 l D E el n f (gq n) L (by first | assumption | omega) (by first | assumption | omega)) (va_cwS 2 hts (lw_S q882 q883 q75 q884) rfl rfl rfl (by decide +kernel) ⟨Nat.le_of_ble_eq_true rfl, Nat.le_of_ble_eq_true rfl⟩) hK hX hP hD hS hA [1] [0] rfl rfl (by decide) (by decide) (by decide) (tYb_O L) (tYO_pass hY hS hD hA (fun _ h_ => h_) [1] rfl) rfl hl.1 rfl (Nat.le_of_ble_eq_true rfl) dJ20_grow_55 ⟨(show 1 ≤ 1 from by omega), (show 0 + (gq n) ≤ gq n from by omega)⟩ (fun u_ H locs hp hP hD hS => ?_)
        obtain ⟨q_2, rfl⟩ : ∃ z, z = u_ := ⟨_, rfl⟩
        have hP : va_P D.1 clAll [(q, .inr (4, [.ref el, .int (iI ((h : Nat) : Int)), .int (iI ((h : Nat) : Int))])), (el, .inl (D.2 5, n, .inr (.inr (.inr (.inr f))))), (q_2, .inl (D.2 5, (gq n), .inr (.inr (.inr (.inr (va_cpy f (fun _ => none) 0 0 n))))))] H := hP
        have hD : va_D A [(q, .inr (4, [.ref el, .int (iI ((h : Nat) : Int)), .int (iI ((h : Nat) : Int))])), (el, .inl (D.2 5, n, .inr (.inr (.inr (.inr f))))), (q_2, .inl (D.2 5, (gq n), .inr (.inr (.inr (.inr (va_cpy f (fun _ => none) 0 0 n))))))] := hD
        refine W.eq (g2 := F0 m0 58 ls [.ref q_2, .ref q]) rfl ?_
        refine W.widen (k := 1) (n := 0 + (gq n)) (Nat.le_refl _) (Nat.le_refl _) ?_
        refine lv_dup_x1 kx kb dJ20_grow_58 rfl rfl ?_
        refine va_put (D := D.1) (ci := 4) (v := .ref q_2) (ty := (.array (.object "java/lang/Object"))) (C := RJ20) (T := TJ20) (N := 3) kx kb hts in_J20 tyJ20 tyJ20_ok nmJ20 hown hK hP hD hS 0 rfl rfl 0 (by decide) (hts _ q830) (fun _ h9 => h9) rfl (by decide +kernel) rfl rfl (Nat.le_of_ble_eq_true rfl) dJ20_grow_59 (fun H locs hP hD hS => ?_)
        have hP : va_P D.1 clAll [(q, .inr (4, [.ref q_2, .int (iI ((h : Nat) : Int)), .int (iI ((h : Nat) : Int))])), (el, .inl (D.2 5, n, .inr (.inr (.inr (.inr f))))), (q_2, .inl (D.2 5, (gq n), .inr (.inr (.inr (.inr (va_cpy f (fun _ => none) 0 0 n))))))] H := hP
        have hD : va_D A [(q, .inr (4, [.ref q_2, .int (iI ((h : Nat) : Int)), .int (iI ((h : Nat) : Int))])), (el, .inl (D.2 5, n, .inr (.inr (.inr (.inr f))))), (q_2, .inl (D.2 5, (gq n), .inr (.inr (.inr (.inr (va_cpy f (fun _ => none) 0 0 n))))))] := hD
        refine lv_astore (lv' := [(5, .ref q_2), (3, .int (iI ((gq n : Nat) : Int))), (4, .int (iI ((gq n - n : Nat) : Int))), (2, .int (iI (n : Int))), (0, .ref q), (1, .int (iI 1))]) kx kb dJ20_grow_62 hl (by decide) rfl (fun ls hl => ?_)
        refine lv_aload_n kx kb dJ20_grow_64 rfl (lv_at hl 4 rfl) ?_
        refine va_get (D := D.1) (ci := 4) (v := .int (iI ((h : Nat) : Int))) (C := RJ20) (T := TJ20) (N := 3) kx kb hts in_J20 hown hK hP 0 rfl rfl 2 (by decide) (hts _ q832) (fun _ h9 => h9) rfl dJ20_grow_65 ?_
        refine lv_aload_n kx kb dJ20_grow_68 rfl (lv_at hl 4 rfl) ?_
        refine va_get (D := D.1) (ci := 4) (v := .int (iI ((h : Nat) : Int))) (C := RJ20) (T := TJ20) (N := 3) kx kb hts in_J20 hown hK hP 0 rfl rfl 1 (by decide) (hts _ q831) (fun _ h9 => h9) rfl dJ20_grow_69 ?_
        refine ti_icmp_lt (tgt := 96) kx kb (by omega) dJ20_grow_72 (by decide) (fun h72 => ?_) (fun h72 => ?_)
        · omega
        · refine lv_aload_n kx kb dJ20_grow_75 rfl (lv_at hl 4 rfl) ?_
          refine va_get (D := D.1) (ci := 4) (v := .int (iI ((h : Nat) : Int))) (C := RJ20) (T := TJ20) (N := 3) kx kb hts in_J20 hown hK hP 0 rfl rfl 2 (by decide) (hts _ q832) (fun _ h9 => h9) rfl dJ20_grow_76 ?_
          refine lv_aload_n kx kb dJ20_grow_79 rfl (lv_at hl 4 rfl) ?_
          refine va_get (D := D.1) (ci := 4) (v := .int (iI ((h : Nat) : Int))) (C := RJ20) (T := TJ20) (N := 3) kx kb hts in_J20 hown hK hP 0 rfl rfl 1 (by decide) (hts _ q831) (fun _ h9 => h9) rfl dJ20_grow_80 ?_
          refine ti_icmp_ne (tgt := 164) kx kb (by omega) dJ20_grow_83 (by decide) (fun h83 => ?_) (fun h83 => ?_)
          · exact absurd rfl h83
          · refine lv_aload kx kb dJ20_grow_86 (lv_at hl 0 rfl) ?_
            refine lv_aload_n kx kb dJ20_grow_88 rfl (lv_at hl 4 rfl) ?_
            refine va_get (D := D.1) (ci := 4) (v := .int (iI ((h : Nat) : Int))) (C := RJ20) (T := TJ20) (N := 3) kx kb hts in_J20 hown hK hP 0 rfl rfl 1 (by decide) (hts _ q831) (fun _ h9 => h9) rfl dJ20_grow_89 ?_
            refine ta_oald C hK hP 2 rfl h (by omega) dJ20_grow_92 ?_
            obtain ⟨y0, hy0⟩ : ∃ y_, f h = some y_ := ⟨L[0]'(by omega), by have h9 := hfl 0 (by omega); rw [show wr n (h + 0) = h from by unfold wr; split <;> omega] at h9; rw [h9]; exact List.getElem?_eq_getElem (by omega)⟩
            refine W.eq (g2 := F0 m0 93 ls [.ref y0]) (by rw [show (va_cpy f (fun _ => none) 0 0 n) h = some y0 from by unfold va_cpy; rw [if_pos (by omega), show 0 + (h - 0) = h from by omega]; exact hy0]; rfl) ?_
            refine lv_ifnull kx kb dJ20_grow_93 ?_
            refine lv_iload_n kx kb dJ20_grow_96 rfl (lv_at hl 1 rfl) ?_
            refine lv_iload_n kx kb dJ20_grow_97 rfl (lv_at hl 3 rfl) ?_
            refine ti_isub kx kb dJ20_grow_98 ?_
            refine W.eq (g2 := F0 m0 99 ls [.int (iI ((gq n - n : Nat) : Int))]) (by rw [show ((gq n : Nat) : Int) - (n : Int) = ((gq n - n : Nat) : Int) from by omega]) ?_
            refine lv_istore (lv' := [(6, .int (iI ((gq n - n : Nat) : Int))), (5, .ref q_2), (3, .int (iI ((gq n : Nat) : Int))), (4, .int (iI ((gq n - n : Nat) : Int))), (2, .int (iI (n : Int))), (0, .ref q), (1, .int (iI 1))]) kx kb dJ20_grow_99 hl (by decide) rfl (fun ls hl => ?_)
            refine lv_aload kx kb dJ20_grow_101 (lv_at hl 1 rfl) ?_
            refine lv_aload_n kx kb dJ20_grow_103 rfl (lv_at hl 5 rfl) ?_
            refine va_get (D := D.1) (ci := 4) (v := .int (iI ((h : Nat) : Int))) (C := RJ20) (T := TJ20) (N := 3) kx kb hts in_J20 hown hK hP 0 rfl rfl 1 (by decide) (hts _ q831) (fun _ h9 => h9) rfl dJ20_grow_104 ?_
            refine lv_aload kx kb dJ20_grow_107 (lv_at hl 1 rfl) ?_
            refine lv_aload_n kx kb dJ20_grow_109 rfl (lv_at hl 5 rfl) ?_
            refine va_get (D := D.1) (ci := 4) (v := .int (iI ((h : Nat) : Int))) (C := RJ20) (T := TJ20) (N := 3) kx kb hts in_J20 hown hK hP 0 rfl rfl 1 (by decide) (hts _ q831) (fun _ h9 => h9) rfl dJ20_grow_110 ?_
            refine lv_iload kx kb dJ20_grow_113 (lv_at hl 0 rfl) ?_
            refine ti_iadd kx kb dJ20_grow_115 ?_
            refine lv_iload_n kx kb dJ20_grow_116 rfl (lv_at hl 4 rfl) ?_
            refine lv_aload_n kx kb dJ20_grow_117 rfl (lv_at hl 5 rfl) ?_
            refine va_get (D := D.1) (ci := 4) (v := .int (iI ((h : Nat) : Int))) (C := RJ20) (T := TJ20) (N := 3) kx kb hts in_J20 hown hK hP 0 rfl rfl 1 (by decide) (hts _ q831) (fun _ h9 => h9) rfl dJ20_grow_118 ?_
            refine ti_isub kx kb dJ20_grow_121 ?_
            refine ta_copyq kx kb (hml.trans hl.1.symm) hown (hts _ q915) (hts _ q294) (hts _ q293) (hts _ q76) hX hK hP hD hS 2 2 rfl rfl h (h + (gq n - n)) (n - h) (by omega) (fun i_ hi_ y_ hy_ => tYO_at hY hS (hf (h + i_) y_ (by omega) (by rw [← hy_]; unfold va_cpy; rw [if_pos (by omega), show 0 + (h + i_ - 0) = h + i_ from by omega]))) (Nat.le_of_ble_eq_true rfl) (Nat.le_of_ble_eq_true rfl) dJ20_grow_122 (fun H locs hP hD hS => ?_)
            have hP : va_P D.1 clAll [(q, .inr (4, [.ref q_2, .int (iI ((h : Nat) : Int)), .int (iI ((h : Nat) : Int))])), (el, .inl (D.2 5, n, .inr (.inr (.inr (.inr f))))), (q_2, .inl (D.2 5, (gq n), .inr (.inr (.inr (.inr (va_cpy (va_cpy f (fun _ => none) 0 0 n) (va_cpy f (fun _ => none) 0 0 n) h (h + (gq n - n)) (n - h)))))))] H := hP
            have hD : va_D A [(q, .inr (4, [.ref q_2, .int (iI ((h : Nat) : Int)), .int (iI ((h : Nat) : Int))])), (el, .inl (D.2 5, n, .inr (.inr (.inr (.inr f))))), (q_2, .inl (D.2 5, (gq n), .inr (.inr (.inr (.inr (va_cpy (va_cpy f (fun _ => none) 0 0 n) (va_cpy f (fun _ => none) 0 0 n) h (h + (gq n - n)) (n - h)))))))] := hD
            refine lv_aload_n kx kb dJ20_grow_125 rfl (lv_at hl 5 rfl) ?_
            refine va_get (D := D.1) (ci := 4) (v := .int (iI ((h : Nat) : Int))) (C := RJ20) (T := TJ20) (N := 3) kx kb hts in_J20 hown hK hP 0 rfl rfl 1 (by decide) (hts _ q831) (fun _ h9 => h9) rfl dJ20_grow_126 ?_
            refine lv_istore (lv' := [(7, .int (iI ((h : Nat) : Int))), (6, .int (iI ((gq n - n : Nat) : Int))), (5, .ref q_2), (3, .int (iI ((gq n : Nat) : Int))), (4, .int (iI ((gq n - n : Nat) : Int))), (2, .int (iI (n : Int))), (0, .ref q), (1, .int (iI 1))]) kx kb dJ20_grow_129 hl (by decide) rfl (fun ls hl => ?_)
            refine lv_aload_n kx kb dJ20_grow_131 rfl (lv_at hl 6 rfl) ?_
            refine lv_dup kx kb dJ20_grow_132 rfl ?_
            refine va_get (D := D.1) (ci := 4) (v := .int (iI ((h : Nat) : Int))) (C := RJ20) (T := TJ20) (N := 3) kx kb hts in_J20 hown hK hP 0 rfl rfl 1 (by decide) (hts _ q831) (fun _ h9 => h9) rfl dJ20_grow_133 ?_
            refine lv_iload kx kb dJ20_grow_136 (lv_at hl 1 rfl) ?_
            refine ti_iadd kx kb dJ20_grow_138 ?_
            refine W.eq (g2 := F0 m0 139 ls [.int (iI ((h + (gq n - n) : Nat) : Int)), .ref q]) (by rw [show ((h : Nat) : Int) + ((gq n - n : Nat) : Int) = ((h + (gq n - n) : Nat) : Int) from by omega]) ?_
            refine lv_dup_x1 kx kb dJ20_grow_139 rfl rfl ?_
            refine va_put (D := D.1) (ci := 4) (v := .int (iI ((h + (gq n - n) : Nat) : Int))) (ty := .int) (C := RJ20) (T := TJ20) (N := 3) kx kb hts in_J20 tyJ20 tyJ20_ok nmJ20 hown hK hP hD hS 0 rfl rfl 1 (by decide) (hts _ q831) (fun _ h9 => h9) rfl (by decide +kernel) rfl rfl (Nat.le_of_ble_eq_true rfl) dJ20_grow_140 (fun H locs hP hD hS => ?_)
            have hP : va_P D.1 clAll [(q, .inr (4, [.ref q_2, .int (iI ((h + (gq n - n) : Nat) : Int)), .int (iI ((h : Nat) : Int))])), (el, .inl (D.2 5, n, .inr (.inr (.inr (.inr f))))), (q_2, .inl (D.2 5, (gq n), .inr (.inr (.inr (.inr (va_cpy (va_cpy f (fun _ => none) 0 0 n) (va_cpy f (fun _ => none) 0 0 n) h (h + (gq n - n)) (n - h)))))))] H := hP
            have hD : va_D A [(q, .inr (4, [.ref q_2, .int (iI ((h + (gq n - n) : Nat) : Int)), .int (iI ((h : Nat) : Int))])), (el, .inl (D.2 5, n, .inr (.inr (.inr (.inr f))))), (q_2, .inl (D.2 5, (gq n), .inr (.inr (.inr (.inr (va_cpy (va_cpy f (fun _ => none) 0 0 n) (va_cpy f (fun _ => none) 0 0 n) h (h + (gq n - n)) (n - h)))))))] := hD
            refine lv_istore (lv' := [(8, .int (iI ((h + (gq n - n) : Nat) : Int))), (7, .int (iI ((h : Nat) : Int))), (6, .int (iI ((gq n - n : Nat) : Int))), (5, .ref q_2), (3, .int (iI ((gq n : Nat) : Int))), (4, .int (iI ((gq n - n : Nat) : Int))), (2, .int (iI (n : Int))), (0, .ref q), (1, .int (iI 1))]) kx kb dJ20_grow_143 hl (by decide) rfl (fun ls hl => ?_)
            have cut145 : ∀ (fuel : Nat) (i : Nat) (k2 : Nat → Option Nat), (h ≤ i ∧ i ≤ h + (gq n - n)) → (∀ k_, k_ < gq n → k2 k_ = if h ≤ k_ ∧ k_ < i then none else (va_cpy (va_cpy f (fun _ => none) 0 0 n) (va_cpy f (fun _ => none) 0 0 n) h (h + (gq n - n)) (n - h)) k_) → (h + (gq n - n) - i) < fuel → ∀ (H : Heap) (locs : List Loc), va_P D.1 clAll [(q, .inr (4, [.ref q_2, .int (iI ((h + (gq n - n) : Nat) : Int)), .int (iI ((h : Nat) : Int))])), (el, .inl (D.2 5, n, .inr (.inr (.inr (.inr f))))), (q_2, .inl (D.2 5, (gq n), .inr (.inr (.inr (.inr k2)))))] H → va_D A [(q, .inr (4, [.ref q_2, .int (iI ((h + (gq n - n) : Nat) : Int)), .int (iI ((h : Nat) : Int))])), (el, .inl (D.2 5, n, .inr (.inr (.inr (.inr f))))), (q_2, .inl (D.2 5, (gq n), .inr (.inr (.inr (.inr k2)))))] → va_S A s0.heap H locs → ∀ ls : Array Slot, lv_has ls 9 [(8, .int (iI ((h + (gq n - n) : Nat) : Int))), (7, .int (iI (i : Int))), (6, .int (iI ((gq n - n : Nat) : Int))), (5, .ref q_2), (3, .int (iI ((gq n : Nat) : Int))), (4, .int (iI ((gq n - n : Nat) : Int))), (2, .int (iI (n : Int))), (0, .ref q), (1, .int (iI 1))] → W p0 l e0 ({ frames := 3, cells := 1, slots := gq n, locals := 84 } : Room) s0 m0 args below meth c0 H locs (1) (0 + (gq n)) Q (F0 m0 145 ls []) := by
              intro fuel
              induction fuel with
              | zero =>
                intro i k2 hi hk2 hfuel145
                exact absurd hfuel145 (Nat.not_lt_zero _)
              | succ fuel ih145 =>
                intro i k2 hi hk2 hfuel145 H locs hP hD hS ls hl
                refine lv_iload kx kb dJ20_grow_145 (lv_at hl 1 rfl) ?_
                refine lv_iload kx kb dJ20_grow_147 (lv_at hl 0 rfl) ?_
                refine ti_icmp_ge (tgt := 164) kx kb (by omega) dJ20_grow_149 (by decide) (fun h149 => ?_) (fun h149 => ?_)
                · subst hQ
                  exact tm_vret C (q_2, k2) (DQ_grow (by omega) hh hL hfl (gr_cpy f (by omega) hh) (fun k_ hk_ => by have h9 := hk2 k_ hk_; rw [show i = h + (gq n - n) from by omega] at h9; exact h9)) (hP.sub [0, 2] rfl) (hD.sub [0, 2] (by decide) rfl) hS (show 1 ≤ 1 from by omega) (show 0 + (gq n) ≤ gq n from by omega) rfl rfl dJ20_grow_164
                · refine lv_aload kx kb dJ20_grow_152 (lv_at hl 3 rfl) ?_
                  refine lv_iload kx kb dJ20_grow_154 (lv_at hl 1 rfl) ?_
                  refine lv_null kx kb dJ20_grow_156 ?_
                  refine ta_oastN C hK hP hD hS 2 rfl i (by omega) dJ20_grow_157 (fun H locs hP hD hS => ?_)
                  have hP : va_P D.1 clAll [(q, .inr (4, [.ref q_2, .int (iI ((h + (gq n - n) : Nat) : Int)), .int (iI ((h : Nat) : Int))])), (el, .inl (D.2 5, n, .inr (.inr (.inr (.inr f))))), (q_2, .inl (D.2 5, (gq n), .inr (.inr (.inr (.inr (va_up k2 i none))))))] H := hP
                  have hD : va_D A [(q, .inr (4, [.ref q_2, .int (iI ((h + (gq n - n) : Nat) : Int)), .int (iI ((h : Nat) : Int))])), (el, .inl (D.2 5, n, .inr (.inr (.inr (.inr f))))), (q_2, .inl (D.2 5, (gq n), .inr (.inr (.inr (.inr (va_up k2 i none))))))] := hD
                  refine ti_iinc (a := (i : Int)) (lv' := [(7, .int (iI ((i : Int) + 1))), (8, .int (iI ((h + (gq n - n) : Nat) : Int))), (6, .int (iI ((gq n - n : Nat) : Int))), (5, .ref q_2), (3, .int (iI ((gq n : Nat) : Int))), (4, .int (iI ((gq n - n : Nat) : Int))), (2, .int (iI (n : Int))), (0, .ref q), (1, .int (iI 1))]) kx kb dJ20_grow_158 hl (k := 1) rfl (by decide) rfl (fun ls hl => ?_)
                  refine lv_goto (tgt := 145) kx kb dJ20_grow_161 (by decide) ?_
                  exact ih145 (i + 1) (va_up k2 i none) (by omega) (fun k_ hk_ => by unfold va_up; by_cases e_ : k_ = i; (rw [if_pos e_, if_pos (by omega)]); (rw [if_neg e_, hk2 k_ hk_]; by_cases e2_ : h ≤ k_ ∧ k_ < i; (rw [if_pos e2_, if_pos (by omega)]); rw [if_neg e2_, if_neg (by omega)])) (by omega) H locs hP hD hS ls (lv_sub hl [1, 0, 2, 3, 4, 5, 6, 7, 8] rfl)
            exact cut145 ((h + (gq n - n) - h) + 1) h (va_cpy (va_cpy f (fun _ => none) 0 0 n) (va_cpy f (fun _ => none) 0 0 n) h (h + (gq n - n)) (n - h)) (by omega) (fun k_ hk_ => by rw [if_neg (by omega)]) (Nat.lt_succ_self _) H locs hP hD hS ls hl
      · omega
set_option maxHeartbeats 4000000 in
set_option maxRecDepth 100000 in
theorem met_J20_addLast (l : Launch) (D : TG) (E : TE) (q : Nat) (el : Nat) (n : Nat) (h : Nat) (t : Nat) (f : Nat → Option Nat) (L : List Nat) (e : Nat) (hq : DQ n h t f L) (hn : 17 ≤ n ∧ n ≤ 1400) : tMet l yJ20_addLast cJ20_addLast 3 none 4 112 (dqC n L.length) (dqS n L.length) [.ref q, .ref e] D E [(q, .inr (4, [.ref el, .int (iI ((h : Nat) : Int)), .int (iI ((t : Nat) : Int))])), (el, .inl (D.2 5, n, .inr (.inr (.inr (.inr f)))))] (tYO (e :: L)) (S := Nat × Nat × Nat × (Nat → Option Nat)) (fun u_ => DQ (dqN n L.length) u_.2.1 u_.2.2.1 u_.2.2.2 (L ++ [e])) (fun u_ => none) (fun u_ => [(q, .inr (4, [.ref u_.1, .int (iI ((u_.2.1 : Nat) : Int)), .int (iI ((u_.2.2.1 : Nat) : Int))])), (u_.1, .inl (D.2 5, dqN n L.length, .inr (.inr (.inr (.inr u_.2.2.2)))))]) := by
  refine tu_met (by decide +kernel) (Nat.le_of_ble_eq_true rfl) ?_
  intro p0 e0 s0 m0 below meth c0 A ls args Q hag hQ C hK hX hY hP hD hA hAe hl
  obtain ⟨kx, kb, hml, hown, hts, -⟩ := id C
  have hS : va_S A s0.heap s0.heap [] := va_S.rf
  have hl : lv_has ls 3 [(0, .ref q), (1, .ref e)] := hl
  have hdt := DQ_t hq
  have hdh := hq.1
  have hdn := hq.2.1
  have hwr := wr_lt (n := n) (k := t + 1) (by omega)
  refine lv_aload_n kx kb dJ20_addLast_0 rfl (lv_at hl 1 rfl) ?_
  refine lv_ifnonnull (tgt := 12) kx kb dJ20_addLast_1 (by decide) ?_
  refine lv_aload_n kx kb dJ20_addLast_12 rfl (lv_at hl 0 rfl) ?_
  refine va_get (D := D.1) (ci := 4) (v := .ref el) (C := RJ20) (T := TJ20) (N := 3) kx kb hts in_J20 hown hK hP 0 rfl rfl 0 (by decide) (hts _ q830) (fun _ h9 => h9) rfl dJ20_addLast_13 ?_
  refine lv_astore_n (lv' := [(2, .ref el), (0, .ref q), (1, .ref e)]) kx kb dJ20_addLast_16 rfl hl (by decide) rfl (fun ls hl => ?_)
  refine lv_aload_n kx kb dJ20_addLast_17 rfl (lv_at hl 0 rfl) ?_
  refine lv_aload_n kx kb dJ20_addLast_18 rfl (lv_at hl 1 rfl) ?_
  refine va_get (D := D.1) (ci := 4) (v := .int (iI ((t : Nat) : Int))) (C := RJ20) (T := TJ20) (N := 3) kx kb hts in_J20 hown hK hP 0 rfl rfl 2 (by decide) (hts _ q832) (fun _ h9 => h9) rfl dJ20_addLast_19 ?_
  refine lv_aload_n kx kb dJ20_addLast_22 rfl (lv_at hl 2 rfl) ?_
  refine ta_oast C hX hK hP hD hS 1 rfl t (by omega) (tYO_at hY hS (List.mem_cons_self)) dJ20_addLast_23 (fun H locs hP hD hS => ?_)
  have hP : va_P D.1 clAll [(q, .inr (4, [.ref el, .int (iI ((h : Nat) : Int)), .int (iI ((t : Nat) : Int))])), (el, .inl (D.2 5, n, .inr (.inr (.inr (.inr (va_up f t (some e)))))))] H := hP
  have hD : va_D A [(q, .inr (4, [.ref el, .int (iI ((h : Nat) : Int)), .int (iI ((t : Nat) : Int))])), (el, .inl (D.2 5, n, .inr (.inr (.inr (.inr (va_up f t (some e)))))))] := hD
  refine lv_aload_n kx kb dJ20_addLast_24 rfl (lv_at hl 1 rfl) ?_
  refine va_get (D := D.1) (ci := 4) (v := .int (iI ((h : Nat) : Int))) (C := RJ20) (T := TJ20) (N := 3) kx kb hts in_J20 hown hK hP 0 rfl rfl 1 (by decide) (hts _ q831) (fun _ h9 => h9) rfl dJ20_addLast_25 ?_
  refine lv_aload_n kx kb dJ20_addLast_28 rfl (lv_at hl 1 rfl) ?_
  refine lv_aload_n kx kb dJ20_addLast_29 rfl (lv_at hl 1 rfl) ?_
  refine va_get (D := D.1) (ci := 4) (v := .int (iI ((t : Nat) : Int))) (C := RJ20) (T := TJ20) (N := 3) kx kb hts in_J20 hown hK hP 0 rfl rfl 2 (by decide) (hts _ q832) (fun _ h9 => h9) rfl dJ20_addLast_30 ?_
  refine lv_aload_n kx kb dJ20_addLast_33 rfl (lv_at hl 0 rfl) ?_
  refine va_alen (v := iI (n : Int)) kx kb hK hP 1 5 rfl rfl (tx_ofNat _) dJ20_addLast_34 ?_
  refine t_callRS C (met_J20_inc l D E t n (by first | assumption | omega)) (va_cwS 2 hts (lw_S q869 q870 q83 q871) rfl rfl rfl (by decide +kernel) ⟨Nat.le_of_ble_eq_true rfl, Nat.le_of_ble_eq_true rfl⟩) hK hX hP hD hS hA [] rfl (by decide) tYb_0 (fun _ _ _ => trivial) rfl hl.1 rfl (Nat.le_of_ble_eq_true rfl) dJ20_addLast_35 ⟨(show 0 ≤ dqC n L.length from by omega), (show 0 ≤ dqS n L.length from by omega)⟩ ?_
  refine W.eq (g2 := F0 m0 38 ls [.int (iI ((wr n (t + 1) : Nat) : Int)), .ref q, .int (iI ((h : Nat) : Int))]) rfl ?_
  refine lv_dup_x1 kx kb dJ20_addLast_38 rfl rfl ?_
  refine va_put (D := D.1) (ci := 4) (v := .int (iI ((wr n (t + 1) : Nat) : Int))) (ty := .int) (C := RJ20) (T := TJ20) (N := 3) kx kb hts in_J20 tyJ20 tyJ20_ok nmJ20 hown hK hP hD hS 0 rfl rfl 2 (by decide) (hts _ q832) (fun _ h9 => h9) rfl (by decide +kernel) rfl rfl (Nat.le_of_ble_eq_true rfl) dJ20_addLast_39 (fun H locs hP hD hS => ?_)
  have hP : va_P D.1 clAll [(q, .inr (4, [.ref el, .int (iI ((h : Nat) : Int)), .int (iI ((wr n (t + 1) : Nat) : Int))])), (el, .inl (D.2 5, n, .inr (.inr (.inr (.inr (va_up f t (some e)))))))] H := hP
  have hD : va_D A [(q, .inr (4, [.ref el, .int (iI ((h : Nat) : Int)), .int (iI ((wr n (t + 1) : Nat) : Int))])), (el, .inl (D.2 5, n, .inr (.inr (.inr (.inr (va_up f t (some e)))))))] := hD
  refine ti_icmp_ne (tgt := 50) kx kb (by omega) dJ20_addLast_42 (by decide) (fun h42 => ?_) (fun h42 => ?_)
  · have hfu : wr n (t + 1) ≠ h := by omega
    have hLn : L.length + 1 ≠ n := fun e_ => hfu ((DQ_full hq).mpr e_)
    have hLl := hq.2.2.1
    have hdN : dqN n L.length = n := if_neg hLn
    have hdC : dqC n L.length = 0 := if_neg hLn
    have hdS : dqS n L.length = 0 := if_neg hLn
    have hP : va_P D.1 clAll [(q, .inr (4, [.ref el, .int (iI ((h : Nat) : Int)), .int (iI ((wr n (t + 1) : Nat) : Int))])), (el, .inl (D.2 5, dqN n L.length, .inr (.inr (.inr (.inr (va_up f t (some e)))))))] H := by rw [hdN]; exact hP
    have hD : va_D A [(q, .inr (4, [.ref el, .int (iI ((h : Nat) : Int)), .int (iI ((wr n (t + 1) : Nat) : Int))])), (el, .inl (D.2 5, dqN n L.length, .inr (.inr (.inr (.inr (va_up f t (some e)))))))] := by rw [hdN]; exact hD
    subst hQ
    exact tm_vret C (el, h, wr n (t + 1), va_up f t (some e)) (by rw [hdN]; exact DQ_add hq (by omega)) hP hD hS (show 0 ≤ dqC n L.length from by omega) (show 0 ≤ dqS n L.length from by omega) rfl rfl dJ20_addLast_50
  · have hfu : wr n (t + 1) = h := by omega
    have hLn := (DQ_full hq).mp hfu
    have hdN : dqN n L.length = gq n := if_pos hLn
    have hdC : dqC n L.length = 1 := if_pos hLn
    have hdS : dqS n L.length = gq n := if_pos hLn
    rw [hfu] at hP hD
    have hP : va_P D.1 clAll [(q, .inr (4, [.ref el, .int (iI ((h : Nat) : Int)), .int (iI ((h : Nat) : Int))])), (el, .inl (D.2 5, n, .inr (.inr (.inr (.inr (va_up f t (some e)))))))] H := by skip; exact hP
    have hD : va_D A [(q, .inr (4, [.ref el, .int (iI ((h : Nat) : Int)), .int (iI ((h : Nat) : Int))])), (el, .inl (D.2 5, n, .inr (.inr (.inr (.inr (va_up f t (some e)))))))] := by skip; exact hD
    refine lv_aload_n kx kb dJ20_addLast_45 rfl (lv_at hl 1 rfl) ?_
    refine lv_iconst (v := iI 1) kx kb dJ20_addLast_46 rfl ?_
    refine t_callV (wr := []) C (met_J20_grow l D E q el n h (va_up f t (some e)) (L ++ [e]) (by first | assumption | omega) (hdh) (by simp; omega) (DQ_addf hq hLn) (DQ_addm hq)) (cwV 1 hts (lw_V q872 q874 qs10 q83 q875) rfl rfl rfl (by decide +kernel) ⟨Nat.le_of_ble_eq_true rfl, Nat.le_of_ble_eq_true rfl⟩) (va_recv hK hP (ci := 4) (q0 := 0) rfl rfl) hK hX hP hD hS hA [0, 1] [] rfl rfl (by decide) (by decide) (by decide) (tYb_O _) (tYO_pass hY hS hD hA (fun y_ h_ => by rcases List.mem_append.mp h_ with h_ | h_; (exact List.mem_cons_of_mem _ h_); rw [List.mem_singleton.mp h_]; exact List.mem_cons_self) [0, 1] rfl) rfl hl.1 rfl (Nat.le_of_ble_eq_true rfl) dJ20_addLast_47 ⟨(show 1 ≤ dqC n L.length from by omega), (show 0 + (gq n) ≤ dqS n L.length from by omega)⟩ (fun u_ H locs hp hP hD hS => ?_)
    obtain ⟨el2_1, f2_2⟩ := u_
    have hc47_1 : DQ (gq n) (h + (gq n - n)) h f2_2 (L ++ [e]) := hp
    have hP : va_P D.1 clAll [(q, .inr (4, [.ref el2_1, .int (iI ((h + (gq n - n) : Nat) : Int)), .int (iI ((h : Nat) : Int))])), (el2_1, .inl (D.2 5, gq n, .inr (.inr (.inr (.inr f2_2)))))] H := hP
    have hD : va_D A [(q, .inr (4, [.ref el2_1, .int (iI ((h + (gq n - n) : Nat) : Int)), .int (iI ((h : Nat) : Int))])), (el2_1, .inl (D.2 5, gq n, .inr (.inr (.inr (.inr f2_2)))))] := hD
    refine W.eq (g2 := F0 m0 50 ls []) rfl ?_
    refine W.widen (k := 1) (n := 0 + (gq n)) (Nat.le_refl _) (Nat.le_refl _) ?_
    have hP : va_P D.1 clAll [(q, .inr (4, [.ref el2_1, .int (iI ((h + (gq n - n) : Nat) : Int)), .int (iI ((h : Nat) : Int))])), (el2_1, .inl (D.2 5, dqN n L.length, .inr (.inr (.inr (.inr f2_2)))))] H := by rw [hdN]; exact hP
    have hD : va_D A [(q, .inr (4, [.ref el2_1, .int (iI ((h + (gq n - n) : Nat) : Int)), .int (iI ((h : Nat) : Int))])), (el2_1, .inl (D.2 5, dqN n L.length, .inr (.inr (.inr (.inr f2_2)))))] := by rw [hdN]; exact hD
    subst hQ
    exact tm_vret C (el2_1, h + (gq n - n), h, f2_2) (by rw [hdN]; exact hc47_1) hP hD hS (show 1 ≤ dqC n L.length from by omega) (show 0 + (gq n) ≤ dqS n L.length from by omega) rfl rfl dJ20_addLast_50
