set_option maxRecDepth 100000
set_option maxHeartbeats 4000000 in
set_option maxRecDepth 100000 in
theorem met_X2_areInk (l : Launch) (D : TG) (E : TE) (a : Nat) (b : Nat) (v : Nat) (n : Nat) (w : Nat) (g : Nat) (P : Nat → Bool) (c : Nat) (k : Int) (hw : 1 ≤ w ∧ w ≤ 32) (hg : 1 ≤ g ∧ g ≤ 32) (hB : BB P n) (hc : c < 1024) (hk : 0 ≤ k ∧ k < 8) : tRd l yX2_areInk cX2_areInk 3 (some .boolean) 4 88 [.ref a, .int (iI ((c : Nat) : Int)), .int (iI k)] D E [(a, .inr (2, [.int (iI ((w : Nat) : Int)), .int (iI ((g : Nat) : Int)), .ref b])), (b, .inr (3, [.ref v, .int (iI ((un P : Nat) : Int)), .int (zI false)])), (v, .inl (D.2 2, n, .inr (.inl (wd P))))] tY0 (some (.int (zI (tri w g P c k)))) := by
  refine tu_rd (by decide +kernel) (Nat.le_of_ble_eq_true rfl) ?_
  intro p0 e0 s0 m0 below meth c0 A ls args Q hag hQ C hK hX hY hP hD hA hAe hl
  obtain ⟨kx, kb, hml, hown, hts, -⟩ := id C
  have hS : va_S A s0.heap s0.heap [] := va_S.rf
  have hl : lv_has ls 3 [(0, .ref a), (1, .int (iI ((c : Nat) : Int))), (2, .int (iI k))] := hl
  have hwg := wg_le hw hg
  have hBn := hB.1
  have hBm := hB.2.1
  have hul := un_le hB
  refine lv_aload_n kx kb dX2_areInk_0 rfl (lv_at hl 0 rfl) ?_
  refine lv_iload_n kx kb dX2_areInk_1 rfl (lv_at hl 1 rfl) ?_
  refine lv_iload_n kx kb dX2_areInk_2 rfl (lv_at hl 2 rfl) ?_
  refine lv_bipush (v := iI 6) kx kb dX2_areInk_3 rfl ?_
  refine ti_iadd kx kb dX2_areInk_5 ?_
  refine lv_bipush (v := iI 8) kx kb dX2_areInk_6 rfl ?_
  refine ti_irem kx kb (by omega) dX2_areInk_8 ?_
  refine t_callRV C (met_X2_isInkBeside l D E a b v n w g P c ((k + 6) % 8) (by first | assumption | omega) (by first | assumption | omega) (by first | assumption | omega) (by first | assumption | omega) (by first | assumption | omega)) (cwV 2 hts (lw_V q597 q598 q599 q60 q600) rfl rfl rfl (by decide +kernel) ⟨Nat.le_of_ble_eq_true rfl, Nat.le_of_ble_eq_true rfl⟩) (va_recv hK hP (ci := 2) (q0 := 0) rfl rfl) hK hX hP hD hS hA [0, 1, 2] rfl (by decide) tYb_0 (fun _ _ _ => trivial) rfl hl.1 rfl (Nat.le_of_ble_eq_true rfl) dX2_areInk_9 ⟨(show 0 ≤ 0 from by omega), (show 0 ≤ 0 from by omega)⟩ ?_
  refine W.eq (g2 := F0 m0 12 ls [.int (zI (bes w g P c ((k + 6) % 8)))]) rfl ?_
  refine tz_if_eq (tgt := 42) kx kb dX2_areInk_12 (by decide) (fun h12 => ?_) (fun h12 => ?_)
  · refine lv_iconst (v := iI 0) kx kb dX2_areInk_42 rfl ?_
    refine W.eq (g2 := F0 m0 43 ls [.int (zI false)]) rfl ?_
    subst hQ
    exact tr_zret C rfl (by unfold tri; rw [h12]; rfl) dX2_areInk_43
  · refine lv_aload_n kx kb dX2_areInk_15 rfl (lv_at hl 0 rfl) ?_
    refine lv_iload_n kx kb dX2_areInk_16 rfl (lv_at hl 1 rfl) ?_
    refine lv_iload_n kx kb dX2_areInk_17 rfl (lv_at hl 2 rfl) ?_
    refine t_callRV C (met_X2_isInkBeside l D E a b v n w g P c k (by first | assumption | omega) (by first | assumption | omega) (by first | assumption | omega) (by first | assumption | omega) (by first | assumption | omega)) (cwV 2 hts (lw_V q597 q598 q599 q60 q600) rfl rfl rfl (by decide +kernel) ⟨Nat.le_of_ble_eq_true rfl, Nat.le_of_ble_eq_true rfl⟩) (va_recv hK hP (ci := 2) (q0 := 0) rfl rfl) hK hX hP hD hS hA [0, 1, 2] rfl (by decide) tYb_0 (fun _ _ _ => trivial) rfl hl.1 rfl (Nat.le_of_ble_eq_true rfl) dX2_areInk_18 ⟨(show 0 ≤ 0 from by omega), (show 0 ≤ 0 from by omega)⟩ ?_
    refine W.eq (g2 := F0 m0 21 ls [.int (zI (bes w g P c k))]) rfl ?_
    refine tz_if_eq (tgt := 42) kx kb dX2_areInk_21 (by decide) (fun h21 => ?_) (fun h21 => ?_)
    · refine lv_iconst (v := iI 0) kx kb dX2_areInk_42 rfl ?_
      refine W.eq (g2 := F0 m0 43 ls [.int (zI false)]) rfl ?_
      subst hQ
      exact tr_zret C rfl (by unfold tri; rw [h12, h21]; rfl) dX2_areInk_43
    · refine lv_aload_n kx kb dX2_areInk_24 rfl (lv_at hl 0 rfl) ?_
      refine lv_iload_n kx kb dX2_areInk_25 rfl (lv_at hl 1 rfl) ?_
      refine lv_iload_n kx kb dX2_areInk_26 rfl (lv_at hl 2 rfl) ?_
      refine lv_iconst (v := iI 2) kx kb dX2_areInk_27 rfl ?_
      refine ti_iadd kx kb dX2_areInk_28 ?_
      refine lv_bipush (v := iI 8) kx kb dX2_areInk_29 rfl ?_
      refine ti_irem kx kb (by omega) dX2_areInk_31 ?_
      refine t_callRV C (met_X2_isInkBeside l D E a b v n w g P c ((k + 2) % 8) (by first | assumption | omega) (by first | assumption | omega) (by first | assumption | omega) (by first | assumption | omega) (by first | assumption | omega)) (cwV 2 hts (lw_V q597 q598 q599 q60 q600) rfl rfl rfl (by decide +kernel) ⟨Nat.le_of_ble_eq_true rfl, Nat.le_of_ble_eq_true rfl⟩) (va_recv hK hP (ci := 2) (q0 := 0) rfl rfl) hK hX hP hD hS hA [0, 1, 2] rfl (by decide) tYb_0 (fun _ _ _ => trivial) rfl hl.1 rfl (Nat.le_of_ble_eq_true rfl) dX2_areInk_32 ⟨(show 0 ≤ 0 from by omega), (show 0 ≤ 0 from by omega)⟩ ?_
      refine W.eq (g2 := F0 m0 35 ls [.int (zI (bes w g P c ((k + 2) % 8)))]) rfl ?_
      refine tz_if_eq (tgt := 42) kx kb dX2_areInk_35 (by decide) (fun h35 => ?_) (fun h35 => ?_)
      · refine lv_iconst (v := iI 0) kx kb dX2_areInk_42 rfl ?_
        refine W.eq (g2 := F0 m0 43 ls [.int (zI false)]) rfl ?_
        subst hQ
        exact tr_zret C rfl (by unfold tri; rw [h12, h21, h35]; rfl) dX2_areInk_43
      · refine lv_iconst (v := iI 1) kx kb dX2_areInk_38 rfl ?_
        refine lv_goto (tgt := 43) kx kb dX2_areInk_39 (by decide) ?_
        refine W.eq (g2 := F0 m0 43 ls [.int (zI true)]) rfl ?_
        subst hQ
        exact tr_zret C rfl (by unfold tri; rw [h12, h21, h35]; rfl) dX2_areInk_43
set_option maxHeartbeats 4000000 in
set_option maxRecDepth 100000 in
theorem met_X2_isDoomed (l : Launch) (D : TG) (E : TE) (a : Nat) (b : Nat) (v : Nat) (n : Nat) (w : Nat) (g : Nat) (P : Nat → Bool) (c : Nat) (sec : Bool) (hw : 1 ≤ w ∧ w ≤ 32) (hg : 1 ≤ g ∧ g ≤ 32) (hB : BB P n) (hc : c < 1024) : tRd l yX2_isDoomed cX2_isDoomed 6 (some .boolean) 5 110 [.ref a, .int (iI ((c : Nat) : Int)), .int (zI sec)] D E [(a, .inr (2, [.int (iI ((w : Nat) : Int)), .int (iI ((g : Nat) : Int)), .ref b])), (b, .inr (3, [.ref v, .int (iI ((un P : Nat) : Int)), .int (zI false)])), (v, .inl (D.2 2, n, .inr (.inl (wd P))))] tY0 (some (.int (zI (dmd w g (!sec) P c)))) := by
  refine tu_rd (by decide +kernel) (Nat.le_of_ble_eq_true rfl) ?_
  intro p0 e0 s0 m0 below meth c0 A ls args Q hag hQ C hK hX hY hP hD hA hAe hl
  obtain ⟨kx, kb, hml, hown, hts, -⟩ := id C
  have hS : va_S A s0.heap s0.heap [] := va_S.rf
  have hl : lv_has ls 6 [(0, .ref a), (1, .int (iI ((c : Nat) : Int))), (2, .int (zI sec))] := hl
  have hwg := wg_le hw hg
  have hBn := hB.1
  have hBm := hB.2.1
  have hul := un_le hB
  refine lv_iconst (v := iI 0) kx kb dX2_isDoomed_0 rfl ?_
  refine lv_istore_n (lv' := [(3, .int (iI 0)), (0, .ref a), (1, .int (iI ((c : Nat) : Int))), (2, .int (zI sec))]) kx kb dX2_isDoomed_1 rfl hl (by decide) rfl (fun ls hl => ?_)
  refine lv_iconst (v := iI 0) kx kb dX2_isDoomed_2 rfl ?_
  refine lv_istore (lv' := [(4, .int (iI 0)), (3, .int (iI 0)), (0, .ref a), (1, .int (iI ((c : Nat) : Int))), (2, .int (zI sec))]) kx kb dX2_isDoomed_3 hl (by decide) rfl (fun ls hl => ?_)
  refine lv_iconst (v := iI 0) kx kb dX2_isDoomed_5 rfl ?_
  refine lv_istore (lv' := [(5, .int (iI 0)), (4, .int (iI 0)), (3, .int (iI 0)), (0, .ref a), (1, .int (iI ((c : Nat) : Int))), (2, .int (zI sec))]) kx kb dX2_isDoomed_6 hl (by decide) rfl (fun ls hl => ?_)
  have cut8 : ∀ (fuel : Nat) (d : Nat) (na : Int) (t : Int), (d ≤ 8) → (na = ((fb_ct (fun k_ => bes w g P c (k_ : Int)) d : Nat) : Int)) → (t = ((fb_ct (fun k_ => !bes w g P c (k_ : Int) && bes w g P c (((k_ : Int) + 1) % 8)) d : Nat) : Int)) → (8 - d) < fuel → ∀ ls : Array Slot, lv_has ls 6 [(5, .int (iI (d : Int))), (4, .int (iI t)), (3, .int (iI na)), (0, .ref a), (1, .int (iI ((c : Nat) : Int))), (2, .int (zI sec))] → W p0 l e0 ({ frames := 5, cells := 0, slots := 0, locals := 110 } : Room) s0 m0 args below meth c0 s0.heap [] (0) (0) Q (F0 m0 8 ls []) := by
    intro fuel
    induction fuel with
    | zero =>
      intro d na t hd hn ht hfuel8
      exact absurd hfuel8 (Nat.not_lt_zero _)
    | succ fuel ih8 =>
      intro d na t hd hn ht hfuel8  ls hl
      refine lv_iload kx kb dX2_isDoomed_8 (lv_at hl 0 rfl) ?_
      refine lv_bipush (v := iI 8) kx kb dX2_isDoomed_10 rfl ?_
      refine ti_icmp_ge (tgt := 74) kx kb (by omega) dX2_isDoomed_12 (by decide) (fun h12 => ?_) (fun h12 => ?_)
      · have hd8 : d = 8 := by omega
        have hn8 : na = ((arnd w g P c : Nat) : Int) := by rw [hn, hd8]; rfl
        have ht8 : t = ((chgs w g P c : Nat) : Int) := by rw [ht, hd8]; rfl
        have hal := fb_ct_le (fun k_ => bes w g P c (k_ : Int)) d
        have hcl := fb_ct_le (fun k_ => !bes w g P c (k_ : Int) && bes w g P c (((k_ : Int) + 1) % 8)) d
        refine lv_iconst (v := iI 2) kx kb dX2_isDoomed_74 rfl ?_
        refine lv_bipush (v := iI 6) kx kb dX2_isDoomed_75 rfl ?_
        refine lv_iload_n kx kb dX2_isDoomed_77 rfl (lv_at hl 2 rfl) ?_
        refine t_callRSN C (met_X1_isIn l D E 2 6 na (by first | assumption | omega)) ⟨cnS 3 hts (lw_meth q618) (hX.1 _ q616 rfl) (hts _ q59) (by decide +kernel) ⟨Nat.le_of_ble_eq_true rfl, Nat.le_of_ble_eq_true rfl⟩, hts _ q617, trivial⟩ hK hX hP hD hS hA [] rfl (by decide) tYb_0 (fun _ _ _ => trivial) rfl hl.1 rfl (Nat.le_of_ble_eq_true rfl) dX2_isDoomed_78 ⟨(show 0 ≤ 0 from by omega), (show 0 ≤ 0 from by omega)⟩ ?_
        refine W.eq (g2 := F0 m0 81 ls [.int (zI (decide (2 ≤ na ∧ na ≤ 6)))]) rfl ?_
        refine tz_if_eq (tgt := 129) kx kb dX2_isDoomed_81 (by decide) (fun h81 => ?_) (fun h81 => ?_)
        · simp only [decide_eq_true_eq, decide_eq_false_iff_not] at h81
          refine lv_iconst (v := iI 0) kx kb dX2_isDoomed_129 rfl ?_
          refine W.eq (g2 := F0 m0 130 ls [.int (zI false)]) rfl ?_
          subst hQ
          exact tr_zret C rfl (by rw [dmd_1 hn8 h81]) dX2_isDoomed_130
        · simp only [decide_eq_true_eq, decide_eq_false_iff_not] at h81
          refine lv_iload kx kb dX2_isDoomed_84 (lv_at hl 1 rfl) ?_
          refine lv_iconst (v := iI 1) kx kb dX2_isDoomed_86 rfl ?_
          refine ti_icmp_ne (tgt := 129) kx kb (by omega) dX2_isDoomed_87 (by decide) (fun h87 => ?_) (fun h87 => ?_)
          · refine lv_iconst (v := iI 0) kx kb dX2_isDoomed_129 rfl ?_
            refine W.eq (g2 := F0 m0 130 ls [.int (zI false)]) rfl ?_
            subst hQ
            exact tr_zret C rfl (by rw [dmd_2 ht8 h87]) dX2_isDoomed_130
          · refine lv_aload_n kx kb dX2_isDoomed_90 rfl (lv_at hl 3 rfl) ?_
            refine lv_iload_n kx kb dX2_isDoomed_91 rfl (lv_at hl 4 rfl) ?_
            refine lv_iload_n kx kb dX2_isDoomed_92 rfl (lv_at hl 5 rfl) ?_
            refine tz_if_eq (tgt := 101) kx kb dX2_isDoomed_93 (by decide) (fun h93 => ?_) (fun h93 => ?_)
            · refine lv_iconst (v := iI 4) kx kb dX2_isDoomed_101 rfl ?_
              refine t_callRV C (met_X2_areInk l D E a b v n w g P c 4 (by first | assumption | omega) (by first | assumption | omega) (by first | assumption | omega) (by first | assumption | omega) (by first | assumption | omega)) (cwV 2 hts (lw_V q624 q626 qs8 q60 q627) rfl rfl rfl (by decide +kernel) ⟨Nat.le_of_ble_eq_true rfl, Nat.le_of_ble_eq_true rfl⟩) (va_recv hK hP (ci := 2) (q0 := 0) rfl rfl) hK hX hP hD hS hA [0, 1, 2] rfl (by decide) tYb_0 (fun _ _ _ => trivial) rfl hl.1 rfl (Nat.le_of_ble_eq_true rfl) dX2_isDoomed_102 ⟨(show 0 ≤ 0 from by omega), (show 0 ≤ 0 from by omega)⟩ ?_
              refine W.eq (g2 := F0 m0 105 ls [.int (zI (tri w g P c 4))]) rfl ?_
              refine tz_if_ne (tgt := 129) kx kb dX2_isDoomed_105 (by decide) (fun h105 => ?_) (fun h105 => ?_)
              · refine lv_iconst (v := iI 0) kx kb dX2_isDoomed_129 rfl ?_
                refine W.eq (g2 := F0 m0 130 ls [.int (zI false)]) rfl ?_
                subst hQ
                exact tr_zret C rfl (by rw [dmd_3 hn8 h81 ht8 h87 sec, h93]; simp only [if_true, Bool.false_eq_true, if_false]; rw [h105]; rfl) dX2_isDoomed_130
              · refine lv_aload_n kx kb dX2_isDoomed_108 rfl (lv_at hl 3 rfl) ?_
                refine lv_iload_n kx kb dX2_isDoomed_109 rfl (lv_at hl 4 rfl) ?_
                refine lv_iload_n kx kb dX2_isDoomed_110 rfl (lv_at hl 5 rfl) ?_
                refine tz_if_eq (tgt := 118) kx kb dX2_isDoomed_111 (by decide) (fun h111 => ?_) (fun h111 => ?_)
                · refine lv_iconst (v := iI 2) kx kb dX2_isDoomed_118 rfl ?_
                  refine t_callRV C (met_X2_areInk l D E a b v n w g P c 2 (by first | assumption | omega) (by first | assumption | omega) (by first | assumption | omega) (by first | assumption | omega) (by first | assumption | omega)) (cwV 2 hts (lw_V q624 q626 qs8 q60 q627) rfl rfl rfl (by decide +kernel) ⟨Nat.le_of_ble_eq_true rfl, Nat.le_of_ble_eq_true rfl⟩) (va_recv hK hP (ci := 2) (q0 := 0) rfl rfl) hK hX hP hD hS hA [0, 1, 2] rfl (by decide) tYb_0 (fun _ _ _ => trivial) rfl hl.1 rfl (Nat.le_of_ble_eq_true rfl) dX2_isDoomed_119 ⟨(show 0 ≤ 0 from by omega), (show 0 ≤ 0 from by omega)⟩ ?_
                  refine W.eq (g2 := F0 m0 122 ls [.int (zI (tri w g P c 2))]) rfl ?_
                  refine tz_if_ne (tgt := 129) kx kb dX2_isDoomed_122 (by decide) (fun h122 => ?_) (fun h122 => ?_)
                  · refine lv_iconst (v := iI 0) kx kb dX2_isDoomed_129 rfl ?_
                    refine W.eq (g2 := F0 m0 130 ls [.int (zI false)]) rfl ?_
                    subst hQ
                    exact tr_zret C rfl (by rw [dmd_3 hn8 h81 ht8 h87 sec, h93]; simp only [if_true, Bool.false_eq_true, if_false]; rw [h105, h122]; rfl) dX2_isDoomed_130
                  · refine lv_iconst (v := iI 1) kx kb dX2_isDoomed_125 rfl ?_
                    refine lv_goto (tgt := 130) kx kb dX2_isDoomed_126 (by decide) ?_
                    refine W.eq (g2 := F0 m0 130 ls [.int (zI true)]) rfl ?_
                    subst hQ
                    exact tr_zret C rfl (by rw [dmd_3 hn8 h81 ht8 h87 sec, h93]; simp only [if_true, Bool.false_eq_true, if_false]; rw [h105, h122]; rfl) dX2_isDoomed_130
                · exact absurd (h93.symm.trans h111) (by decide)
            · refine lv_bipush (v := iI 6) kx kb dX2_isDoomed_96 rfl ?_
              refine lv_goto (tgt := 102) kx kb dX2_isDoomed_98 (by decide) ?_
              refine t_callRV C (met_X2_areInk l D E a b v n w g P c 6 (by first | assumption | omega) (by first | assumption | omega) (by first | assumption | omega) (by first | assumption | omega) (by first | assumption | omega)) (cwV 2 hts (lw_V q624 q626 qs8 q60 q627) rfl rfl rfl (by decide +kernel) ⟨Nat.le_of_ble_eq_true rfl, Nat.le_of_ble_eq_true rfl⟩) (va_recv hK hP (ci := 2) (q0 := 0) rfl rfl) hK hX hP hD hS hA [0, 1, 2] rfl (by decide) tYb_0 (fun _ _ _ => trivial) rfl hl.1 rfl (Nat.le_of_ble_eq_true rfl) dX2_isDoomed_102 ⟨(show 0 ≤ 0 from by omega), (show 0 ≤ 0 from by omega)⟩ ?_
              refine W.eq (g2 := F0 m0 105 ls [.int (zI (tri w g P c 6))]) rfl ?_
              refine tz_if_ne (tgt := 129) kx kb dX2_isDoomed_105 (by decide) (fun h105 => ?_) (fun h105 => ?_)
              · refine lv_iconst (v := iI 0) kx kb dX2_isDoomed_129 rfl ?_
                refine W.eq (g2 := F0 m0 130 ls [.int (zI false)]) rfl ?_
                subst hQ
                exact tr_zret C rfl (by rw [dmd_3 hn8 h81 ht8 h87 sec, h93]; simp only [if_true, Bool.false_eq_true, if_false]; rw [h105]; rfl) dX2_isDoomed_130
              · refine lv_aload_n kx kb dX2_isDoomed_108 rfl (lv_at hl 3 rfl) ?_
                refine lv_iload_n kx kb dX2_isDoomed_109 rfl (lv_at hl 4 rfl) ?_
                refine lv_iload_n kx kb dX2_isDoomed_110 rfl (lv_at hl 5 rfl) ?_
                refine tz_if_eq (tgt := 118) kx kb dX2_isDoomed_111 (by decide) (fun h111 => ?_) (fun h111 => ?_)
                · exact absurd (h93.symm.trans h111) (by decide)
                · refine lv_iconst (v := iI 0) kx kb dX2_isDoomed_114 rfl ?_
                  refine lv_goto (tgt := 119) kx kb dX2_isDoomed_115 (by decide) ?_
                  refine t_callRV C (met_X2_areInk l D E a b v n w g P c 0 (by first | assumption | omega) (by first | assumption | omega) (by first | assumption | omega) (by first | assumption | omega) (by first | assumption | omega)) (cwV 2 hts (lw_V q624 q626 qs8 q60 q627) rfl rfl rfl (by decide +kernel) ⟨Nat.le_of_ble_eq_true rfl, Nat.le_of_ble_eq_true rfl⟩) (va_recv hK hP (ci := 2) (q0 := 0) rfl rfl) hK hX hP hD hS hA [0, 1, 2] rfl (by decide) tYb_0 (fun _ _ _ => trivial) rfl hl.1 rfl (Nat.le_of_ble_eq_true rfl) dX2_isDoomed_119 ⟨(show 0 ≤ 0 from by omega), (show 0 ≤ 0 from by omega)⟩ ?_
                  refine W.eq (g2 := F0 m0 122 ls [.int (zI (tri w g P c 0))]) rfl ?_
                  refine tz_if_ne (tgt := 129) kx kb dX2_isDoomed_122 (by decide) (fun h122 => ?_) (fun h122 => ?_)
                  · refine lv_iconst (v := iI 0) kx kb dX2_isDoomed_129 rfl ?_
                    refine W.eq (g2 := F0 m0 130 ls [.int (zI false)]) rfl ?_
                    subst hQ
                    exact tr_zret C rfl (by rw [dmd_3 hn8 h81 ht8 h87 sec, h93]; simp only [if_true, Bool.false_eq_true, if_false]; rw [h105, h122]; rfl) dX2_isDoomed_130
                  · refine lv_iconst (v := iI 1) kx kb dX2_isDoomed_125 rfl ?_
                    refine lv_goto (tgt := 130) kx kb dX2_isDoomed_126 (by decide) ?_
                    refine W.eq (g2 := F0 m0 130 ls [.int (zI true)]) rfl ?_
                    subst hQ
                    exact tr_zret C rfl (by rw [dmd_3 hn8 h81 ht8 h87 sec, h93]; simp only [if_true, Bool.false_eq_true, if_false]; rw [h105, h122]; rfl) dX2_isDoomed_130
      · refine lv_iload_n kx kb dX2_isDoomed_15 rfl (lv_at hl 2 rfl) ?_
        refine lv_aload_n kx kb dX2_isDoomed_16 rfl (lv_at hl 3 rfl) ?_
        refine lv_iload_n kx kb dX2_isDoomed_17 rfl (lv_at hl 4 rfl) ?_
        refine lv_iload kx kb dX2_isDoomed_18 (lv_at hl 0 rfl) ?_
        refine t_callRV C (met_X2_isInkBeside l D E a b v n w g P c (d : Int) (by first | assumption | omega) (by first | assumption | omega) (by first | assumption | omega) (by first | assumption | omega) (by first | assumption | omega)) (cwV 2 hts (lw_V q597 q598 q599 q60 q600) rfl rfl rfl (by decide +kernel) ⟨Nat.le_of_ble_eq_true rfl, Nat.le_of_ble_eq_true rfl⟩) (va_recv hK hP (ci := 2) (q0 := 0) rfl rfl) hK hX hP hD hS hA [0, 1, 2] rfl (by decide) tYb_0 (fun _ _ _ => trivial) rfl hl.1 rfl (Nat.le_of_ble_eq_true rfl) dX2_isDoomed_20 ⟨(show 0 ≤ 0 from by omega), (show 0 ≤ 0 from by omega)⟩ ?_
        refine W.eq (g2 := F0 m0 23 ls [.int (zI (bes w g P c (d : Int))), .int (iI na)]) rfl ?_
        refine tz_if_eq (tgt := 30) kx kb dX2_isDoomed_23 (by decide) (fun h23 => ?_) (fun h23 => ?_)
        · refine lv_iconst (v := iI 0) kx kb dX2_isDoomed_30 rfl ?_
          refine ti_iadd kx kb dX2_isDoomed_31 ?_
          refine lv_istore_n (lv' := [(3, .int (iI (na + 0))), (5, .int (iI (d : Int))), (4, .int (iI t)), (0, .ref a), (1, .int (iI ((c : Nat) : Int))), (2, .int (zI sec))]) kx kb dX2_isDoomed_32 rfl hl (by decide) rfl (fun ls hl => ?_)
          refine lv_iload kx kb dX2_isDoomed_33 (lv_at hl 2 rfl) ?_
          refine lv_aload_n kx kb dX2_isDoomed_35 rfl (lv_at hl 3 rfl) ?_
          refine lv_iload_n kx kb dX2_isDoomed_36 rfl (lv_at hl 4 rfl) ?_
          refine lv_iload kx kb dX2_isDoomed_37 (lv_at hl 1 rfl) ?_
          refine t_callRV C (met_X2_isInkBeside l D E a b v n w g P c (d : Int) (by first | assumption | omega) (by first | assumption | omega) (by first | assumption | omega) (by first | assumption | omega) (by first | assumption | omega)) (cwV 2 hts (lw_V q597 q598 q599 q60 q600) rfl rfl rfl (by decide +kernel) ⟨Nat.le_of_ble_eq_true rfl, Nat.le_of_ble_eq_true rfl⟩) (va_recv hK hP (ci := 2) (q0 := 0) rfl rfl) hK hX hP hD hS hA [0, 1, 2] rfl (by decide) tYb_0 (fun _ _ _ => trivial) rfl hl.1 rfl (Nat.le_of_ble_eq_true rfl) dX2_isDoomed_39 ⟨(show 0 ≤ 0 from by omega), (show 0 ≤ 0 from by omega)⟩ ?_
          refine W.eq (g2 := F0 m0 42 ls [.int (zI (bes w g P c (d : Int))), .int (iI t)]) rfl ?_
          refine tz_if_ne (tgt := 64) kx kb dX2_isDoomed_42 (by decide) (fun h42 => ?_) (fun h42 => ?_)
          · refine lv_iconst (v := iI 0) kx kb dX2_isDoomed_64 rfl ?_
            refine ti_iadd kx kb dX2_isDoomed_65 ?_
            refine lv_istore (lv' := [(4, .int (iI (t + 0))), (3, .int (iI (na + 0))), (5, .int (iI (d : Int))), (0, .ref a), (1, .int (iI ((c : Nat) : Int))), (2, .int (zI sec))]) kx kb dX2_isDoomed_66 hl (by decide) rfl (fun ls hl => ?_)
            refine ti_iinc (a := (d : Int)) (lv' := [(5, .int (iI ((d : Int) + 1))), (4, .int (iI (t + 0))), (3, .int (iI (na + 0))), (0, .ref a), (1, .int (iI ((c : Nat) : Int))), (2, .int (zI sec))]) kx kb dX2_isDoomed_68 hl (k := 2) rfl (by decide) rfl (fun ls hl => ?_)
            refine lv_goto (tgt := 8) kx kb dX2_isDoomed_71 (by decide) ?_
            exact ih8 (d + 1) (na + 0) (t + 0) (by omega) (by simp only [fb_ct_succ, h23, hn]; simp) (by simp only [fb_ct_succ, h42, ht]; simp) (by omega) ls hl
          · refine lv_aload_n kx kb dX2_isDoomed_45 rfl (lv_at hl 3 rfl) ?_
            refine lv_iload_n kx kb dX2_isDoomed_46 rfl (lv_at hl 4 rfl) ?_
            refine lv_iload kx kb dX2_isDoomed_47 (lv_at hl 1 rfl) ?_
            refine lv_iconst (v := iI 1) kx kb dX2_isDoomed_49 rfl ?_
            refine ti_iadd kx kb dX2_isDoomed_50 ?_
            refine lv_bipush (v := iI 8) kx kb dX2_isDoomed_51 rfl ?_
            refine ti_irem kx kb (by omega) dX2_isDoomed_53 ?_
            refine t_callRV C (met_X2_isInkBeside l D E a b v n w g P c (((d : Int) + 1) % 8) (by first | assumption | omega) (by first | assumption | omega) (by first | assumption | omega) (by first | assumption | omega) (by first | assumption | omega)) (cwV 2 hts (lw_V q597 q598 q599 q60 q600) rfl rfl rfl (by decide +kernel) ⟨Nat.le_of_ble_eq_true rfl, Nat.le_of_ble_eq_true rfl⟩) (va_recv hK hP (ci := 2) (q0 := 0) rfl rfl) hK hX hP hD hS hA [0, 1, 2] rfl (by decide) tYb_0 (fun _ _ _ => trivial) rfl hl.1 rfl (Nat.le_of_ble_eq_true rfl) dX2_isDoomed_54 ⟨(show 0 ≤ 0 from by omega), (show 0 ≤ 0 from by omega)⟩ ?_
            refine W.eq (g2 := F0 m0 57 ls [.int (zI (bes w g P c (((d : Int) + 1) % 8))), .int (iI t)]) rfl ?_
            refine tz_if_eq (tgt := 64) kx kb dX2_isDoomed_57 (by decide) (fun h57 => ?_) (fun h57 => ?_)
            · refine lv_iconst (v := iI 0) kx kb dX2_isDoomed_64 rfl ?_
              refine ti_iadd kx kb dX2_isDoomed_65 ?_
              refine lv_istore (lv' := [(4, .int (iI (t + 0))), (3, .int (iI (na + 0))), (5, .int (iI (d : Int))), (0, .ref a), (1, .int (iI ((c : Nat) : Int))), (2, .int (zI sec))]) kx kb dX2_isDoomed_66 hl (by decide) rfl (fun ls hl => ?_)
              refine ti_iinc (a := (d : Int)) (lv' := [(5, .int (iI ((d : Int) + 1))), (4, .int (iI (t + 0))), (3, .int (iI (na + 0))), (0, .ref a), (1, .int (iI ((c : Nat) : Int))), (2, .int (zI sec))]) kx kb dX2_isDoomed_68 hl (k := 2) rfl (by decide) rfl (fun ls hl => ?_)
              refine lv_goto (tgt := 8) kx kb dX2_isDoomed_71 (by decide) ?_
              exact ih8 (d + 1) (na + 0) (t + 0) (by omega) (by simp only [fb_ct_succ, h23, hn]; simp) (by simp only [fb_ct_succ, h42, h57, ht]; simp) (by omega) ls hl
            · refine lv_iconst (v := iI 1) kx kb dX2_isDoomed_60 rfl ?_
              refine lv_goto (tgt := 65) kx kb dX2_isDoomed_61 (by decide) ?_
              refine ti_iadd kx kb dX2_isDoomed_65 ?_
              refine lv_istore (lv' := [(4, .int (iI (t + 1))), (3, .int (iI (na + 0))), (5, .int (iI (d : Int))), (0, .ref a), (1, .int (iI ((c : Nat) : Int))), (2, .int (zI sec))]) kx kb dX2_isDoomed_66 hl (by decide) rfl (fun ls hl => ?_)
              refine ti_iinc (a := (d : Int)) (lv' := [(5, .int (iI ((d : Int) + 1))), (4, .int (iI (t + 1))), (3, .int (iI (na + 0))), (0, .ref a), (1, .int (iI ((c : Nat) : Int))), (2, .int (zI sec))]) kx kb dX2_isDoomed_68 hl (k := 2) rfl (by decide) rfl (fun ls hl => ?_)
              refine lv_goto (tgt := 8) kx kb dX2_isDoomed_71 (by decide) ?_
              exact ih8 (d + 1) (na + 0) (t + 1) (by omega) (by simp only [fb_ct_succ, h23, hn]; simp) (by simp only [fb_ct_succ, h42, h57, ht]; simp) (by omega) ls hl
        · refine lv_iconst (v := iI 1) kx kb dX2_isDoomed_26 rfl ?_
          refine lv_goto (tgt := 31) kx kb dX2_isDoomed_27 (by decide) ?_
          refine ti_iadd kx kb dX2_isDoomed_31 ?_
          refine lv_istore_n (lv' := [(3, .int (iI (na + 1))), (5, .int (iI (d : Int))), (4, .int (iI t)), (0, .ref a), (1, .int (iI ((c : Nat) : Int))), (2, .int (zI sec))]) kx kb dX2_isDoomed_32 rfl hl (by decide) rfl (fun ls hl => ?_)
          refine lv_iload kx kb dX2_isDoomed_33 (lv_at hl 2 rfl) ?_
          refine lv_aload_n kx kb dX2_isDoomed_35 rfl (lv_at hl 3 rfl) ?_
          refine lv_iload_n kx kb dX2_isDoomed_36 rfl (lv_at hl 4 rfl) ?_
          refine lv_iload kx kb dX2_isDoomed_37 (lv_at hl 1 rfl) ?_
          refine t_callRV C (met_X2_isInkBeside l D E a b v n w g P c (d : Int) (by first | assumption | omega) (by first | assumption | omega) (by first | assumption | omega) (by first | assumption | omega) (by first | assumption | omega)) (cwV 2 hts (lw_V q597 q598 q599 q60 q600) rfl rfl rfl (by decide +kernel) ⟨Nat.le_of_ble_eq_true rfl, Nat.le_of_ble_eq_true rfl⟩) (va_recv hK hP (ci := 2) (q0 := 0) rfl rfl) hK hX hP hD hS hA [0, 1, 2] rfl (by decide) tYb_0 (fun _ _ _ => trivial) rfl hl.1 rfl (Nat.le_of_ble_eq_true rfl) dX2_isDoomed_39 ⟨(show 0 ≤ 0 from by omega), (show 0 ≤ 0 from by omega)⟩ ?_
          refine W.eq (g2 := F0 m0 42 ls [.int (zI (bes w g P c (d : Int))), .int (iI t)]) rfl ?_
          refine tz_if_ne (tgt := 64) kx kb dX2_isDoomed_42 (by decide) (fun h42 => ?_) (fun h42 => ?_)
          · refine lv_iconst (v := iI 0) kx kb dX2_isDoomed_64 rfl ?_
            refine ti_iadd kx kb dX2_isDoomed_65 ?_
            refine lv_istore (lv' := [(4, .int (iI (t + 0))), (3, .int (iI (na + 1))), (5, .int (iI (d : Int))), (0, .ref a), (1, .int (iI ((c : Nat) : Int))), (2, .int (zI sec))]) kx kb dX2_isDoomed_66 hl (by decide) rfl (fun ls hl => ?_)
            refine ti_iinc (a := (d : Int)) (lv' := [(5, .int (iI ((d : Int) + 1))), (4, .int (iI (t + 0))), (3, .int (iI (na + 1))), (0, .ref a), (1, .int (iI ((c : Nat) : Int))), (2, .int (zI sec))]) kx kb dX2_isDoomed_68 hl (k := 2) rfl (by decide) rfl (fun ls hl => ?_)
            refine lv_goto (tgt := 8) kx kb dX2_isDoomed_71 (by decide) ?_
            exact ih8 (d + 1) (na + 1) (t + 0) (by omega) (by simp only [fb_ct_succ, h23, hn]; simp) (by simp only [fb_ct_succ, h42, ht]; simp) (by omega) ls hl
          · refine lv_aload_n kx kb dX2_isDoomed_45 rfl (lv_at hl 3 rfl) ?_
            refine lv_iload_n kx kb dX2_isDoomed_46 rfl (lv_at hl 4 rfl) ?_
            refine lv_iload kx kb dX2_isDoomed_47 (lv_at hl 1 rfl) ?_
            refine lv_iconst (v := iI 1) kx kb dX2_isDoomed_49 rfl ?_
            refine ti_iadd kx kb dX2_isDoomed_50 ?_
            refine lv_bipush (v := iI 8) kx kb dX2_isDoomed_51 rfl ?_
            refine ti_irem kx kb (by omega) dX2_isDoomed_53 ?_
            refine t_callRV C (met_X2_isInkBeside l D E a b v n w g P c (((d : Int) + 1) % 8) (by first | assumption | omega) (by first | assumption | omega) (by first | assumption | omega) (by first | assumption | omega) (by first | assumption | omega)) (cwV 2 hts (lw_V q597 q598 q599 q60 q600) rfl rfl rfl (by decide +kernel) ⟨Nat.le_of_ble_eq_true rfl, Nat.le_of_ble_eq_true rfl⟩) (va_recv hK hP (ci := 2) (q0 := 0) rfl rfl) hK hX hP hD hS hA [0, 1, 2] rfl (by decide) tYb_0 (fun _ _ _ => trivial) rfl hl.1 rfl (Nat.le_of_ble_eq_true rfl) dX2_isDoomed_54 ⟨(show 0 ≤ 0 from by omega), (show 0 ≤ 0 from by omega)⟩ ?_
            refine W.eq (g2 := F0 m0 57 ls [.int (zI (bes w g P c (((d : Int) + 1) % 8))), .int (iI t)]) rfl ?_
            refine tz_if_eq (tgt := 64) kx kb dX2_isDoomed_57 (by decide) (fun h57 => ?_) (fun h57 => ?_)
            · refine lv_iconst (v := iI 0) kx kb dX2_isDoomed_64 rfl ?_
              refine ti_iadd kx kb dX2_isDoomed_65 ?_
              refine lv_istore (lv' := [(4, .int (iI (t + 0))), (3, .int (iI (na + 1))), (5, .int (iI (d : Int))), (0, .ref a), (1, .int (iI ((c : Nat) : Int))), (2, .int (zI sec))]) kx kb dX2_isDoomed_66 hl (by decide) rfl (fun ls hl => ?_)
              refine ti_iinc (a := (d : Int)) (lv' := [(5, .int (iI ((d : Int) + 1))), (4, .int (iI (t + 0))), (3, .int (iI (na + 1))), (0, .ref a), (1, .int (iI ((c : Nat) : Int))), (2, .int (zI sec))]) kx kb dX2_isDoomed_68 hl (k := 2) rfl (by decide) rfl (fun ls hl => ?_)
              refine lv_goto (tgt := 8) kx kb dX2_isDoomed_71 (by decide) ?_
              exact ih8 (d + 1) (na + 1) (t + 0) (by omega) (by simp only [fb_ct_succ, h23, hn]; simp) (by simp only [fb_ct_succ, h42, h57, ht]; simp) (by omega) ls hl
            · refine lv_iconst (v := iI 1) kx kb dX2_isDoomed_60 rfl ?_
              refine lv_goto (tgt := 65) kx kb dX2_isDoomed_61 (by decide) ?_
              refine ti_iadd kx kb dX2_isDoomed_65 ?_
              refine lv_istore (lv' := [(4, .int (iI (t + 1))), (3, .int (iI (na + 1))), (5, .int (iI (d : Int))), (0, .ref a), (1, .int (iI ((c : Nat) : Int))), (2, .int (zI sec))]) kx kb dX2_isDoomed_66 hl (by decide) rfl (fun ls hl => ?_)
              refine ti_iinc (a := (d : Int)) (lv' := [(5, .int (iI ((d : Int) + 1))), (4, .int (iI (t + 1))), (3, .int (iI (na + 1))), (0, .ref a), (1, .int (iI ((c : Nat) : Int))), (2, .int (zI sec))]) kx kb dX2_isDoomed_68 hl (k := 2) rfl (by decide) rfl (fun ls hl => ?_)
              refine lv_goto (tgt := 8) kx kb dX2_isDoomed_71 (by decide) ?_
              exact ih8 (d + 1) (na + 1) (t + 1) (by omega) (by simp only [fb_ct_succ, h23, hn]; simp) (by simp only [fb_ct_succ, h42, h57, ht]; simp) (by omega) ls hl
  exact cut8 ((8 - 0) + 1) 0 0 0 (by omega) (by rfl) (by rfl) (Nat.lt_succ_self _) ls hl
set_option maxHeartbeats 4000000 in
set_option maxRecDepth 100000 in
theorem met_X2_edges (l : Launch) (D : TG) (E : TE) (a : Nat) (b : Nat) (v : Nat) (n : Nat) (w : Nat) (g : Nat) (P : Nat → Bool) (hw : 1 ≤ w ∧ w ≤ 32) (hg : 1 ≤ g ∧ g ≤ 32) (hB : BB P n) : tRd l yX2_edges cX2_edges 4 (some .int) 4 88 [.ref a] D E [(a, .inr (2, [.int (iI ((w : Nat) : Int)), .int (iI ((g : Nat) : Int)), .ref b])), (b, .inr (3, [.ref v, .int (iI ((un P : Nat) : Int)), .int (zI false)])), (v, .inl (D.2 2, n, .inr (.inl (wd P))))] tY0 (some (.int (iI ((egA w g P 1024 : Nat) : Int)))) := by
  refine tu_rd (by decide +kernel) (Nat.le_of_ble_eq_true rfl) ?_
  intro p0 e0 s0 m0 below meth c0 A ls args Q hag hQ C hK hX hY hP hD hA hAe hl
  obtain ⟨kx, kb, hml, hown, hts, -⟩ := id C
  have hS : va_S A s0.heap s0.heap [] := va_S.rf
  have hl : lv_has ls 4 [(0, .ref a)] := hl
  have hwg := wg_le hw hg
  have hBn := hB.1
  have hBm := hB.2.1
  have hul := un_le hB
  refine lv_iconst (v := iI 0) kx kb dX2_edges_0 rfl ?_
  refine lv_istore_n (lv' := [(1, .int (iI 0)), (0, .ref a)]) kx kb dX2_edges_1 rfl hl (by decide) rfl (fun ls hl => ?_)
  refine lv_aload_n kx kb dX2_edges_2 rfl (lv_at hl 1 rfl) ?_
  refine va_get (D := D.1) (ci := 2) (v := .ref b) (C := RX2) (T := TX2) (N := 3) kx kb hts in_X2 hown hK hP 0 rfl rfl 2 (by decide) (hts _ q141) (fun _ h9 => h9) rfl dX2_edges_3 ?_
  refine lv_iconst (v := iI 0) kx kb dX2_edges_6 rfl ?_
  refine t_callRV C (met_J0_nextSetBit l D E b v n P 0 (by first | assumption | omega) (by first | assumption | omega)) (cwV 1 hts (lw_V q582 q583 q584 q61 q585) rfl rfl rfl (by decide +kernel) ⟨Nat.le_of_ble_eq_true rfl, Nat.le_of_ble_eq_true rfl⟩) (va_recv hK hP (ci := 3) (q0 := 1) rfl rfl) hK hX hP hD hS hA [1, 2] rfl (by decide) tYb_0 (fun _ _ _ => trivial) rfl hl.1 rfl (Nat.le_of_ble_eq_true rfl) dX2_edges_7 ⟨(show 0 ≤ 0 from by omega), (show 0 ≤ 0 from by omega)⟩ ?_
  refine W.eq (g2 := F0 m0 10 ls [.int (iI (nxt P 0))]) rfl ?_
  refine lv_istore_n (lv' := [(2, .int (iI (nxt P 0))), (1, .int (iI 0)), (0, .ref a)]) kx kb dX2_edges_10 rfl hl (by decide) rfl (fun ls hl => ?_)
  have cut11 : ∀ (fuel : Nat) (z : Int) (ne : Int) (i : Nat), (z = nxt P i ∧ i ≤ 1024) → (ne = ((egA w g P i : Nat) : Int)) → (1024 - i) < fuel → ∀ ls : Array Slot, lv_has ls 4 [(2, .int (iI z)), (1, .int (iI ne)), (0, .ref a)] → W p0 l e0 ({ frames := 4, cells := 0, slots := 0, locals := 88 } : Room) s0 m0 args below meth c0 s0.heap [] (0) (0) Q (F0 m0 11 ls []) := by
    intro fuel
    induction fuel with
    | zero =>
      intro z ne i hz hn hfuel11
      exact absurd hfuel11 (Nat.not_lt_zero _)
    | succ fuel ih11 =>
      intro z ne i hz hn hfuel11  ls hl
      have hnx := nxt_rng P hz.2
      rw [← hz.1] at hnx
      have hel := egA_le w g P i
      refine lv_iload_n kx kb dX2_edges_11 rfl (lv_at hl 0 rfl) ?_
      refine ti_if_lt (tgt := 60) kx kb (by omega) dX2_edges_12 (by decide) (fun h12 => ?_) (fun h12 => ?_)
      · refine lv_iload_n kx kb dX2_edges_60 rfl (lv_at hl 1 rfl) ?_
        subst hQ
        exact tr_iret C rfl (by rw [hn, egA_skip (i := i) (j := 1024) hz.2 (nxt_neg hz.1 hz.2 h12)]) dX2_edges_61
      · obtain ⟨j, hj1, hj2, hj3, hj4, hj5⟩ := nxt_pos hz.1 hz.2 h12
        clear hz
        subst hj1
        refine lv_iconst (v := iI 0) kx kb dX2_edges_15 rfl ?_
        refine lv_istore_n (lv' := [(3, .int (iI 0)), (2, .int (iI ((j : Nat) : Int))), (1, .int (iI ne)), (0, .ref a)]) kx kb dX2_edges_16 rfl hl (by decide) rfl (fun ls hl => ?_)
        have cut17 : ∀ (fuel : Nat) (k : Int) (n2 : Int) (q : Nat), (q ≤ 4 ∧ k = 2 * (q : Int)) → (n2 = ne + ((egC w g P j q : Nat) : Int)) → (4 - q) < fuel → ∀ ls : Array Slot, lv_has ls 4 [(3, .int (iI k)), (2, .int (iI ((j : Nat) : Int))), (1, .int (iI n2)), (0, .ref a)] → W p0 l e0 ({ frames := 4, cells := 0, slots := 0, locals := 88 } : Room) s0 m0 args below meth c0 s0.heap [] (0) (0) Q (F0 m0 17 ls []) := by
          intro fuel
          induction fuel with
          | zero =>
            intro k n2 q hq hn2 hfuel17
            exact absurd hfuel17 (Nat.not_lt_zero _)
          | succ fuel ih17 =>
            intro k n2 q hq hn2 hfuel17  ls hl
            have hk2 := egC_le w g P j q
            refine lv_iload_n kx kb dX2_edges_17 rfl (lv_at hl 0 rfl) ?_
            refine lv_bipush (v := iI 8) kx kb dX2_edges_18 rfl ?_
            refine ti_icmp_ge (tgt := 46) kx kb (by omega) dX2_edges_20 (by decide) (fun h20 => ?_) (fun h20 => ?_)
            · refine lv_aload_n kx kb dX2_edges_46 rfl (lv_at hl 3 rfl) ?_
              refine va_get (D := D.1) (ci := 2) (v := .ref b) (C := RX2) (T := TX2) (N := 3) kx kb hts in_X2 hown hK hP 0 rfl rfl 2 (by decide) (hts _ q141) (fun _ h9 => h9) rfl dX2_edges_47 ?_
              refine lv_iload_n kx kb dX2_edges_50 rfl (lv_at hl 1 rfl) ?_
              refine lv_iconst (v := iI 1) kx kb dX2_edges_51 rfl ?_
              refine ti_iadd kx kb dX2_edges_52 ?_
              refine t_callRV C (met_J0_nextSetBit l D E b v n P ((((j : Nat) : Int) + 1).toNat) (by first | assumption | omega) (by first | assumption | omega)) (cwV 1 hts (lw_V q582 q583 q584 q61 q585) rfl rfl rfl (by decide +kernel) ⟨Nat.le_of_ble_eq_true rfl, Nat.le_of_ble_eq_true rfl⟩) (va_recv hK hP (ci := 3) (q0 := 1) rfl rfl) hK hX hP hD hS hA [1, 2] rfl (by decide) tYb_0 (fun _ _ _ => trivial) rfl hl.1 rfl (Nat.le_of_ble_eq_true rfl) dX2_edges_53 ⟨(show 0 ≤ 0 from by omega), (show 0 ≤ 0 from by omega)⟩ ?_
              refine W.eq (g2 := F0 m0 56 ls [.int (iI (nxt P ((((j : Nat) : Int) + 1).toNat)))]) rfl ?_
              refine lv_istore_n (lv' := [(2, .int (iI (nxt P ((((j : Nat) : Int) + 1).toNat)))), (3, .int (iI k)), (1, .int (iI n2)), (0, .ref a)]) kx kb dX2_edges_56 rfl hl (by decide) rfl (fun ls hl => ?_)
              refine lv_goto (tgt := 11) kx kb dX2_edges_57 (by decide) ?_
              exact ih11 (nxt P ((((j : Nat) : Int) + 1).toNat)) n2 (j + 1) (⟨rfl, by omega⟩) (by rw [egA, egA_skip hj3 hj5, show egC w g P j 4 = egC w g P j q from by rw [show q = 4 from by omega]]; omega) (by omega) ls (lv_sub hl [0, 2, 3] rfl)
            · refine lv_iload_n kx kb dX2_edges_23 rfl (lv_at hl 2 rfl) ?_
              refine lv_aload_n kx kb dX2_edges_24 rfl (lv_at hl 3 rfl) ?_
              refine lv_iload_n kx kb dX2_edges_25 rfl (lv_at hl 1 rfl) ?_
              refine lv_iload_n kx kb dX2_edges_26 rfl (lv_at hl 0 rfl) ?_
              refine t_callRV C (met_X2_isInkBeside l D E a b v n w g P j k (by first | assumption | omega) (by first | assumption | omega) (by first | assumption | omega) (by first | assumption | omega) (by first | assumption | omega)) (cwV 2 hts (lw_V q597 q598 q599 q60 q600) rfl rfl rfl (by decide +kernel) ⟨Nat.le_of_ble_eq_true rfl, Nat.le_of_ble_eq_true rfl⟩) (va_recv hK hP (ci := 2) (q0 := 0) rfl rfl) hK hX hP hD hS hA [0, 1, 2] rfl (by decide) tYb_0 (fun _ _ _ => trivial) rfl hl.1 rfl (Nat.le_of_ble_eq_true rfl) dX2_edges_27 ⟨(show 0 ≤ 0 from by omega), (show 0 ≤ 0 from by omega)⟩ ?_
              refine W.eq (g2 := F0 m0 30 ls [.int (zI (bes w g P j k)), .int (iI n2)]) rfl ?_
              refine tz_if_eq (tgt := 37) kx kb dX2_edges_30 (by decide) (fun h30 => ?_) (fun h30 => ?_)
              · refine lv_iconst (v := iI 1) kx kb dX2_edges_37 rfl ?_
                refine ti_iadd kx kb dX2_edges_38 ?_
                refine lv_istore_n (lv' := [(1, .int (iI (n2 + 1))), (3, .int (iI k)), (2, .int (iI ((j : Nat) : Int))), (0, .ref a)]) kx kb dX2_edges_39 rfl hl (by decide) rfl (fun ls hl => ?_)
                refine ti_iinc (a := k) (lv' := [(3, .int (iI (k + 2))), (1, .int (iI (n2 + 1))), (2, .int (iI ((j : Nat) : Int))), (0, .ref a)]) kx kb dX2_edges_40 hl (k := 1) rfl (by decide) rfl (fun ls hl => ?_)
                refine lv_goto (tgt := 17) kx kb dX2_edges_43 (by decide) ?_
                exact ih17 (k + 2) (n2 + 1) (q + 1) (by omega) (by rw [hq.2] at h30; simp [egC, hj2, h30, hn2, hq.2]; try omega) (by omega) ls (lv_sub hl [0, 2, 1, 3] rfl)
              · refine lv_iconst (v := iI 0) kx kb dX2_edges_33 rfl ?_
                refine lv_goto (tgt := 38) kx kb dX2_edges_34 (by decide) ?_
                refine ti_iadd kx kb dX2_edges_38 ?_
                refine lv_istore_n (lv' := [(1, .int (iI (n2 + 0))), (3, .int (iI k)), (2, .int (iI ((j : Nat) : Int))), (0, .ref a)]) kx kb dX2_edges_39 rfl hl (by decide) rfl (fun ls hl => ?_)
                refine ti_iinc (a := k) (lv' := [(3, .int (iI (k + 2))), (1, .int (iI (n2 + 0))), (2, .int (iI ((j : Nat) : Int))), (0, .ref a)]) kx kb dX2_edges_40 hl (k := 1) rfl (by decide) rfl (fun ls hl => ?_)
                refine lv_goto (tgt := 17) kx kb dX2_edges_43 (by decide) ?_
                exact ih17 (k + 2) (n2 + 0) (q + 1) (by omega) (by rw [hq.2] at h30; simp [egC, hj2, h30, hn2, hq.2]; try omega) (by omega) ls (lv_sub hl [0, 2, 1, 3] rfl)
        exact cut17 ((4 - 0) + 1) 0 ne 0 (by omega) (by simp [egC]) (Nat.lt_succ_self _) ls hl
  exact cut11 ((1024 - 0) + 1) (nxt P 0) 0 0 (⟨rfl, by omega⟩) (by rfl) (Nat.lt_succ_self _) ls hl
set_option maxHeartbeats 4000000 in
set_option maxRecDepth 100000 in
theorem met_X2_init_2 (l : Launch) (D : TG) (E : TE) (a : Nat) (w : Nat) (g : Nat) (b : Nat) : tMet l yX2_init_2 cX2_init_2 4 none 1 40 (0) (0) [.ref a, .int (iI ((w : Nat) : Int)), .int (iI ((g : Nat) : Int)), .ref b] D E [(a, .inr (2, [.int (iI 0), .int (iI 0), .null]))] tY0 (S := Unit) (fun u_ => True) (fun u_ => none) (fun u_ => [(a, .inr (2, [.int (iI ((w : Nat) : Int)), .int (iI ((g : Nat) : Int)), .ref b]))]) := by
  refine tu_met (by decide +kernel) (Nat.le_of_ble_eq_true rfl) ?_
  intro p0 e0 s0 m0 below meth c0 A ls args Q hag hQ C hK hX hY hP hD hA hAe hl
  obtain ⟨kx, kb, hml, hown, hts, -⟩ := id C
  have hS : va_S A s0.heap s0.heap [] := va_S.rf
  have hl : lv_has ls 4 [(0, .ref a), (1, .int (iI ((w : Nat) : Int))), (2, .int (iI ((g : Nat) : Int))), (3, .ref b)] := hl
  refine lv_aload_n kx kb dX2_init_2_0 rfl (lv_at hl 0 rfl) ?_
  refine W.objInit kx kb hown (hts _ q136) (hts _ q102) (hts _ q103) rfl (by rw [hml]; exact hl.1) rfl dX2_init_2_1 (Nat.le_of_ble_eq_true rfl) (Nat.le_of_ble_eq_true rfl) ?_
  refine W.eq (g2 := F0 m0 4 ls []) rfl ?_
  refine lv_aload_n kx kb dX2_init_2_4 rfl (lv_at hl 0 rfl) ?_
  refine lv_iload_n kx kb dX2_init_2_5 rfl (lv_at hl 1 rfl) ?_
  refine va_putF (D := D.1) (ci := 2) (v := .int (iI ((w : Nat) : Int))) (ty := .int) (C := RX2) (T := TX2) (N := 3) kx kb hts in_X2 tyX2 tyX2_ok nmX2 hown hK hP hD hS 0 rfl rfl 0 (by decide) (hts _ q137) (fun _ h9 => h9) rfl C.2.2.2.2.2.2.2 rfl (by decide +kernel) rfl rfl (Nat.le_of_ble_eq_true rfl) dX2_init_2_6 (fun H locs hP hD hS => ?_)
  have hP : va_P D.1 clAll [(a, .inr (2, [.int (iI ((w : Nat) : Int)), .int (iI 0), .null]))] H := hP
  have hD : va_D A [(a, .inr (2, [.int (iI ((w : Nat) : Int)), .int (iI 0), .null]))] := hD
  refine lv_aload_n kx kb dX2_init_2_9 rfl (lv_at hl 0 rfl) ?_
  refine lv_iload_n kx kb dX2_init_2_10 rfl (lv_at hl 2 rfl) ?_
  refine va_putF (D := D.1) (ci := 2) (v := .int (iI ((g : Nat) : Int))) (ty := .int) (C := RX2) (T := TX2) (N := 3) kx kb hts in_X2 tyX2 tyX2_ok nmX2 hown hK hP hD hS 0 rfl rfl 1 (by decide) (hts _ q139) (fun _ h9 => h9) rfl C.2.2.2.2.2.2.2 rfl (by decide +kernel) rfl rfl (Nat.le_of_ble_eq_true rfl) dX2_init_2_11 (fun H locs hP hD hS => ?_)
  have hP : va_P D.1 clAll [(a, .inr (2, [.int (iI ((w : Nat) : Int)), .int (iI ((g : Nat) : Int)), .null]))] H := hP
  have hD : va_D A [(a, .inr (2, [.int (iI ((w : Nat) : Int)), .int (iI ((g : Nat) : Int)), .null]))] := hD
  refine lv_aload_n kx kb dX2_init_2_14 rfl (lv_at hl 0 rfl) ?_
  refine lv_aload_n kx kb dX2_init_2_15 rfl (lv_at hl 3 rfl) ?_
  refine va_putF (D := D.1) (ci := 2) (v := .ref b) (ty := (.object "java/util/BitSet")) (C := RX2) (T := TX2) (N := 3) kx kb hts in_X2 tyX2 tyX2_ok nmX2 hown hK hP hD hS 0 rfl rfl 2 (by decide) (hts _ q141) (fun _ h9 => h9) rfl C.2.2.2.2.2.2.2 rfl (by decide +kernel) rfl rfl (Nat.le_of_ble_eq_true rfl) dX2_init_2_16 (fun H locs hP hD hS => ?_)
  have hP : va_P D.1 clAll [(a, .inr (2, [.int (iI ((w : Nat) : Int)), .int (iI ((g : Nat) : Int)), .ref b]))] H := hP
  have hD : va_D A [(a, .inr (2, [.int (iI ((w : Nat) : Int)), .int (iI ((g : Nat) : Int)), .ref b]))] := hD
  subst hQ
  exact tm_vret C () trivial hP hD hS (show 0 ≤ 0 from by omega) (show 0 ≤ 0 from by omega) rfl rfl dX2_init_2_19
set_option maxHeartbeats 4000000 in
set_option maxRecDepth 100000 in
theorem met_X2_init (l : Launch) (D : TG) (E : TE) (a : Nat) (w : Nat) (g : Nat) : tMet l yX2_init cX2_init 3 none 3 63 (2) (4) [.ref a, .int (iI ((w : Nat) : Int)), .int (iI ((g : Nat) : Int))] D E [(a, .inr (2, [.int (iI 0), .int (iI 0), .null]))] tY0 (S := Nat × Nat) (fun u_ => True) (fun u_ => none) (fun u_ => [(a, .inr (2, [.int (iI ((w : Nat) : Int)), .int (iI ((g : Nat) : Int)), .ref u_.1])), (u_.1, .inr (3, [.ref u_.2, .int (iI ((un (fun _ => false) : Nat) : Int)), .int (zI false)])), (u_.2, .inl (D.2 2, 1, .inr (.inl (wd (fun _ => false)))))]) := by
  refine tu_met (by decide +kernel) (Nat.le_of_ble_eq_true rfl) ?_
  intro p0 e0 s0 m0 below meth c0 A ls args Q hag hQ C hK hX hY hP hD hA hAe hl
  obtain ⟨kx, kb, hml, hown, hts, -⟩ := id C
  have hS : va_S A s0.heap s0.heap [] := va_S.rf
  have hl : lv_has ls 3 [(0, .ref a), (1, .int (iI ((w : Nat) : Int))), (2, .int (iI ((g : Nat) : Int)))] := hl
  refine lv_aload_n kx kb dX2_init_0 rfl (lv_at hl 0 rfl) ?_
  refine lv_iload_n kx kb dX2_init_1 rfl (lv_at hl 1 rfl) ?_
  refine lv_iload_n kx kb dX2_init_2 rfl (lv_at hl 2 rfl) ?_
  refine va_new (D := D.1) (ci := 3) (fs := [.null, .int (iI 0), .int (zI false)]) (C := RJ0) (T := TJ0) (N := 3) kx kb hts in_J0 tyJ0 tyJ0_ok hown (hts _ q109) (hts _ q110) (hts _ q61) hK hP hD hS hA rfl (fun j hj => by rcases (show j = 0 ∨ j = 1 ∨ j = 2 by omega) with rfl | rfl | rfl <;> rfl) (show 1 ≤ 2 from by omega) (show 3 ≤ 4 from by omega) dX2_init_3 (fun q_1 H hP hD hS => ?_)
  have hP : va_P D.1 clAll [(a, .inr (2, [.int (iI 0), .int (iI 0), .null])), (q_1, .inr (3, [.null, .int (iI 0), .int (zI false)]))] H := hP
  have hD : va_D A [(a, .inr (2, [.int (iI 0), .int (iI 0), .null])), (q_1, .inr (3, [.null, .int (iI 0), .int (zI false)]))] := hD
  refine lv_dup kx kb dX2_init_6 rfl ?_
  refine t_callI (wr := [(a, .inr (2, [.int (iI 0), .int (iI 0), .null]))]) C (met_J0_init l D E q_1) (cwI 0 hts (lw_meth q113) rfl rfl rfl (hts _ q61) (hts _ q111) (hts _ q112) rfl (by decide +kernel) ⟨Nat.le_of_ble_eq_true rfl, Nat.le_of_ble_eq_true rfl⟩) hK hX hP hD hS hA [1] [0] rfl rfl (by decide) (by decide) (by decide) tYb_0 (fun _ _ _ => trivial) rfl hl.1 rfl (Nat.le_of_ble_eq_true rfl) dX2_init_7 ⟨(show 2 ≤ 2 from by omega), (show 4 ≤ 4 from by omega)⟩ (fun u_ H locs hp hP hD hS => ?_)
  obtain ⟨w_2, rfl⟩ : ∃ z, z = u_ := ⟨_, rfl⟩
  have hP : va_P D.1 clAll [(a, .inr (2, [.int (iI 0), .int (iI 0), .null])), (q_1, .inr (3, [.ref w_2, .int (iI ((un (fun _ => false) : Nat) : Int)), .int (zI false)])), (w_2, .inl (D.2 2, 1, .inr (.inl (wd (fun _ => false)))))] H := hP
  have hD : va_D A [(a, .inr (2, [.int (iI 0), .int (iI 0), .null])), (q_1, .inr (3, [.ref w_2, .int (iI ((un (fun _ => false) : Nat) : Int)), .int (zI false)])), (w_2, .inl (D.2 2, 1, .inr (.inl (wd (fun _ => false)))))] := hD
  refine W.eq (g2 := F0 m0 10 ls [.ref q_1, .int (iI ((g : Nat) : Int)), .int (iI ((w : Nat) : Int)), .ref a]) rfl ?_
  refine W.widen (k := 2) (n := 4) (Nat.le_refl _) (Nat.le_refl _) ?_
  refine t_callI (wr := [(q_1, .inr (3, [.ref w_2, .int (iI ((un (fun _ => false) : Nat) : Int)), .int (zI false)])), (w_2, .inl (D.2 2, 1, .inr (.inl (wd (fun _ => false)))))]) C (met_X2_init_2 l D E a w g q_1) (cwI 3 hts (lw_meth q135) rfl rfl rfl (hts _ q60) (hts _ q133) (hts _ q134) rfl (by decide +kernel) ⟨Nat.le_of_ble_eq_true rfl, Nat.le_of_ble_eq_true rfl⟩) hK hX hP hD hS hA [0] [1, 2] rfl rfl (by decide) (by decide) (by decide) tYb_0 (fun _ _ _ => trivial) rfl hl.1 rfl (Nat.le_of_ble_eq_true rfl) dX2_init_10 ⟨(show 2 ≤ 2 from by omega), (show 4 ≤ 4 from by omega)⟩ (fun u_ H locs hp hP hD hS => ?_)
  have hP : va_P D.1 clAll [(q_1, .inr (3, [.ref w_2, .int (iI ((un (fun _ => false) : Nat) : Int)), .int (zI false)])), (w_2, .inl (D.2 2, 1, .inr (.inl (wd (fun _ => false))))), (a, .inr (2, [.int (iI ((w : Nat) : Int)), .int (iI ((g : Nat) : Int)), .ref q_1]))] H := hP
  have hD : va_D A [(q_1, .inr (3, [.ref w_2, .int (iI ((un (fun _ => false) : Nat) : Int)), .int (zI false)])), (w_2, .inl (D.2 2, 1, .inr (.inl (wd (fun _ => false))))), (a, .inr (2, [.int (iI ((w : Nat) : Int)), .int (iI ((g : Nat) : Int)), .ref q_1]))] := hD
  refine W.eq (g2 := F0 m0 13 ls []) rfl ?_
  subst hQ
  exact tm_vret C (q_1, w_2) trivial (hP.sub [2, 0, 1] rfl) (hD.sub [2, 0, 1] (by decide) rfl) hS (show 2 ≤ 2 from by omega) (show 4 ≤ 4 from by omega) rfl rfl dX2_init_13
set_option maxHeartbeats 4000000 in
set_option maxRecDepth 100000 in
theorem met_X2_like (l : Launch) (D : TG) (E : TE) (a : Nat) (b : Nat) (v : Nat) (n : Nat) (w : Nat) (g : Nat) (P : Nat → Bool) (hw : 1 ≤ w ∧ w ≤ 32) (hg : 1 ≤ g ∧ g ≤ 32) (hB : BB P n) : tMet l yX2_like cX2_like 2 (some (.object "TufaSteps$Picture")) 4 107 (4) (37) [.ref a] D E [(a, .inr (2, [.int (iI ((w : Nat) : Int)), .int (iI ((g : Nat) : Int)), .ref b])), (b, .inr (3, [.ref v, .int (iI ((un P : Nat) : Int)), .int (zI false)])), (v, .inl (D.2 2, n, .inr (.inl (wd P))))] tY0 (S := Nat × Nat × Nat) (fun u_ => True) (fun u_ => some (.ref u_.1)) (fun u_ => [(a, .inr (2, [.int (iI ((w : Nat) : Int)), .int (iI ((g : Nat) : Int)), .ref b])), (b, .inr (3, [.ref v, .int (iI ((un P : Nat) : Int)), .int (zI false)])), (v, .inl (D.2 2, n, .inr (.inl (wd P)))), (u_.1, .inr (2, [.int (iI ((w : Nat) : Int)), .int (iI ((g : Nat) : Int)), .ref u_.2.1])), (u_.2.1, .inr (3, [.ref u_.2.2, .int (iI ((un P : Nat) : Int)), .int (zI false)])), (u_.2.2, .inl (D.2 2, gN 1 (un P), .inr (.inl (wd P))))]) := by
  refine tu_met (by decide +kernel) (Nat.le_of_ble_eq_true rfl) ?_
  intro p0 e0 s0 m0 below meth c0 A ls args Q hag hQ C hK hX hY hP hD hA hAe hl
  obtain ⟨kx, kb, hml, hown, hts, -⟩ := id C
  have hS : va_S A s0.heap s0.heap [] := va_S.rf
  have hl : lv_has ls 2 [(0, .ref a)] := hl
  have hwg := wg_le hw hg
  have hBn := hB.1
  have hBm := hB.2.1
  have hul := un_le hB
  have hgc := gC_le 1 (un P)
  have hgs := gS_le (n := 1) hul.2
  refine va_new (D := D.1) (ci := 3) (fs := [.null, .int (iI 0), .int (zI false)]) (C := RJ0) (T := TJ0) (N := 3) kx kb hts in_J0 tyJ0 tyJ0_ok hown (hts _ q109) (hts _ q110) (hts _ q61) hK hP hD hS hA rfl (fun j hj => by rcases (show j = 0 ∨ j = 1 ∨ j = 2 by omega) with rfl | rfl | rfl <;> rfl) (show 1 ≤ 4 from by omega) (show 3 ≤ 37 from by omega) dX2_like_0 (fun q_1 H hP hD hS => ?_)
  have hP : va_P D.1 clAll [(a, .inr (2, [.int (iI ((w : Nat) : Int)), .int (iI ((g : Nat) : Int)), .ref b])), (b, .inr (3, [.ref v, .int (iI ((un P : Nat) : Int)), .int (zI false)])), (v, .inl (D.2 2, n, .inr (.inl (wd P)))), (q_1, .inr (3, [.null, .int (iI 0), .int (zI false)]))] H := hP
  have hD : va_D A [(a, .inr (2, [.int (iI ((w : Nat) : Int)), .int (iI ((g : Nat) : Int)), .ref b])), (b, .inr (3, [.ref v, .int (iI ((un P : Nat) : Int)), .int (zI false)])), (v, .inl (D.2 2, n, .inr (.inl (wd P)))), (q_1, .inr (3, [.null, .int (iI 0), .int (zI false)]))] := hD
  refine lv_dup kx kb dX2_like_3 rfl ?_
  refine t_callI (wr := [(a, .inr (2, [.int (iI ((w : Nat) : Int)), .int (iI ((g : Nat) : Int)), .ref b])), (b, .inr (3, [.ref v, .int (iI ((un P : Nat) : Int)), .int (zI false)])), (v, .inl (D.2 2, n, .inr (.inl (wd P))))]) C (met_J0_init l D E q_1) (cwI 0 hts (lw_meth q113) rfl rfl rfl (hts _ q61) (hts _ q111) (hts _ q112) rfl (by decide +kernel) ⟨Nat.le_of_ble_eq_true rfl, Nat.le_of_ble_eq_true rfl⟩) hK hX hP hD hS hA [3] [0, 1, 2] rfl rfl (by decide) (by decide) (by decide) tYb_0 (fun _ _ _ => trivial) rfl hl.1 rfl (Nat.le_of_ble_eq_true rfl) dX2_like_4 ⟨(show 2 ≤ 4 from by omega), (show 4 ≤ 37 from by omega)⟩ (fun u_ H locs hp hP hD hS => ?_)
  obtain ⟨w_2, rfl⟩ : ∃ z, z = u_ := ⟨_, rfl⟩
  have hP : va_P D.1 clAll [(a, .inr (2, [.int (iI ((w : Nat) : Int)), .int (iI ((g : Nat) : Int)), .ref b])), (b, .inr (3, [.ref v, .int (iI ((un P : Nat) : Int)), .int (zI false)])), (v, .inl (D.2 2, n, .inr (.inl (wd P)))), (q_1, .inr (3, [.ref w_2, .int (iI ((un (fun _ => false) : Nat) : Int)), .int (zI false)])), (w_2, .inl (D.2 2, 1, .inr (.inl (wd (fun _ => false)))))] H := hP
  have hD : va_D A [(a, .inr (2, [.int (iI ((w : Nat) : Int)), .int (iI ((g : Nat) : Int)), .ref b])), (b, .inr (3, [.ref v, .int (iI ((un P : Nat) : Int)), .int (zI false)])), (v, .inl (D.2 2, n, .inr (.inl (wd P)))), (q_1, .inr (3, [.ref w_2, .int (iI ((un (fun _ => false) : Nat) : Int)), .int (zI false)])), (w_2, .inl (D.2 2, 1, .inr (.inl (wd (fun _ => false)))))] := hD
  refine W.eq (g2 := F0 m0 7 ls [.ref q_1]) rfl ?_
  refine W.widen (k := 2) (n := 4) (Nat.le_refl _) (Nat.le_refl _) ?_
  refine lv_astore_n (lv' := [(1, .ref q_1), (0, .ref a)]) kx kb dX2_like_7 rfl hl (by decide) rfl (fun ls hl => ?_)
  refine lv_aload_n kx kb dX2_like_8 rfl (lv_at hl 0 rfl) ?_
  refine lv_aload_n kx kb dX2_like_9 rfl (lv_at hl 1 rfl) ?_
  refine va_get (D := D.1) (ci := 2) (v := .ref b) (C := RX2) (T := TX2) (N := 3) kx kb hts in_X2 hown hK hP 0 rfl rfl 2 (by decide) (hts _ q141) (fun _ h9 => h9) rfl dX2_like_10 ?_
  refine t_callV (wr := [(a, .inr (2, [.int (iI ((w : Nat) : Int)), .int (iI ((g : Nat) : Int)), .ref b]))]) C (met_J0_or l D E q_1 w_2 1 (fun _ => false) b v n P (BB_none (by omega)) (hB)) (cwV 1 hts (lw_V q557 q558 q559 q61 q560) rfl rfl rfl (by decide +kernel) ⟨Nat.le_of_ble_eq_true rfl, Nat.le_of_ble_eq_true rfl⟩) (va_recv hK hP (ci := 3) (q0 := 3) rfl rfl) hK hX hP hD hS hA [3, 4, 1, 2] [0] rfl rfl (by decide) (by decide) (by decide) tYb_0 (fun _ _ _ => trivial) rfl hl.1 rfl (Nat.le_of_ble_eq_true rfl) dX2_like_13 ⟨(show 2 + (gC 1 (un P)) ≤ 4 from by omega), (show 4 + (gS 1 (un P)) ≤ 37 from by omega)⟩ (fun u_ H locs hp hP hD hS => ?_)
  obtain ⟨w2_3, rfl⟩ : ∃ z, z = u_ := ⟨_, rfl⟩
  have hP : va_P D.1 clAll [(a, .inr (2, [.int (iI ((w : Nat) : Int)), .int (iI ((g : Nat) : Int)), .ref b])), (q_1, .inr (3, [.ref w2_3, .int (iI ((un (orB (fun _ => false) P) : Nat) : Int)), .int (zI false)])), (w2_3, .inl (D.2 2, gN 1 (un P), .inr (.inl (wd (orB (fun _ => false) P))))), (b, .inr (3, [.ref v, .int (iI ((un P : Nat) : Int)), .int (zI false)])), (v, .inl (D.2 2, n, .inr (.inl (wd P))))] H := hP
  have hD : va_D A [(a, .inr (2, [.int (iI ((w : Nat) : Int)), .int (iI ((g : Nat) : Int)), .ref b])), (q_1, .inr (3, [.ref w2_3, .int (iI ((un (orB (fun _ => false) P) : Nat) : Int)), .int (zI false)])), (w2_3, .inl (D.2 2, gN 1 (un P), .inr (.inl (wd (orB (fun _ => false) P))))), (b, .inr (3, [.ref v, .int (iI ((un P : Nat) : Int)), .int (zI false)])), (v, .inl (D.2 2, n, .inr (.inl (wd P))))] := hD
  refine W.eq (g2 := F0 m0 16 ls []) rfl ?_
  refine W.widen (k := 2 + (gC 1 (un P))) (n := 4 + (gS 1 (un P))) (Nat.le_refl _) (Nat.le_refl _) ?_
  rw [orB_none P] at hP hD
  have hP : va_P D.1 clAll [(a, .inr (2, [.int (iI ((w : Nat) : Int)), .int (iI ((g : Nat) : Int)), .ref b])), (q_1, .inr (3, [.ref w2_3, .int (iI ((un P : Nat) : Int)), .int (zI false)])), (w2_3, .inl (D.2 2, gN 1 (un P), .inr (.inl (wd P)))), (b, .inr (3, [.ref v, .int (iI ((un P : Nat) : Int)), .int (zI false)])), (v, .inl (D.2 2, n, .inr (.inl (wd P))))] H := by skip; exact hP
  have hD : va_D A [(a, .inr (2, [.int (iI ((w : Nat) : Int)), .int (iI ((g : Nat) : Int)), .ref b])), (q_1, .inr (3, [.ref w2_3, .int (iI ((un P : Nat) : Int)), .int (zI false)])), (w2_3, .inl (D.2 2, gN 1 (un P), .inr (.inl (wd P)))), (b, .inr (3, [.ref v, .int (iI ((un P : Nat) : Int)), .int (zI false)])), (v, .inl (D.2 2, n, .inr (.inl (wd P))))] := by skip; exact hD
  refine va_new (D := D.1) (ci := 2) (fs := [.int (iI 0), .int (iI 0), .null]) (C := RX2) (T := TX2) (N := 3) kx kb hts in_X2 tyX2 tyX2_ok hown (hts _ q563) (hts _ q105) (hts _ q60) hK hP hD hS hA rfl (fun j hj => by rcases (show j = 0 ∨ j = 1 ∨ j = 2 by omega) with rfl | rfl | rfl <;> rfl) (show 2 + (gC 1 (un P)) + 1 ≤ 4 from by omega) (show 4 + (gS 1 (un P)) + 3 ≤ 37 from by omega) dX2_like_16 (fun q_4 H hP hD hS => ?_)
  have hP : va_P D.1 clAll [(a, .inr (2, [.int (iI ((w : Nat) : Int)), .int (iI ((g : Nat) : Int)), .ref b])), (q_1, .inr (3, [.ref w2_3, .int (iI ((un P : Nat) : Int)), .int (zI false)])), (w2_3, .inl (D.2 2, gN 1 (un P), .inr (.inl (wd P)))), (b, .inr (3, [.ref v, .int (iI ((un P : Nat) : Int)), .int (zI false)])), (v, .inl (D.2 2, n, .inr (.inl (wd P)))), (q_4, .inr (2, [.int (iI 0), .int (iI 0), .null]))] H := hP
  have hD : va_D A [(a, .inr (2, [.int (iI ((w : Nat) : Int)), .int (iI ((g : Nat) : Int)), .ref b])), (q_1, .inr (3, [.ref w2_3, .int (iI ((un P : Nat) : Int)), .int (zI false)])), (w2_3, .inl (D.2 2, gN 1 (un P), .inr (.inl (wd P)))), (b, .inr (3, [.ref v, .int (iI ((un P : Nat) : Int)), .int (zI false)])), (v, .inl (D.2 2, n, .inr (.inl (wd P)))), (q_4, .inr (2, [.int (iI 0), .int (iI 0), .null]))] := hD
  refine lv_dup kx kb dX2_like_19 rfl ?_
  refine lv_aload_n kx kb dX2_like_20 rfl (lv_at hl 1 rfl) ?_
  refine va_get (D := D.1) (ci := 2) (v := .int (iI ((w : Nat) : Int))) (C := RX2) (T := TX2) (N := 3) kx kb hts in_X2 hown hK hP 0 rfl rfl 0 (by decide) (hts _ q137) (fun _ h9 => h9) rfl dX2_like_21 ?_
  refine lv_aload_n kx kb dX2_like_24 rfl (lv_at hl 1 rfl) ?_
  refine va_get (D := D.1) (ci := 2) (v := .int (iI ((g : Nat) : Int))) (C := RX2) (T := TX2) (N := 3) kx kb hts in_X2 hown hK hP 0 rfl rfl 1 (by decide) (hts _ q139) (fun _ h9 => h9) rfl dX2_like_25 ?_
  refine lv_aload_n kx kb dX2_like_28 rfl (lv_at hl 0 rfl) ?_
  refine t_callI (wr := [(a, .inr (2, [.int (iI ((w : Nat) : Int)), .int (iI ((g : Nat) : Int)), .ref b])), (q_1, .inr (3, [.ref w2_3, .int (iI ((un P : Nat) : Int)), .int (zI false)])), (w2_3, .inl (D.2 2, gN 1 (un P), .inr (.inl (wd P)))), (b, .inr (3, [.ref v, .int (iI ((un P : Nat) : Int)), .int (zI false)])), (v, .inl (D.2 2, n, .inr (.inl (wd P))))]) C (met_X2_init_2 l D E q_4 w g q_1) (cwI 3 hts (lw_meth q135) rfl rfl rfl (hts _ q60) (hts _ q133) (hts _ q134) rfl (by decide +kernel) ⟨Nat.le_of_ble_eq_true rfl, Nat.le_of_ble_eq_true rfl⟩) hK hX hP hD hS hA [5] [0, 1, 2, 3, 4] rfl rfl (by decide) (by decide) (by decide) tYb_0 (fun _ _ _ => trivial) rfl hl.1 rfl (Nat.le_of_ble_eq_true rfl) dX2_like_29 ⟨(show 2 + (gC 1 (un P)) + 1 ≤ 4 from by omega), (show 4 + (gS 1 (un P)) + 3 ≤ 37 from by omega)⟩ (fun u_ H locs hp hP hD hS => ?_)
  have hP : va_P D.1 clAll [(a, .inr (2, [.int (iI ((w : Nat) : Int)), .int (iI ((g : Nat) : Int)), .ref b])), (q_1, .inr (3, [.ref w2_3, .int (iI ((un P : Nat) : Int)), .int (zI false)])), (w2_3, .inl (D.2 2, gN 1 (un P), .inr (.inl (wd P)))), (b, .inr (3, [.ref v, .int (iI ((un P : Nat) : Int)), .int (zI false)])), (v, .inl (D.2 2, n, .inr (.inl (wd P)))), (q_4, .inr (2, [.int (iI ((w : Nat) : Int)), .int (iI ((g : Nat) : Int)), .ref q_1]))] H := hP
  have hD : va_D A [(a, .inr (2, [.int (iI ((w : Nat) : Int)), .int (iI ((g : Nat) : Int)), .ref b])), (q_1, .inr (3, [.ref w2_3, .int (iI ((un P : Nat) : Int)), .int (zI false)])), (w2_3, .inl (D.2 2, gN 1 (un P), .inr (.inl (wd P)))), (b, .inr (3, [.ref v, .int (iI ((un P : Nat) : Int)), .int (zI false)])), (v, .inl (D.2 2, n, .inr (.inl (wd P)))), (q_4, .inr (2, [.int (iI ((w : Nat) : Int)), .int (iI ((g : Nat) : Int)), .ref q_1]))] := hD
  refine W.eq (g2 := F0 m0 32 ls [.ref q_4]) rfl ?_
  subst hQ
  exact tm_aret C (q_4, q_1, w2_3) trivial (hP.sub [0, 3, 4, 5, 1, 2] rfl) (hD.sub [0, 3, 4, 5, 1, 2] (by decide) rfl) hS (show 2 + (gC 1 (un P)) + 1 ≤ 4 from by omega) (show 4 + (gS 1 (un P)) + 3 ≤ 37 from by omega) rfl rfl (Or.inl ⟨_, rfl⟩) (Or.inr ⟨_, rfl⟩) dX2_like_32
set_option maxHeartbeats 4000000 in
set_option maxRecDepth 100000 in
theorem met_X2_changes (l : Launch) (D : TG) (E : TE) (a : Nat) (b : Nat) (v : Nat) (n : Nat) (w : Nat) (g : Nat) (P : Nat → Bool) (c : Nat) (v3 : Nat) (n2 : Nat) (Q_ : Nat → Bool) (hw : 1 ≤ w ∧ w ≤ 32) (hg : 1 ≤ g ∧ g ≤ 32) (hB : BB P n) (hB2 : BB Q_ n2) : tMet l yX2_changes cX2_changes 3 (some .int) 5 128 (5) (67) [.ref a, .ref c] D E [(a, .inr (2, [.int (iI ((w : Nat) : Int)), .int (iI ((g : Nat) : Int)), .ref b])), (b, .inr (3, [.ref v, .int (iI ((un P : Nat) : Int)), .int (zI false)])), (v, .inl (D.2 2, n, .inr (.inl (wd P)))), (c, .inr (3, [.ref v3, .int (iI ((un Q_ : Nat) : Int)), .int (zI false)])), (v3, .inl (D.2 2, n2, .inr (.inl (wd Q_))))] tY0 (S := Unit) (fun u_ => True) (fun u_ => some (.int (iI ((fb_ct (xorB P Q_) 1024 : Nat) : Int)))) (fun u_ => [(a, .inr (2, [.int (iI ((w : Nat) : Int)), .int (iI ((g : Nat) : Int)), .ref b])), (b, .inr (3, [.ref v, .int (iI ((un P : Nat) : Int)), .int (zI false)])), (v, .inl (D.2 2, n, .inr (.inl (wd P)))), (c, .inr (3, [.ref v3, .int (iI ((un Q_ : Nat) : Int)), .int (zI false)])), (v3, .inl (D.2 2, n2, .inr (.inl (wd Q_))))]) := by
  refine tu_met (by decide +kernel) (Nat.le_of_ble_eq_true rfl) ?_
  intro p0 e0 s0 m0 below meth c0 A ls args Q hag hQ C hK hX hY hP hD hA hAe hl
  obtain ⟨kx, kb, hml, hown, hts, -⟩ := id C
  have hS : va_S A s0.heap s0.heap [] := va_S.rf
  have hl : lv_has ls 3 [(0, .ref a), (1, .ref c)] := hl
  have hwg := wg_le hw hg
  have hBn := hB.1
  have hBm := hB.2.1
  have hul := un_le hB
  have hgc := gC_le 1 (un P)
  have hgs := gS_le (n := 1) hul.2
  have hul2 := un_le hB2
  have hgc2 := gC_le (gN 1 (un P)) (un Q_)
  have hgs2 := gS_le (n := gN 1 (un P)) hul2.2
  have hB3 : BB P (gN 1 (un P)) := by have h := BB_or (BB_none (n := 1) (by omega)) hB; rw [orB_none] at h; exact h
  refine lv_aload_n kx kb dX2_changes_0 rfl (lv_at hl 0 rfl) ?_
  refine t_callV (wr := [(c, .inr (3, [.ref v3, .int (iI ((un Q_ : Nat) : Int)), .int (zI false)])), (v3, .inl (D.2 2, n2, .inr (.inl (wd Q_))))]) C (met_X2_like l D E a b v n w g P (by first | assumption | omega) (by first | assumption | omega) (by first | assumption | omega)) (cwV 0 hts (lw_V q553 q554 q555 q60 q556) rfl rfl rfl (by decide +kernel) ⟨Nat.le_of_ble_eq_true rfl, Nat.le_of_ble_eq_true rfl⟩) (va_recv hK hP (ci := 2) (q0 := 0) rfl rfl) hK hX hP hD hS hA [0, 1, 2] [3, 4] rfl rfl (by decide) (by decide) (by decide) tYb_0 (fun _ _ _ => trivial) rfl hl.1 rfl (Nat.le_of_ble_eq_true rfl) dX2_changes_1 ⟨(show 4 ≤ 5 from by omega), (show 37 ≤ 67 from by omega)⟩ (fun u_ H locs hp hP hD hS => ?_)
  obtain ⟨a2_1, b2_2, v2_3⟩ := u_
  have hP : va_P D.1 clAll [(c, .inr (3, [.ref v3, .int (iI ((un Q_ : Nat) : Int)), .int (zI false)])), (v3, .inl (D.2 2, n2, .inr (.inl (wd Q_)))), (a, .inr (2, [.int (iI ((w : Nat) : Int)), .int (iI ((g : Nat) : Int)), .ref b])), (b, .inr (3, [.ref v, .int (iI ((un P : Nat) : Int)), .int (zI false)])), (v, .inl (D.2 2, n, .inr (.inl (wd P)))), (a2_1, .inr (2, [.int (iI ((w : Nat) : Int)), .int (iI ((g : Nat) : Int)), .ref b2_2])), (b2_2, .inr (3, [.ref v2_3, .int (iI ((un P : Nat) : Int)), .int (zI false)])), (v2_3, .inl (D.2 2, gN 1 (un P), .inr (.inl (wd P))))] H := hP
  have hD : va_D A [(c, .inr (3, [.ref v3, .int (iI ((un Q_ : Nat) : Int)), .int (zI false)])), (v3, .inl (D.2 2, n2, .inr (.inl (wd Q_)))), (a, .inr (2, [.int (iI ((w : Nat) : Int)), .int (iI ((g : Nat) : Int)), .ref b])), (b, .inr (3, [.ref v, .int (iI ((un P : Nat) : Int)), .int (zI false)])), (v, .inl (D.2 2, n, .inr (.inl (wd P)))), (a2_1, .inr (2, [.int (iI ((w : Nat) : Int)), .int (iI ((g : Nat) : Int)), .ref b2_2])), (b2_2, .inr (3, [.ref v2_3, .int (iI ((un P : Nat) : Int)), .int (zI false)])), (v2_3, .inl (D.2 2, gN 1 (un P), .inr (.inl (wd P))))] := hD
  refine W.eq (g2 := F0 m0 4 ls [.ref a2_1]) rfl ?_
  refine W.widen (k := 4) (n := 37) (Nat.le_refl _) (Nat.le_refl _) ?_
  refine va_get (D := D.1) (ci := 2) (v := .ref b2_2) (C := RX2) (T := TX2) (N := 3) kx kb hts in_X2 hown hK hP 5 rfl rfl 2 (by decide) (hts _ q141) (fun _ h9 => h9) rfl dX2_changes_4 ?_
  refine lv_astore_n (lv' := [(2, .ref b2_2), (0, .ref a), (1, .ref c)]) kx kb dX2_changes_7 rfl hl (by decide) rfl (fun ls hl => ?_)
  refine lv_aload_n kx kb dX2_changes_8 rfl (lv_at hl 0 rfl) ?_
  refine lv_aload_n kx kb dX2_changes_9 rfl (lv_at hl 2 rfl) ?_
  refine t_callV (wr := [(a, .inr (2, [.int (iI ((w : Nat) : Int)), .int (iI ((g : Nat) : Int)), .ref b])), (b, .inr (3, [.ref v, .int (iI ((un P : Nat) : Int)), .int (zI false)])), (v, .inl (D.2 2, n, .inr (.inl (wd P)))), (a2_1, .inr (2, [.int (iI ((w : Nat) : Int)), .int (iI ((g : Nat) : Int)), .ref b2_2]))]) C (met_J0_xor l D E b2_2 v2_3 (gN 1 (un P)) P c v3 n2 Q_ (hB3) (by first | assumption | omega)) (cwV 1 hts (lw_V q564 q565 q566 q61 q567) rfl rfl rfl (by decide +kernel) ⟨Nat.le_of_ble_eq_true rfl, Nat.le_of_ble_eq_true rfl⟩) (va_recv hK hP (ci := 3) (q0 := 6) rfl rfl) hK hX hP hD hS hA [6, 7, 0, 1] [2, 3, 4, 5] rfl rfl (by decide) (by decide) (by decide) tYb_0 (fun _ _ _ => trivial) rfl hl.1 rfl (Nat.le_of_ble_eq_true rfl) dX2_changes_10 ⟨(show 4 + (gC (gN 1 (un P)) (un Q_)) ≤ 5 from by omega), (show 37 + (gS (gN 1 (un P)) (un Q_)) ≤ 67 from by omega)⟩ (fun u_ H locs hp hP hD hS => ?_)
  obtain ⟨w2_4, rfl⟩ : ∃ z, z = u_ := ⟨_, rfl⟩
  have hP : va_P D.1 clAll [(a, .inr (2, [.int (iI ((w : Nat) : Int)), .int (iI ((g : Nat) : Int)), .ref b])), (b, .inr (3, [.ref v, .int (iI ((un P : Nat) : Int)), .int (zI false)])), (v, .inl (D.2 2, n, .inr (.inl (wd P)))), (a2_1, .inr (2, [.int (iI ((w : Nat) : Int)), .int (iI ((g : Nat) : Int)), .ref b2_2])), (b2_2, .inr (3, [.ref w2_4, .int (iI ((un (xorB P Q_) : Nat) : Int)), .int (zI false)])), (w2_4, .inl (D.2 2, gN (gN 1 (un P)) (un Q_), .inr (.inl (wd (xorB P Q_))))), (c, .inr (3, [.ref v3, .int (iI ((un Q_ : Nat) : Int)), .int (zI false)])), (v3, .inl (D.2 2, n2, .inr (.inl (wd Q_))))] H := hP
  have hD : va_D A [(a, .inr (2, [.int (iI ((w : Nat) : Int)), .int (iI ((g : Nat) : Int)), .ref b])), (b, .inr (3, [.ref v, .int (iI ((un P : Nat) : Int)), .int (zI false)])), (v, .inl (D.2 2, n, .inr (.inl (wd P)))), (a2_1, .inr (2, [.int (iI ((w : Nat) : Int)), .int (iI ((g : Nat) : Int)), .ref b2_2])), (b2_2, .inr (3, [.ref w2_4, .int (iI ((un (xorB P Q_) : Nat) : Int)), .int (zI false)])), (w2_4, .inl (D.2 2, gN (gN 1 (un P)) (un Q_), .inr (.inl (wd (xorB P Q_))))), (c, .inr (3, [.ref v3, .int (iI ((un Q_ : Nat) : Int)), .int (zI false)])), (v3, .inl (D.2 2, n2, .inr (.inl (wd Q_))))] := hD
  refine W.eq (g2 := F0 m0 13 ls []) rfl ?_
  refine W.widen (k := 4 + (gC (gN 1 (un P)) (un Q_))) (n := 37 + (gS (gN 1 (un P)) (un Q_))) (Nat.le_refl _) (Nat.le_refl _) ?_
  refine lv_aload_n kx kb dX2_changes_13 rfl (lv_at hl 0 rfl) ?_
  refine t_callRV C (met_J0_cardinality l D E b2_2 w2_4 (gN (gN 1 (un P)) (un Q_)) (xorB P Q_) (BB_xor hB3 hB2)) (cwV 0 hts (lw_V q568 q536 q537 q61 q538) rfl rfl rfl (by decide +kernel) ⟨Nat.le_of_ble_eq_true rfl, Nat.le_of_ble_eq_true rfl⟩) (va_recv hK hP (ci := 3) (q0 := 4) rfl rfl) hK hX hP hD hS hA [4, 5] rfl (by decide) tYb_0 (fun _ _ _ => trivial) rfl hl.1 rfl (Nat.le_of_ble_eq_true rfl) dX2_changes_14 ⟨(show 4 + (gC (gN 1 (un P)) (un Q_)) ≤ 5 from by omega), (show 37 + (gS (gN 1 (un P)) (un Q_)) ≤ 67 from by omega)⟩ ?_
  refine W.eq (g2 := F0 m0 17 ls [.int (iI ((fb_ct (xorB P Q_) 1024 : Nat) : Int))]) rfl ?_
  subst hQ
  exact tm_iret C () trivial (hP.sub [0, 1, 2, 6, 7] rfl) (hD.sub [0, 1, 2, 6, 7] (by decide) rfl) hS (show 4 + (gC (gN 1 (un P)) (un Q_)) ≤ 5 from by omega) (show 37 + (gS (gN 1 (un P)) (un Q_)) ≤ 67 from by omega) rfl rfl dX2_changes_17
