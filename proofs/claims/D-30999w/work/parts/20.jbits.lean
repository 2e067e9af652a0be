set_option maxRecDepth 100000
set_option maxHeartbeats 4000000 in
set_option maxRecDepth 100000 in
theorem met_J17_numberOfTrailingZeros (l : Launch) (D : TG) (E : TE) (x : Int32) (t : Nat) (ht : t < 32) (hx : (x ^^^ iI (-1)) &&& (x - iI 1) = ntm t) : tRd l yJ17_numberOfTrailingZeros cJ17_numberOfTrailingZeros 2 (some .int) 0 0 [.int x] D E [] tY0 (some (.int (iI ((t : Nat) : Int)))) := by
  refine tu_rd (by decide +kernel) (Nat.le_of_ble_eq_true rfl) ?_
  intro p0 e0 s0 m0 below meth c0 A ls args Q hag hQ C hK hX hY hP hD hA hAe hl
  obtain ⟨kx, kb, hml, hown, hts, -⟩ := id C
  have hS : va_S A s0.heap s0.heap [] := va_S.rf
  have hl : lv_has ls 2 [(0, .int x)] := hl
  refine lv_iload_n kx kb dJ17_numberOfTrailingZeros_0 rfl (lv_at hl 0 rfl) ?_
  refine lv_iconst (v := iI (-1)) kx kb dJ17_numberOfTrailingZeros_1 rfl ?_
  refine lv_ixor kx kb dJ17_numberOfTrailingZeros_2 ?_
  refine lv_iload_n kx kb dJ17_numberOfTrailingZeros_3 rfl (lv_at hl 0 rfl) ?_
  refine lv_iconst (v := iI 1) kx kb dJ17_numberOfTrailingZeros_4 rfl ?_
  refine lv_isub kx kb dJ17_numberOfTrailingZeros_5 ?_
  refine lv_iand kx kb dJ17_numberOfTrailingZeros_6 ?_
  refine W.eq (g2 := F0 m0 7 ls [.int (ntm t)]) (by rw [hx]) ?_
  refine lv_istore_n (lv' := [(0, .int (ntm t))]) kx kb dJ17_numberOfTrailingZeros_7 rfl hl (by decide) rfl (fun ls hl => ?_)
  refine lv_iload_n kx kb dJ17_numberOfTrailingZeros_8 rfl (lv_at hl 0 rfl) ?_
  refine lv_if_gt (tgt := 17) kx kb dJ17_numberOfTrailingZeros_9 (by decide) (fun h9 => ?_) (fun h9 => ?_)
  · refine lv_iconst (v := iI 1) kx kb dJ17_numberOfTrailingZeros_17 rfl ?_
    refine lv_istore_n (lv' := [(1, .int (iI 1)), (0, .int (ntm t))]) kx kb dJ17_numberOfTrailingZeros_18 rfl hl (by decide) rfl (fun ls hl => ?_)
    refine lv_iload_n kx kb dJ17_numberOfTrailingZeros_19 rfl (lv_at hl 1 rfl) ?_
    refine lv_ldcw (v := iI 65536) kx kb hown (hts _ q592) dJ17_numberOfTrailingZeros_20 ?_
    refine lv_icmp_le (tgt := 34) kx kb dJ17_numberOfTrailingZeros_23 (by decide) (fun h23 => ?_) (fun h23 => ?_)
    · refine lv_iload_n kx kb dJ17_numberOfTrailingZeros_34 rfl (lv_at hl 1 rfl) ?_
      refine lv_sipush (v := iI 256) kx kb dJ17_numberOfTrailingZeros_35 rfl ?_
      refine lv_icmp_le (tgt := 49) kx kb dJ17_numberOfTrailingZeros_38 (by decide) (fun h38 => ?_) (fun h38 => ?_)
      · refine lv_iload_n kx kb dJ17_numberOfTrailingZeros_49 rfl (lv_at hl 1 rfl) ?_
        refine lv_bipush (v := iI 16) kx kb dJ17_numberOfTrailingZeros_50 rfl ?_
        refine lv_icmp_le (tgt := 62) kx kb dJ17_numberOfTrailingZeros_52 (by decide) (fun h52 => ?_) (fun h52 => ?_)
        · refine lv_iload_n kx kb dJ17_numberOfTrailingZeros_62 rfl (lv_at hl 1 rfl) ?_
          refine lv_iconst (v := iI 4) kx kb dJ17_numberOfTrailingZeros_63 rfl ?_
          refine lv_icmp_le (tgt := 74) kx kb dJ17_numberOfTrailingZeros_64 (by decide) (fun h64 => ?_) (fun h64 => ?_)
          · refine lv_iload_n kx kb dJ17_numberOfTrailingZeros_74 rfl (lv_at hl 0 rfl) ?_
            refine lv_iload_n kx kb dJ17_numberOfTrailingZeros_75 rfl (lv_at hl 1 rfl) ?_
            refine lv_iconst (v := iI 1) kx kb dJ17_numberOfTrailingZeros_76 rfl ?_
            refine lv_iushr kx kb dJ17_numberOfTrailingZeros_77 rfl ?_
            refine lv_iadd kx kb dJ17_numberOfTrailingZeros_78 ?_
            subst hQ
            exact tr_iret C rfl (by rcases (show t = 0 ∨ t = 1 ∨ t = 2 ∨ t = 3 ∨ t = 4 ∨ t = 5 ∨ t = 6 ∨ t = 7 ∨ t = 8 ∨ t = 9 ∨ t = 10 ∨ t = 11 ∨ t = 12 ∨ t = 13 ∨ t = 14 ∨ t = 15 ∨ t = 16 ∨ t = 17 ∨ t = 18 ∨ t = 19 ∨ t = 20 ∨ t = 21 ∨ t = 22 ∨ t = 23 ∨ t = 24 ∨ t = 25 ∨ t = 26 ∨ t = 27 ∨ t = 28 ∨ t = 29 ∨ t = 30 ∨ t = 31 by omega) with rfl | rfl | rfl | rfl | rfl | rfl | rfl | rfl | rfl | rfl | rfl | rfl | rfl | rfl | rfl | rfl | rfl | rfl | rfl | rfl | rfl | rfl | rfl | rfl | rfl | rfl | rfl | rfl | rfl | rfl | rfl | rfl <;> first | decide +kernel | exact absurd h9 (by decide +kernel) | exact absurd h23 (by decide +kernel) | exact absurd h38 (by decide +kernel) | exact absurd h52 (by decide +kernel) | exact absurd h64 (by decide +kernel)) dJ17_numberOfTrailingZeros_79
          · refine ti_iinc (a := 1) (lv' := [(1, .int (iI (1 + 2))), (0, .int (ntm t))]) kx kb dJ17_numberOfTrailingZeros_67 hl (k := 0) rfl (by decide) rfl (fun ls hl => ?_)
            refine lv_iload_n kx kb dJ17_numberOfTrailingZeros_70 rfl (lv_at hl 1 rfl) ?_
            refine lv_iconst (v := iI 2) kx kb dJ17_numberOfTrailingZeros_71 rfl ?_
            refine lv_iushr kx kb dJ17_numberOfTrailingZeros_72 rfl ?_
            refine lv_istore_n (lv' := [(0, .int ((((ntm t)).toUInt32 >>> ((iI 2).toUInt32 &&& Int32.toUInt32 31)).toInt32)), (1, .int (iI (1 + 2)))]) kx kb dJ17_numberOfTrailingZeros_73 rfl hl (by decide) rfl (fun ls hl => ?_)
            refine lv_iload_n kx kb dJ17_numberOfTrailingZeros_74 rfl (lv_at hl 1 rfl) ?_
            refine lv_iload_n kx kb dJ17_numberOfTrailingZeros_75 rfl (lv_at hl 0 rfl) ?_
            refine lv_iconst (v := iI 1) kx kb dJ17_numberOfTrailingZeros_76 rfl ?_
            refine lv_iushr kx kb dJ17_numberOfTrailingZeros_77 rfl ?_
            refine lv_iadd kx kb dJ17_numberOfTrailingZeros_78 ?_
            subst hQ
            exact tr_iret C rfl (by rcases (show t = 0 ∨ t = 1 ∨ t = 2 ∨ t = 3 ∨ t = 4 ∨ t = 5 ∨ t = 6 ∨ t = 7 ∨ t = 8 ∨ t = 9 ∨ t = 10 ∨ t = 11 ∨ t = 12 ∨ t = 13 ∨ t = 14 ∨ t = 15 ∨ t = 16 ∨ t = 17 ∨ t = 18 ∨ t = 19 ∨ t = 20 ∨ t = 21 ∨ t = 22 ∨ t = 23 ∨ t = 24 ∨ t = 25 ∨ t = 26 ∨ t = 27 ∨ t = 28 ∨ t = 29 ∨ t = 30 ∨ t = 31 by omega) with rfl | rfl | rfl | rfl | rfl | rfl | rfl | rfl | rfl | rfl | rfl | rfl | rfl | rfl | rfl | rfl | rfl | rfl | rfl | rfl | rfl | rfl | rfl | rfl | rfl | rfl | rfl | rfl | rfl | rfl | rfl | rfl <;> first | decide +kernel | exact absurd h9 (by decide +kernel) | exact absurd h23 (by decide +kernel) | exact absurd h38 (by decide +kernel) | exact absurd h52 (by decide +kernel) | exact absurd h64 (by decide +kernel)) dJ17_numberOfTrailingZeros_79
        · refine ti_iinc (a := 1) (lv' := [(1, .int (iI (1 + 4))), (0, .int (ntm t))]) kx kb dJ17_numberOfTrailingZeros_55 hl (k := 0) rfl (by decide) rfl (fun ls hl => ?_)
          refine lv_iload_n kx kb dJ17_numberOfTrailingZeros_58 rfl (lv_at hl 1 rfl) ?_
          refine lv_iconst (v := iI 4) kx kb dJ17_numberOfTrailingZeros_59 rfl ?_
          refine lv_iushr kx kb dJ17_numberOfTrailingZeros_60 rfl ?_
          refine lv_istore_n (lv' := [(0, .int ((((ntm t)).toUInt32 >>> ((iI 4).toUInt32 &&& Int32.toUInt32 31)).toInt32)), (1, .int (iI (1 + 4)))]) kx kb dJ17_numberOfTrailingZeros_61 rfl hl (by decide) rfl (fun ls hl => ?_)
          refine lv_iload_n kx kb dJ17_numberOfTrailingZeros_62 rfl (lv_at hl 0 rfl) ?_
          refine lv_iconst (v := iI 4) kx kb dJ17_numberOfTrailingZeros_63 rfl ?_
          refine lv_icmp_le (tgt := 74) kx kb dJ17_numberOfTrailingZeros_64 (by decide) (fun h64 => ?_) (fun h64 => ?_)
          · refine lv_iload_n kx kb dJ17_numberOfTrailingZeros_74 rfl (lv_at hl 1 rfl) ?_
            refine lv_iload_n kx kb dJ17_numberOfTrailingZeros_75 rfl (lv_at hl 0 rfl) ?_
            refine lv_iconst (v := iI 1) kx kb dJ17_numberOfTrailingZeros_76 rfl ?_
            refine lv_iushr kx kb dJ17_numberOfTrailingZeros_77 rfl ?_
            refine lv_iadd kx kb dJ17_numberOfTrailingZeros_78 ?_
            subst hQ
            exact tr_iret C rfl (by rcases (show t = 0 ∨ t = 1 ∨ t = 2 ∨ t = 3 ∨ t = 4 ∨ t = 5 ∨ t = 6 ∨ t = 7 ∨ t = 8 ∨ t = 9 ∨ t = 10 ∨ t = 11 ∨ t = 12 ∨ t = 13 ∨ t = 14 ∨ t = 15 ∨ t = 16 ∨ t = 17 ∨ t = 18 ∨ t = 19 ∨ t = 20 ∨ t = 21 ∨ t = 22 ∨ t = 23 ∨ t = 24 ∨ t = 25 ∨ t = 26 ∨ t = 27 ∨ t = 28 ∨ t = 29 ∨ t = 30 ∨ t = 31 by omega) with rfl | rfl | rfl | rfl | rfl | rfl | rfl | rfl | rfl | rfl | rfl | rfl | rfl | rfl | rfl | rfl | rfl | rfl | rfl | rfl | rfl | rfl | rfl | rfl | rfl | rfl | rfl | rfl | rfl | rfl | rfl | rfl <;> first | decide +kernel | exact absurd h9 (by decide +kernel) | exact absurd h23 (by decide +kernel) | exact absurd h38 (by decide +kernel) | exact absurd h52 (by decide +kernel) | exact absurd h64 (by decide +kernel)) dJ17_numberOfTrailingZeros_79
          · refine ti_iinc (a := 1 + 4) (lv' := [(1, .int (iI ((1 + 4) + 2))), (0, .int ((((ntm t)).toUInt32 >>> ((iI 4).toUInt32 &&& Int32.toUInt32 31)).toInt32))]) kx kb dJ17_numberOfTrailingZeros_67 hl (k := 1) rfl (by decide) rfl (fun ls hl => ?_)
            refine lv_iload_n kx kb dJ17_numberOfTrailingZeros_70 rfl (lv_at hl 1 rfl) ?_
            refine lv_iconst (v := iI 2) kx kb dJ17_numberOfTrailingZeros_71 rfl ?_
            refine lv_iushr kx kb dJ17_numberOfTrailingZeros_72 rfl ?_
            refine lv_istore_n (lv' := [(0, .int (((((((ntm t)).toUInt32 >>> ((iI 4).toUInt32 &&& Int32.toUInt32 31)).toInt32)).toUInt32 >>> ((iI 2).toUInt32 &&& Int32.toUInt32 31)).toInt32)), (1, .int (iI ((1 + 4) + 2)))]) kx kb dJ17_numberOfTrailingZeros_73 rfl hl (by decide) rfl (fun ls hl => ?_)
            refine lv_iload_n kx kb dJ17_numberOfTrailingZeros_74 rfl (lv_at hl 1 rfl) ?_
            refine lv_iload_n kx kb dJ17_numberOfTrailingZeros_75 rfl (lv_at hl 0 rfl) ?_
            refine lv_iconst (v := iI 1) kx kb dJ17_numberOfTrailingZeros_76 rfl ?_
            refine lv_iushr kx kb dJ17_numberOfTrailingZeros_77 rfl ?_
            refine lv_iadd kx kb dJ17_numberOfTrailingZeros_78 ?_
            subst hQ
            exact tr_iret C rfl (by rcases (show t = 0 ∨ t = 1 ∨ t = 2 ∨ t = 3 ∨ t = 4 ∨ t = 5 ∨ t = 6 ∨ t = 7 ∨ t = 8 ∨ t = 9 ∨ t = 10 ∨ t = 11 ∨ t = 12 ∨ t = 13 ∨ t = 14 ∨ t = 15 ∨ t = 16 ∨ t = 17 ∨ t = 18 ∨ t = 19 ∨ t = 20 ∨ t = 21 ∨ t = 22 ∨ t = 23 ∨ t = 24 ∨ t = 25 ∨ t = 26 ∨ t = 27 ∨ t = 28 ∨ t = 29 ∨ t = 30 ∨ t = 31 by omega) with rfl | rfl | rfl | rfl | rfl | rfl | rfl | rfl | rfl | rfl | rfl | rfl | rfl | rfl | rfl | rfl | rfl | rfl | rfl | rfl | rfl | rfl | rfl | rfl | rfl | rfl | rfl | rfl | rfl | rfl | rfl | rfl <;> first | decide +kernel | exact absurd h9 (by decide +kernel) | exact absurd h23 (by decide +kernel) | exact absurd h38 (by decide +kernel) | exact absurd h52 (by decide +kernel) | exact absurd h64 (by decide +kernel)) dJ17_numberOfTrailingZeros_79
      · refine ti_iinc (a := 1) (lv' := [(1, .int (iI (1 + 8))), (0, .int (ntm t))]) kx kb dJ17_numberOfTrailingZeros_41 hl (k := 0) rfl (by decide) rfl (fun ls hl => ?_)
        refine lv_iload_n kx kb dJ17_numberOfTrailingZeros_44 rfl (lv_at hl 1 rfl) ?_
        refine lv_bipush (v := iI 8) kx kb dJ17_numberOfTrailingZeros_45 rfl ?_
        refine lv_iushr kx kb dJ17_numberOfTrailingZeros_47 rfl ?_
        refine lv_istore_n (lv' := [(0, .int ((((ntm t)).toUInt32 >>> ((iI 8).toUInt32 &&& Int32.toUInt32 31)).toInt32)), (1, .int (iI (1 + 8)))]) kx kb dJ17_numberOfTrailingZeros_48 rfl hl (by decide) rfl (fun ls hl => ?_)
        refine lv_iload_n kx kb dJ17_numberOfTrailingZeros_49 rfl (lv_at hl 0 rfl) ?_
        refine lv_bipush (v := iI 16) kx kb dJ17_numberOfTrailingZeros_50 rfl ?_
        refine lv_icmp_le (tgt := 62) kx kb dJ17_numberOfTrailingZeros_52 (by decide) (fun h52 => ?_) (fun h52 => ?_)
        · refine lv_iload_n kx kb dJ17_numberOfTrailingZeros_62 rfl (lv_at hl 0 rfl) ?_
          refine lv_iconst (v := iI 4) kx kb dJ17_numberOfTrailingZeros_63 rfl ?_
          refine lv_icmp_le (tgt := 74) kx kb dJ17_numberOfTrailingZeros_64 (by decide) (fun h64 => ?_) (fun h64 => ?_)
          · refine lv_iload_n kx kb dJ17_numberOfTrailingZeros_74 rfl (lv_at hl 1 rfl) ?_
            refine lv_iload_n kx kb dJ17_numberOfTrailingZeros_75 rfl (lv_at hl 0 rfl) ?_
            refine lv_iconst (v := iI 1) kx kb dJ17_numberOfTrailingZeros_76 rfl ?_
            refine lv_iushr kx kb dJ17_numberOfTrailingZeros_77 rfl ?_
            refine lv_iadd kx kb dJ17_numberOfTrailingZeros_78 ?_
            subst hQ
            exact tr_iret C rfl (by rcases (show t = 0 ∨ t = 1 ∨ t = 2 ∨ t = 3 ∨ t = 4 ∨ t = 5 ∨ t = 6 ∨ t = 7 ∨ t = 8 ∨ t = 9 ∨ t = 10 ∨ t = 11 ∨ t = 12 ∨ t = 13 ∨ t = 14 ∨ t = 15 ∨ t = 16 ∨ t = 17 ∨ t = 18 ∨ t = 19 ∨ t = 20 ∨ t = 21 ∨ t = 22 ∨ t = 23 ∨ t = 24 ∨ t = 25 ∨ t = 26 ∨ t = 27 ∨ t = 28 ∨ t = 29 ∨ t = 30 ∨ t = 31 by omega) with rfl | rfl | rfl | rfl | rfl | rfl | rfl | rfl | rfl | rfl | rfl | rfl | rfl | rfl | rfl | rfl | rfl | rfl | rfl | rfl | rfl | rfl | rfl | rfl | rfl | rfl | rfl | rfl | rfl | rfl | rfl | rfl <;> first | decide +kernel | exact absurd h9 (by decide +kernel) | exact absurd h23 (by decide +kernel) | exact absurd h38 (by decide +kernel) | exact absurd h52 (by decide +kernel) | exact absurd h64 (by decide +kernel)) dJ17_numberOfTrailingZeros_79
          · refine ti_iinc (a := 1 + 8) (lv' := [(1, .int (iI ((1 + 8) + 2))), (0, .int ((((ntm t)).toUInt32 >>> ((iI 8).toUInt32 &&& Int32.toUInt32 31)).toInt32))]) kx kb dJ17_numberOfTrailingZeros_67 hl (k := 1) rfl (by decide) rfl (fun ls hl => ?_)
            refine lv_iload_n kx kb dJ17_numberOfTrailingZeros_70 rfl (lv_at hl 1 rfl) ?_
            refine lv_iconst (v := iI 2) kx kb dJ17_numberOfTrailingZeros_71 rfl ?_
            refine lv_iushr kx kb dJ17_numberOfTrailingZeros_72 rfl ?_
            refine lv_istore_n (lv' := [(0, .int (((((((ntm t)).toUInt32 >>> ((iI 8).toUInt32 &&& Int32.toUInt32 31)).toInt32)).toUInt32 >>> ((iI 2).toUInt32 &&& Int32.toUInt32 31)).toInt32)), (1, .int (iI ((1 + 8) + 2)))]) kx kb dJ17_numberOfTrailingZeros_73 rfl hl (by decide) rfl (fun ls hl => ?_)
            refine lv_iload_n kx kb dJ17_numberOfTrailingZeros_74 rfl (lv_at hl 1 rfl) ?_
            refine lv_iload_n kx kb dJ17_numberOfTrailingZeros_75 rfl (lv_at hl 0 rfl) ?_
            refine lv_iconst (v := iI 1) kx kb dJ17_numberOfTrailingZeros_76 rfl ?_
            refine lv_iushr kx kb dJ17_numberOfTrailingZeros_77 rfl ?_
            refine lv_iadd kx kb dJ17_numberOfTrailingZeros_78 ?_
            subst hQ
            exact tr_iret C rfl (by rcases (show t = 0 ∨ t = 1 ∨ t = 2 ∨ t = 3 ∨ t = 4 ∨ t = 5 ∨ t = 6 ∨ t = 7 ∨ t = 8 ∨ t = 9 ∨ t = 10 ∨ t = 11 ∨ t = 12 ∨ t = 13 ∨ t = 14 ∨ t = 15 ∨ t = 16 ∨ t = 17 ∨ t = 18 ∨ t = 19 ∨ t = 20 ∨ t = 21 ∨ t = 22 ∨ t = 23 ∨ t = 24 ∨ t = 25 ∨ t = 26 ∨ t = 27 ∨ t = 28 ∨ t = 29 ∨ t = 30 ∨ t = 31 by omega) with rfl | rfl | rfl | rfl | rfl | rfl | rfl | rfl | rfl | rfl | rfl | rfl | rfl | rfl | rfl | rfl | rfl | rfl | rfl | rfl | rfl | rfl | rfl | rfl | rfl | rfl | rfl | rfl | rfl | rfl | rfl | rfl <;> first | decide +kernel | exact absurd h9 (by decide +kernel) | exact absurd h23 (by decide +kernel) | exact absurd h38 (by decide +kernel) | exact absurd h52 (by decide +kernel) | exact absurd h64 (by decide +kernel)) dJ17_numberOfTrailingZeros_79
        · refine ti_iinc (a := 1 + 8) (lv' := [(1, .int (iI ((1 + 8) + 4))), (0, .int ((((ntm t)).toUInt32 >>> ((iI 8).toUInt32 &&& Int32.toUInt32 31)).toInt32))]) kx kb dJ17_numberOfTrailingZeros_55 hl (k := 1) rfl (by decide) rfl (fun ls hl => ?_)
          refine lv_iload_n kx kb dJ17_numberOfTrailingZeros_58 rfl (lv_at hl 1 rfl) ?_
          refine lv_iconst (v := iI 4) kx kb dJ17_numberOfTrailingZeros_59 rfl ?_
          refine lv_iushr kx kb dJ17_numberOfTrailingZeros_60 rfl ?_
          refine lv_istore_n (lv' := [(0, .int (((((((ntm t)).toUInt32 >>> ((iI 8).toUInt32 &&& Int32.toUInt32 31)).toInt32)).toUInt32 >>> ((iI 4).toUInt32 &&& Int32.toUInt32 31)).toInt32)), (1, .int (iI ((1 + 8) + 4)))]) kx kb dJ17_numberOfTrailingZeros_61 rfl hl (by decide) rfl (fun ls hl => ?_)
          refine lv_iload_n kx kb dJ17_numberOfTrailingZeros_62 rfl (lv_at hl 0 rfl) ?_
          refine lv_iconst (v := iI 4) kx kb dJ17_numberOfTrailingZeros_63 rfl ?_
          refine lv_icmp_le (tgt := 74) kx kb dJ17_numberOfTrailingZeros_64 (by decide) (fun h64 => ?_) (fun h64 => ?_)
          · refine lv_iload_n kx kb dJ17_numberOfTrailingZeros_74 rfl (lv_at hl 1 rfl) ?_
            refine lv_iload_n kx kb dJ17_numberOfTrailingZeros_75 rfl (lv_at hl 0 rfl) ?_
            refine lv_iconst (v := iI 1) kx kb dJ17_numberOfTrailingZeros_76 rfl ?_
            refine lv_iushr kx kb dJ17_numberOfTrailingZeros_77 rfl ?_
            refine lv_iadd kx kb dJ17_numberOfTrailingZeros_78 ?_
            subst hQ
            exact tr_iret C rfl (by rcases (show t = 0 ∨ t = 1 ∨ t = 2 ∨ t = 3 ∨ t = 4 ∨ t = 5 ∨ t = 6 ∨ t = 7 ∨ t = 8 ∨ t = 9 ∨ t = 10 ∨ t = 11 ∨ t = 12 ∨ t = 13 ∨ t = 14 ∨ t = 15 ∨ t = 16 ∨ t = 17 ∨ t = 18 ∨ t = 19 ∨ t = 20 ∨ t = 21 ∨ t = 22 ∨ t = 23 ∨ t = 24 ∨ t = 25 ∨ t = 26 ∨ t = 27 ∨ t = 28 ∨ t = 29 ∨ t = 30 ∨ t = 31 by omega) with rfl | rfl | rfl | rfl | rfl | rfl | rfl | rfl | rfl | rfl | rfl | rfl | rfl | rfl | rfl | rfl | rfl | rfl | rfl | rfl | rfl | rfl | rfl | rfl | rfl | rfl | rfl | rfl | rfl | rfl | rfl | rfl <;> first | decide +kernel | exact absurd h9 (by decide +kernel) | exact absurd h23 (by decide +kernel) | exact absurd h38 (by decide +kernel) | exact absurd h52 (by decide +kernel) | exact absurd h64 (by decide +kernel)) dJ17_numberOfTrailingZeros_79
          · refine ti_iinc (a := (1 + 8) + 4) (lv' := [(1, .int (iI (((1 + 8) + 4) + 2))), (0, .int (((((((ntm t)).toUInt32 >>> ((iI 8).toUInt32 &&& Int32.toUInt32 31)).toInt32)).toUInt32 >>> ((iI 4).toUInt32 &&& Int32.toUInt32 31)).toInt32))]) kx kb dJ17_numberOfTrailingZeros_67 hl (k := 1) rfl (by decide) rfl (fun ls hl => ?_)
            refine lv_iload_n kx kb dJ17_numberOfTrailingZeros_70 rfl (lv_at hl 1 rfl) ?_
            refine lv_iconst (v := iI 2) kx kb dJ17_numberOfTrailingZeros_71 rfl ?_
            refine lv_iushr kx kb dJ17_numberOfTrailingZeros_72 rfl ?_
            refine lv_istore_n (lv' := [(0, .int ((((((((((ntm t)).toUInt32 >>> ((iI 8).toUInt32 &&& Int32.toUInt32 31)).toInt32)).toUInt32 >>> ((iI 4).toUInt32 &&& Int32.toUInt32 31)).toInt32)).toUInt32 >>> ((iI 2).toUInt32 &&& Int32.toUInt32 31)).toInt32)), (1, .int (iI (((1 + 8) + 4) + 2)))]) kx kb dJ17_numberOfTrailingZeros_73 rfl hl (by decide) rfl (fun ls hl => ?_)
            refine lv_iload_n kx kb dJ17_numberOfTrailingZeros_74 rfl (lv_at hl 1 rfl) ?_
            refine lv_iload_n kx kb dJ17_numberOfTrailingZeros_75 rfl (lv_at hl 0 rfl) ?_
            refine lv_iconst (v := iI 1) kx kb dJ17_numberOfTrailingZeros_76 rfl ?_
            refine lv_iushr kx kb dJ17_numberOfTrailingZeros_77 rfl ?_
            refine lv_iadd kx kb dJ17_numberOfTrailingZeros_78 ?_
            subst hQ
            exact tr_iret C rfl (by rcases (show t = 0 ∨ t = 1 ∨ t = 2 ∨ t = 3 ∨ t = 4 ∨ t = 5 ∨ t = 6 ∨ t = 7 ∨ t = 8 ∨ t = 9 ∨ t = 10 ∨ t = 11 ∨ t = 12 ∨ t = 13 ∨ t = 14 ∨ t = 15 ∨ t = 16 ∨ t = 17 ∨ t = 18 ∨ t = 19 ∨ t = 20 ∨ t = 21 ∨ t = 22 ∨ t = 23 ∨ t = 24 ∨ t = 25 ∨ t = 26 ∨ t = 27 ∨ t = 28 ∨ t = 29 ∨ t = 30 ∨ t = 31 by omega) with rfl | rfl | rfl | rfl | rfl | rfl | rfl | rfl | rfl | rfl | rfl | rfl | rfl | rfl | rfl | rfl | rfl | rfl | rfl | rfl | rfl | rfl | rfl | rfl | rfl | rfl | rfl | rfl | rfl | rfl | rfl | rfl <;> first | decide +kernel | exact absurd h9 (by decide +kernel) | exact absurd h23 (by decide +kernel) | exact absurd h38 (by decide +kernel) | exact absurd h52 (by decide +kernel) | exact absurd h64 (by decide +kernel)) dJ17_numberOfTrailingZeros_79
    · refine ti_iinc (a := 1) (lv' := [(1, .int (iI (1 + 16))), (0, .int (ntm t))]) kx kb dJ17_numberOfTrailingZeros_26 hl (k := 0) rfl (by decide) rfl (fun ls hl => ?_)
      refine lv_iload_n kx kb dJ17_numberOfTrailingZeros_29 rfl (lv_at hl 1 rfl) ?_
      refine lv_bipush (v := iI 16) kx kb dJ17_numberOfTrailingZeros_30 rfl ?_
      refine lv_iushr kx kb dJ17_numberOfTrailingZeros_32 rfl ?_
      refine lv_istore_n (lv' := [(0, .int ((((ntm t)).toUInt32 >>> ((iI 16).toUInt32 &&& Int32.toUInt32 31)).toInt32)), (1, .int (iI (1 + 16)))]) kx kb dJ17_numberOfTrailingZeros_33 rfl hl (by decide) rfl (fun ls hl => ?_)
      refine lv_iload_n kx kb dJ17_numberOfTrailingZeros_34 rfl (lv_at hl 0 rfl) ?_
      refine lv_sipush (v := iI 256) kx kb dJ17_numberOfTrailingZeros_35 rfl ?_
      refine lv_icmp_le (tgt := 49) kx kb dJ17_numberOfTrailingZeros_38 (by decide) (fun h38 => ?_) (fun h38 => ?_)
      · refine lv_iload_n kx kb dJ17_numberOfTrailingZeros_49 rfl (lv_at hl 0 rfl) ?_
        refine lv_bipush (v := iI 16) kx kb dJ17_numberOfTrailingZeros_50 rfl ?_
        refine lv_icmp_le (tgt := 62) kx kb dJ17_numberOfTrailingZeros_52 (by decide) (fun h52 => ?_) (fun h52 => ?_)
        · refine lv_iload_n kx kb dJ17_numberOfTrailingZeros_62 rfl (lv_at hl 0 rfl) ?_
          refine lv_iconst (v := iI 4) kx kb dJ17_numberOfTrailingZeros_63 rfl ?_
          refine lv_icmp_le (tgt := 74) kx kb dJ17_numberOfTrailingZeros_64 (by decide) (fun h64 => ?_) (fun h64 => ?_)
          · refine lv_iload_n kx kb dJ17_numberOfTrailingZeros_74 rfl (lv_at hl 1 rfl) ?_
            refine lv_iload_n kx kb dJ17_numberOfTrailingZeros_75 rfl (lv_at hl 0 rfl) ?_
            refine lv_iconst (v := iI 1) kx kb dJ17_numberOfTrailingZeros_76 rfl ?_
            refine lv_iushr kx kb dJ17_numberOfTrailingZeros_77 rfl ?_
            refine lv_iadd kx kb dJ17_numberOfTrailingZeros_78 ?_
            subst hQ
            exact tr_iret C rfl (by rcases (show t = 0 ∨ t = 1 ∨ t = 2 ∨ t = 3 ∨ t = 4 ∨ t = 5 ∨ t = 6 ∨ t = 7 ∨ t = 8 ∨ t = 9 ∨ t = 10 ∨ t = 11 ∨ t = 12 ∨ t = 13 ∨ t = 14 ∨ t = 15 ∨ t = 16 ∨ t = 17 ∨ t = 18 ∨ t = 19 ∨ t = 20 ∨ t = 21 ∨ t = 22 ∨ t = 23 ∨ t = 24 ∨ t = 25 ∨ t = 26 ∨ t = 27 ∨ t = 28 ∨ t = 29 ∨ t = 30 ∨ t = 31 by omega) with rfl | rfl | rfl | rfl | rfl | rfl | rfl | rfl | rfl | rfl | rfl | rfl | rfl | rfl | rfl | rfl | rfl | rfl | rfl | rfl | rfl | rfl | rfl | rfl | rfl | rfl | rfl | rfl | rfl | rfl | rfl | rfl <;> first | decide +kernel | exact absurd h9 (by decide +kernel) | exact absurd h23 (by decide +kernel) | exact absurd h38 (by decide +kernel) | exact absurd h52 (by decide +kernel) | exact absurd h64 (by decide +kernel)) dJ17_numberOfTrailingZeros_79
          · refine ti_iinc (a := 1 + 16) (lv' := [(1, .int (iI ((1 + 16) + 2))), (0, .int ((((ntm t)).toUInt32 >>> ((iI 16).toUInt32 &&& Int32.toUInt32 31)).toInt32))]) kx kb dJ17_numberOfTrailingZeros_67 hl (k := 1) rfl (by decide) rfl (fun ls hl => ?_)
            refine lv_iload_n kx kb dJ17_numberOfTrailingZeros_70 rfl (lv_at hl 1 rfl) ?_
            refine lv_iconst (v := iI 2) kx kb dJ17_numberOfTrailingZeros_71 rfl ?_
            refine lv_iushr kx kb dJ17_numberOfTrailingZeros_72 rfl ?_
            refine lv_istore_n (lv' := [(0, .int (((((((ntm t)).toUInt32 >>> ((iI 16).toUInt32 &&& Int32.toUInt32 31)).toInt32)).toUInt32 >>> ((iI 2).toUInt32 &&& Int32.toUInt32 31)).toInt32)), (1, .int (iI ((1 + 16) + 2)))]) kx kb dJ17_numberOfTrailingZeros_73 rfl hl (by decide) rfl (fun ls hl => ?_)
            refine lv_iload_n kx kb dJ17_numberOfTrailingZeros_74 rfl (lv_at hl 1 rfl) ?_
            refine lv_iload_n kx kb dJ17_numberOfTrailingZeros_75 rfl (lv_at hl 0 rfl) ?_
            refine lv_iconst (v := iI 1) kx kb dJ17_numberOfTrailingZeros_76 rfl ?_
            refine lv_iushr kx kb dJ17_numberOfTrailingZeros_77 rfl ?_
            refine lv_iadd kx kb dJ17_numberOfTrailingZeros_78 ?_
            subst hQ
            exact tr_iret C rfl (by rcases (show t = 0 ∨ t = 1 ∨ t = 2 ∨ t = 3 ∨ t = 4 ∨ t = 5 ∨ t = 6 ∨ t = 7 ∨ t = 8 ∨ t = 9 ∨ t = 10 ∨ t = 11 ∨ t = 12 ∨ t = 13 ∨ t = 14 ∨ t = 15 ∨ t = 16 ∨ t = 17 ∨ t = 18 ∨ t = 19 ∨ t = 20 ∨ t = 21 ∨ t = 22 ∨ t = 23 ∨ t = 24 ∨ t = 25 ∨ t = 26 ∨ t = 27 ∨ t = 28 ∨ t = 29 ∨ t = 30 ∨ t = 31 by omega) with rfl | rfl | rfl | rfl | rfl | rfl | rfl | rfl | rfl | rfl | rfl | rfl | rfl | rfl | rfl | rfl | rfl | rfl | rfl | rfl | rfl | rfl | rfl | rfl | rfl | rfl | rfl | rfl | rfl | rfl | rfl | rfl <;> first | decide +kernel | exact absurd h9 (by decide +kernel) | exact absurd h23 (by decide +kernel) | exact absurd h38 (by decide +kernel) | exact absurd h52 (by decide +kernel) | exact absurd h64 (by decide +kernel)) dJ17_numberOfTrailingZeros_79
        · refine ti_iinc (a := 1 + 16) (lv' := [(1, .int (iI ((1 + 16) + 4))), (0, .int ((((ntm t)).toUInt32 >>> ((iI 16).toUInt32 &&& Int32.toUInt32 31)).toInt32))]) kx kb dJ17_numberOfTrailingZeros_55 hl (k := 1) rfl (by decide) rfl (fun ls hl => ?_)
          refine lv_iload_n kx kb dJ17_numberOfTrailingZeros_58 rfl (lv_at hl 1 rfl) ?_
          refine lv_iconst (v := iI 4) kx kb dJ17_numberOfTrailingZeros_59 rfl ?_
          refine lv_iushr kx kb dJ17_numberOfTrailingZeros_60 rfl ?_
          refine lv_istore_n (lv' := [(0, .int (((((((ntm t)).toUInt32 >>> ((iI 16).toUInt32 &&& Int32.toUInt32 31)).toInt32)).toUInt32 >>> ((iI 4).toUInt32 &&& Int32.toUInt32 31)).toInt32)), (1, .int (iI ((1 + 16) + 4)))]) kx kb dJ17_numberOfTrailingZeros_61 rfl hl (by decide) rfl (fun ls hl => ?_)
          refine lv_iload_n kx kb dJ17_numberOfTrailingZeros_62 rfl (lv_at hl 0 rfl) ?_
          refine lv_iconst (v := iI 4) kx kb dJ17_numberOfTrailingZeros_63 rfl ?_
          refine lv_icmp_le (tgt := 74) kx kb dJ17_numberOfTrailingZeros_64 (by decide) (fun h64 => ?_) (fun h64 => ?_)
          · refine lv_iload_n kx kb dJ17_numberOfTrailingZeros_74 rfl (lv_at hl 1 rfl) ?_
            refine lv_iload_n kx kb dJ17_numberOfTrailingZeros_75 rfl (lv_at hl 0 rfl) ?_
            refine lv_iconst (v := iI 1) kx kb dJ17_numberOfTrailingZeros_76 rfl ?_
            refine lv_iushr kx kb dJ17_numberOfTrailingZeros_77 rfl ?_
            refine lv_iadd kx kb dJ17_numberOfTrailingZeros_78 ?_
            subst hQ
            exact tr_iret C rfl (by rcases (show t = 0 ∨ t = 1 ∨ t = 2 ∨ t = 3 ∨ t = 4 ∨ t = 5 ∨ t = 6 ∨ t = 7 ∨ t = 8 ∨ t = 9 ∨ t = 10 ∨ t = 11 ∨ t = 12 ∨ t = 13 ∨ t = 14 ∨ t = 15 ∨ t = 16 ∨ t = 17 ∨ t = 18 ∨ t = 19 ∨ t = 20 ∨ t = 21 ∨ t = 22 ∨ t = 23 ∨ t = 24 ∨ t = 25 ∨ t = 26 ∨ t = 27 ∨ t = 28 ∨ t = 29 ∨ t = 30 ∨ t = 31 by omega) with rfl | rfl | rfl | rfl | rfl | rfl | rfl | rfl | rfl | rfl | rfl | rfl | rfl | rfl | rfl | rfl | rfl | rfl | rfl | rfl | rfl | rfl | rfl | rfl | rfl | rfl | rfl | rfl | rfl | rfl | rfl | rfl <;> first | decide +kernel | exact absurd h9 (by decide +kernel) | exact absurd h23 (by decide +kernel) | exact absurd h38 (by decide +kernel) | exact absurd h52 (by decide +kernel) | exact absurd h64 (by decide +kernel)) dJ17_numberOfTrailingZeros_79
          · refine ti_iinc (a := (1 + 16) + 4) (lv' := [(1, .int (iI (((1 + 16) + 4) + 2))), (0, .int (((((((ntm t)).toUInt32 >>> ((iI 16).toUInt32 &&& Int32.toUInt32 31)).toInt32)).toUInt32 >>> ((iI 4).toUInt32 &&& Int32.toUInt32 31)).toInt32))]) kx kb dJ17_numberOfTrailingZeros_67 hl (k := 1) rfl (by decide) rfl (fun ls hl => ?_)
            refine lv_iload_n kx kb dJ17_numberOfTrailingZeros_70 rfl (lv_at hl 1 rfl) ?_
            refine lv_iconst (v := iI 2) kx kb dJ17_numberOfTrailingZeros_71 rfl ?_
            refine lv_iushr kx kb dJ17_numberOfTrailingZeros_72 rfl ?_
            refine lv_istore_n (lv' := [(0, .int ((((((((((ntm t)).toUInt32 >>> ((iI 16).toUInt32 &&& Int32.toUInt32 31)).toInt32)).toUInt32 >>> ((iI 4).toUInt32 &&& Int32.toUInt32 31)).toInt32)).toUInt32 >>> ((iI 2).toUInt32 &&& Int32.toUInt32 31)).toInt32)), (1, .int (iI (((1 + 16) + 4) + 2)))]) kx kb dJ17_numberOfTrailingZeros_73 rfl hl (by decide) rfl (fun ls hl => ?_)
            refine lv_iload_n kx kb dJ17_numberOfTrailingZeros_74 rfl (lv_at hl 1 rfl) ?_
            refine lv_iload_n kx kb dJ17_numberOfTrailingZeros_75 rfl (lv_at hl 0 rfl) ?_
            refine lv_iconst (v := iI 1) kx kb dJ17_numberOfTrailingZeros_76 rfl ?_
            refine lv_iushr kx kb dJ17_numberOfTrailingZeros_77 rfl ?_
            refine lv_iadd kx kb dJ17_numberOfTrailingZeros_78 ?_
            subst hQ
            exact tr_iret C rfl (by rcases (show t = 0 ∨ t = 1 ∨ t = 2 ∨ t = 3 ∨ t = 4 ∨ t = 5 ∨ t = 6 ∨ t = 7 ∨ t = 8 ∨ t = 9 ∨ t = 10 ∨ t = 11 ∨ t = 12 ∨ t = 13 ∨ t = 14 ∨ t = 15 ∨ t = 16 ∨ t = 17 ∨ t = 18 ∨ t = 19 ∨ t = 20 ∨ t = 21 ∨ t = 22 ∨ t = 23 ∨ t = 24 ∨ t = 25 ∨ t = 26 ∨ t = 27 ∨ t = 28 ∨ t = 29 ∨ t = 30 ∨ t = 31 by omega) with rfl | rfl | rfl | rfl | rfl | rfl | rfl | rfl | rfl | rfl | rfl | rfl | rfl | rfl | rfl | rfl | rfl | rfl | rfl | rfl | rfl | rfl | rfl | rfl | rfl | rfl | rfl | rfl | rfl | rfl | rfl | rfl <;> first | decide +kernel | exact absurd h9 (by decide +kernel) | exact absurd h23 (by decide +kernel) | exact absurd h38 (by decide +kernel) | exact absurd h52 (by decide +kernel) | exact absurd h64 (by decide +kernel)) dJ17_numberOfTrailingZeros_79
      · refine ti_iinc (a := 1 + 16) (lv' := [(1, .int (iI ((1 + 16) + 8))), (0, .int ((((ntm t)).toUInt32 >>> ((iI 16).toUInt32 &&& Int32.toUInt32 31)).toInt32))]) kx kb dJ17_numberOfTrailingZeros_41 hl (k := 1) rfl (by decide) rfl (fun ls hl => ?_)
        refine lv_iload_n kx kb dJ17_numberOfTrailingZeros_44 rfl (lv_at hl 1 rfl) ?_
        refine lv_bipush (v := iI 8) kx kb dJ17_numberOfTrailingZeros_45 rfl ?_
        refine lv_iushr kx kb dJ17_numberOfTrailingZeros_47 rfl ?_
        refine lv_istore_n (lv' := [(0, .int (((((((ntm t)).toUInt32 >>> ((iI 16).toUInt32 &&& Int32.toUInt32 31)).toInt32)).toUInt32 >>> ((iI 8).toUInt32 &&& Int32.toUInt32 31)).toInt32)), (1, .int (iI ((1 + 16) + 8)))]) kx kb dJ17_numberOfTrailingZeros_48 rfl hl (by decide) rfl (fun ls hl => ?_)
        refine lv_iload_n kx kb dJ17_numberOfTrailingZeros_49 rfl (lv_at hl 0 rfl) ?_
        refine lv_bipush (v := iI 16) kx kb dJ17_numberOfTrailingZeros_50 rfl ?_
        refine lv_icmp_le (tgt := 62) kx kb dJ17_numberOfTrailingZeros_52 (by decide) (fun h52 => ?_) (fun h52 => ?_)
        · refine lv_iload_n kx kb dJ17_numberOfTrailingZeros_62 rfl (lv_at hl 0 rfl) ?_
          refine lv_iconst (v := iI 4) kx kb dJ17_numberOfTrailingZeros_63 rfl ?_
          refine lv_icmp_le (tgt := 74) kx kb dJ17_numberOfTrailingZeros_64 (by decide) (fun h64 => ?_) (fun h64 => ?_)
          · refine lv_iload_n kx kb dJ17_numberOfTrailingZeros_74 rfl (lv_at hl 1 rfl) ?_
            refine lv_iload_n kx kb dJ17_numberOfTrailingZeros_75 rfl (lv_at hl 0 rfl) ?_
            refine lv_iconst (v := iI 1) kx kb dJ17_numberOfTrailingZeros_76 rfl ?_
            refine lv_iushr kx kb dJ17_numberOfTrailingZeros_77 rfl ?_
            refine lv_iadd kx kb dJ17_numberOfTrailingZeros_78 ?_
            subst hQ
            exact tr_iret C rfl (by rcases (show t = 0 ∨ t = 1 ∨ t = 2 ∨ t = 3 ∨ t = 4 ∨ t = 5 ∨ t = 6 ∨ t = 7 ∨ t = 8 ∨ t = 9 ∨ t = 10 ∨ t = 11 ∨ t = 12 ∨ t = 13 ∨ t = 14 ∨ t = 15 ∨ t = 16 ∨ t = 17 ∨ t = 18 ∨ t = 19 ∨ t = 20 ∨ t = 21 ∨ t = 22 ∨ t = 23 ∨ t = 24 ∨ t = 25 ∨ t = 26 ∨ t = 27 ∨ t = 28 ∨ t = 29 ∨ t = 30 ∨ t = 31 by omega) with rfl | rfl | rfl | rfl | rfl | rfl | rfl | rfl | rfl | rfl | rfl | rfl | rfl | rfl | rfl | rfl | rfl | rfl | rfl | rfl | rfl | rfl | rfl | rfl | rfl | rfl | rfl | rfl | rfl | rfl | rfl | rfl <;> first | decide +kernel | exact absurd h9 (by decide +kernel) | exact absurd h23 (by decide +kernel) | exact absurd h38 (by decide +kernel) | exact absurd h52 (by decide +kernel) | exact absurd h64 (by decide +kernel)) dJ17_numberOfTrailingZeros_79
          · refine ti_iinc (a := (1 + 16) + 8) (lv' := [(1, .int (iI (((1 + 16) + 8) + 2))), (0, .int (((((((ntm t)).toUInt32 >>> ((iI 16).toUInt32 &&& Int32.toUInt32 31)).toInt32)).toUInt32 >>> ((iI 8).toUInt32 &&& Int32.toUInt32 31)).toInt32))]) kx kb dJ17_numberOfTrailingZeros_67 hl (k := 1) rfl (by decide) rfl (fun ls hl => ?_)
            refine lv_iload_n kx kb dJ17_numberOfTrailingZeros_70 rfl (lv_at hl 1 rfl) ?_
            refine lv_iconst (v := iI 2) kx kb dJ17_numberOfTrailingZeros_71 rfl ?_
            refine lv_iushr kx kb dJ17_numberOfTrailingZeros_72 rfl ?_
            refine lv_istore_n (lv' := [(0, .int ((((((((((ntm t)).toUInt32 >>> ((iI 16).toUInt32 &&& Int32.toUInt32 31)).toInt32)).toUInt32 >>> ((iI 8).toUInt32 &&& Int32.toUInt32 31)).toInt32)).toUInt32 >>> ((iI 2).toUInt32 &&& Int32.toUInt32 31)).toInt32)), (1, .int (iI (((1 + 16) + 8) + 2)))]) kx kb dJ17_numberOfTrailingZeros_73 rfl hl (by decide) rfl (fun ls hl => ?_)
            refine lv_iload_n kx kb dJ17_numberOfTrailingZeros_74 rfl (lv_at hl 1 rfl) ?_
            refine lv_iload_n kx kb dJ17_numberOfTrailingZeros_75 rfl (lv_at hl 0 rfl) ?_
            refine lv_iconst (v := iI 1) kx kb dJ17_numberOfTrailingZeros_76 rfl ?_
            refine lv_iushr kx kb dJ17_numberOfTrailingZeros_77 rfl ?_
            refine lv_iadd kx kb dJ17_numberOfTrailingZeros_78 ?_
            subst hQ
            exact tr_iret C rfl (by rcases (show t = 0 ∨ t = 1 ∨ t = 2 ∨ t = 3 ∨ t = 4 ∨ t = 5 ∨ t = 6 ∨ t = 7 ∨ t = 8 ∨ t = 9 ∨ t = 10 ∨ t = 11 ∨ t = 12 ∨ t = 13 ∨ t = 14 ∨ t = 15 ∨ t = 16 ∨ t = 17 ∨ t = 18 ∨ t = 19 ∨ t = 20 ∨ t = 21 ∨ t = 22 ∨ t = 23 ∨ t = 24 ∨ t = 25 ∨ t = 26 ∨ t = 27 ∨ t = 28 ∨ t = 29 ∨ t = 30 ∨ t = 31 by omega) with rfl | rfl | rfl | rfl | rfl | rfl | rfl | rfl | rfl | rfl | rfl | rfl | rfl | rfl | rfl | rfl | rfl | rfl | rfl | rfl | rfl | rfl | rfl | rfl | rfl | rfl | rfl | rfl | rfl | rfl | rfl | rfl <;> first | decide +kernel | exact absurd h9 (by decide +kernel) | exact absurd h23 (by decide +kernel) | exact absurd h38 (by decide +kernel) | exact absurd h52 (by decide +kernel) | exact absurd h64 (by decide +kernel)) dJ17_numberOfTrailingZeros_79
        · refine ti_iinc (a := (1 + 16) + 8) (lv' := [(1, .int (iI (((1 + 16) + 8) + 4))), (0, .int (((((((ntm t)).toUInt32 >>> ((iI 16).toUInt32 &&& Int32.toUInt32 31)).toInt32)).toUInt32 >>> ((iI 8).toUInt32 &&& Int32.toUInt32 31)).toInt32))]) kx kb dJ17_numberOfTrailingZeros_55 hl (k := 1) rfl (by decide) rfl (fun ls hl => ?_)
          refine lv_iload_n kx kb dJ17_numberOfTrailingZeros_58 rfl (lv_at hl 1 rfl) ?_
          refine lv_iconst (v := iI 4) kx kb dJ17_numberOfTrailingZeros_59 rfl ?_
          refine lv_iushr kx kb dJ17_numberOfTrailingZeros_60 rfl ?_
          refine lv_istore_n (lv' := [(0, .int ((((((((((ntm t)).toUInt32 >>> ((iI 16).toUInt32 &&& Int32.toUInt32 31)).toInt32)).toUInt32 >>> ((iI 8).toUInt32 &&& Int32.toUInt32 31)).toInt32)).toUInt32 >>> ((iI 4).toUInt32 &&& Int32.toUInt32 31)).toInt32)), (1, .int (iI (((1 + 16) + 8) + 4)))]) kx kb dJ17_numberOfTrailingZeros_61 rfl hl (by decide) rfl (fun ls hl => ?_)
          refine lv_iload_n kx kb dJ17_numberOfTrailingZeros_62 rfl (lv_at hl 0 rfl) ?_
          refine lv_iconst (v := iI 4) kx kb dJ17_numberOfTrailingZeros_63 rfl ?_
          refine lv_icmp_le (tgt := 74) kx kb dJ17_numberOfTrailingZeros_64 (by decide) (fun h64 => ?_) (fun h64 => ?_)
          · refine lv_iload_n kx kb dJ17_numberOfTrailingZeros_74 rfl (lv_at hl 1 rfl) ?_
            refine lv_iload_n kx kb dJ17_numberOfTrailingZeros_75 rfl (lv_at hl 0 rfl) ?_
            refine lv_iconst (v := iI 1) kx kb dJ17_numberOfTrailingZeros_76 rfl ?_
            refine lv_iushr kx kb dJ17_numberOfTrailingZeros_77 rfl ?_
            refine lv_iadd kx kb dJ17_numberOfTrailingZeros_78 ?_
            subst hQ
            exact tr_iret C rfl (by rcases (show t = 0 ∨ t = 1 ∨ t = 2 ∨ t = 3 ∨ t = 4 ∨ t = 5 ∨ t = 6 ∨ t = 7 ∨ t = 8 ∨ t = 9 ∨ t = 10 ∨ t = 11 ∨ t = 12 ∨ t = 13 ∨ t = 14 ∨ t = 15 ∨ t = 16 ∨ t = 17 ∨ t = 18 ∨ t = 19 ∨ t = 20 ∨ t = 21 ∨ t = 22 ∨ t = 23 ∨ t = 24 ∨ t = 25 ∨ t = 26 ∨ t = 27 ∨ t = 28 ∨ t = 29 ∨ t = 30 ∨ t = 31 by omega) with rfl | rfl | rfl | rfl | rfl | rfl | rfl | rfl | rfl | rfl | rfl | rfl | rfl | rfl | rfl | rfl | rfl | rfl | rfl | rfl | rfl | rfl | rfl | rfl | rfl | rfl | rfl | rfl | rfl | rfl | rfl | rfl <;> first | decide +kernel | exact absurd h9 (by decide +kernel) | exact absurd h23 (by decide +kernel) | exact absurd h38 (by decide +kernel) | exact absurd h52 (by decide +kernel) | exact absurd h64 (by decide +kernel)) dJ17_numberOfTrailingZeros_79
          · refine ti_iinc (a := ((1 + 16) + 8) + 4) (lv' := [(1, .int (iI ((((1 + 16) + 8) + 4) + 2))), (0, .int ((((((((((ntm t)).toUInt32 >>> ((iI 16).toUInt32 &&& Int32.toUInt32 31)).toInt32)).toUInt32 >>> ((iI 8).toUInt32 &&& Int32.toUInt32 31)).toInt32)).toUInt32 >>> ((iI 4).toUInt32 &&& Int32.toUInt32 31)).toInt32))]) kx kb dJ17_numberOfTrailingZeros_67 hl (k := 1) rfl (by decide) rfl (fun ls hl => ?_)
            refine lv_iload_n kx kb dJ17_numberOfTrailingZeros_70 rfl (lv_at hl 1 rfl) ?_
            refine lv_iconst (v := iI 2) kx kb dJ17_numberOfTrailingZeros_71 rfl ?_
            refine lv_iushr kx kb dJ17_numberOfTrailingZeros_72 rfl ?_
            refine lv_istore_n (lv' := [(0, .int (((((((((((((ntm t)).toUInt32 >>> ((iI 16).toUInt32 &&& Int32.toUInt32 31)).toInt32)).toUInt32 >>> ((iI 8).toUInt32 &&& Int32.toUInt32 31)).toInt32)).toUInt32 >>> ((iI 4).toUInt32 &&& Int32.toUInt32 31)).toInt32)).toUInt32 >>> ((iI 2).toUInt32 &&& Int32.toUInt32 31)).toInt32)), (1, .int (iI ((((1 + 16) + 8) + 4) + 2)))]) kx kb dJ17_numberOfTrailingZeros_73 rfl hl (by decide) rfl (fun ls hl => ?_)
            refine lv_iload_n kx kb dJ17_numberOfTrailingZeros_74 rfl (lv_at hl 1 rfl) ?_
            refine lv_iload_n kx kb dJ17_numberOfTrailingZeros_75 rfl (lv_at hl 0 rfl) ?_
            refine lv_iconst (v := iI 1) kx kb dJ17_numberOfTrailingZeros_76 rfl ?_
            refine lv_iushr kx kb dJ17_numberOfTrailingZeros_77 rfl ?_
            refine lv_iadd kx kb dJ17_numberOfTrailingZeros_78 ?_
            subst hQ
            exact tr_iret C rfl (by rcases (show t = 0 ∨ t = 1 ∨ t = 2 ∨ t = 3 ∨ t = 4 ∨ t = 5 ∨ t = 6 ∨ t = 7 ∨ t = 8 ∨ t = 9 ∨ t = 10 ∨ t = 11 ∨ t = 12 ∨ t = 13 ∨ t = 14 ∨ t = 15 ∨ t = 16 ∨ t = 17 ∨ t = 18 ∨ t = 19 ∨ t = 20 ∨ t = 21 ∨ t = 22 ∨ t = 23 ∨ t = 24 ∨ t = 25 ∨ t = 26 ∨ t = 27 ∨ t = 28 ∨ t = 29 ∨ t = 30 ∨ t = 31 by omega) with rfl | rfl | rfl | rfl | rfl | rfl | rfl | rfl | rfl | rfl | rfl | rfl | rfl | rfl | rfl | rfl | rfl | rfl | rfl | rfl | rfl | rfl | rfl | rfl | rfl | rfl | rfl | rfl | rfl | rfl | rfl | rfl <;> first | decide +kernel | exact absurd h9 (by decide +kernel) | exact absurd h23 (by decide +kernel) | exact absurd h38 (by decide +kernel) | exact absurd h52 (by decide +kernel) | exact absurd h64 (by decide +kernel)) dJ17_numberOfTrailingZeros_79
  · refine lv_iload_n kx kb dJ17_numberOfTrailingZeros_12 rfl (lv_at hl 0 rfl) ?_
    refine lv_bipush (v := iI 32) kx kb dJ17_numberOfTrailingZeros_13 rfl ?_
    refine lv_iand kx kb dJ17_numberOfTrailingZeros_15 ?_
    subst hQ
    exact tr_iret C rfl (by rcases (show t = 0 ∨ t = 1 ∨ t = 2 ∨ t = 3 ∨ t = 4 ∨ t = 5 ∨ t = 6 ∨ t = 7 ∨ t = 8 ∨ t = 9 ∨ t = 10 ∨ t = 11 ∨ t = 12 ∨ t = 13 ∨ t = 14 ∨ t = 15 ∨ t = 16 ∨ t = 17 ∨ t = 18 ∨ t = 19 ∨ t = 20 ∨ t = 21 ∨ t = 22 ∨ t = 23 ∨ t = 24 ∨ t = 25 ∨ t = 26 ∨ t = 27 ∨ t = 28 ∨ t = 29 ∨ t = 30 ∨ t = 31 by omega) with rfl | rfl | rfl | rfl | rfl | rfl | rfl | rfl | rfl | rfl | rfl | rfl | rfl | rfl | rfl | rfl | rfl | rfl | rfl | rfl | rfl | rfl | rfl | rfl | rfl | rfl | rfl | rfl | rfl | rfl | rfl | rfl <;> first | decide +kernel | exact absurd h9 (by decide +kernel)) dJ17_numberOfTrailingZeros_16
set_option maxHeartbeats 4000000 in
set_option maxRecDepth 100000 in
theorem met_J18_numberOfTrailingZeros (l : Launch) (D : TG) (E : TE) (x : Int64) (t : Nat) (ht : t < 64) (h1 : wbt x t = true) (h2 : ∀ i, i < t → wbt x i = false) : tRd l yJ18_numberOfTrailingZeros cJ18_numberOfTrailingZeros 3 (some .int) 1 21 [.long x] D E [] tY0 (some (.int (iI ((t : Nat) : Int)))) := by
  refine tu_rd (by decide +kernel) (Nat.le_of_ble_eq_true rfl) ?_
  intro p0 e0 s0 m0 below meth c0 A ls args Q hag hQ C hK hX hY hP hD hA hAe hl
  obtain ⟨kx, kb, hml, hown, hts, -⟩ := id C
  have hS : va_S A s0.heap s0.heap [] := va_S.rf
  have hl : lv_has ls 3 [(0, .long x)] := hl
  refine lv_lload_n kx kb dJ18_numberOfTrailingZeros_0 rfl (lv_at hl 0 rfl) ?_
  refine lv_l2i kx kb dJ18_numberOfTrailingZeros_1 rfl ?_
  refine lv_istore_n (lv' := [(2, .int ((x).toInt32)), (0, .long x)]) kx kb dJ18_numberOfTrailingZeros_2 rfl hl (by decide) rfl (fun ls hl => ?_)
  refine lv_iload_n kx kb dJ18_numberOfTrailingZeros_3 rfl (lv_at hl 0 rfl) ?_
  refine lv_if_ne (tgt := 21) kx kb dJ18_numberOfTrailingZeros_4 (by decide) (fun h4 => ?_) (fun h4 => ?_)
  · have ht2 : t < 32 := Nat.lt_of_not_le (fun q => absurd ((l2i_0 x).mpr (fun i hi => h2 i (by omega))) (by simpa using h4))
    refine lv_iload_n kx kb dJ18_numberOfTrailingZeros_21 rfl (lv_at hl 0 rfl) ?_
    refine t_callRS C (met_J17_numberOfTrailingZeros l D E ((x).toInt32) t (by omega) (ntm_eq (by omega) (by rw [l2i_bit _ (by omega)]; exact h1) (fun i hi => by rw [l2i_bit _ (by omega)]; exact h2 _ hi))) (va_cwS 1 hts (lw_S q589 q590 q80 q591) rfl rfl rfl (by decide +kernel) ⟨Nat.le_of_ble_eq_true rfl, Nat.le_of_ble_eq_true rfl⟩) hK hX hP hD hS hA [] rfl (by decide) tYb_0 (fun _ _ _ => trivial) rfl hl.1 rfl (Nat.le_of_ble_eq_true rfl) dJ18_numberOfTrailingZeros_22 ⟨(show 0 ≤ 0 from by omega), (show 0 ≤ 0 from by omega)⟩ ?_
    refine W.eq (g2 := F0 m0 25 ls [.int (iI ((t : Nat) : Int))]) rfl ?_
    subst hQ
    exact tr_iret C rfl rfl dJ18_numberOfTrailingZeros_25
  · have ht2 : 32 ≤ t := Nat.le_of_not_lt (fun q => by have h9 := (l2i_0 x).mp (by simpa using h4) t q; rw [h1] at h9; cases h9)
    refine lv_bipush (v := iI 32) kx kb dJ18_numberOfTrailingZeros_7 rfl ?_
    refine lv_lload_n kx kb dJ18_numberOfTrailingZeros_9 rfl (lv_at hl 1 rfl) ?_
    refine lv_bipush (v := iI 32) kx kb dJ18_numberOfTrailingZeros_10 rfl ?_
    refine lv_lushr kx kb dJ18_numberOfTrailingZeros_12 rfl ?_
    refine lv_l2i kx kb dJ18_numberOfTrailingZeros_13 rfl ?_
    refine t_callRS C (met_J17_numberOfTrailingZeros l D E (((x.toUInt64 >>> ((iI 32).toInt64.toUInt64 &&& Int64.toUInt64 63)).toInt64).toInt32) (t - 32) (by omega) (ntm_eq (by omega) (by rw [l2i_bit _ (by omega), lsh_bit _ (by omega), show 32 + (t - 32) = t from by omega]; exact h1) (fun i hi => by rw [l2i_bit _ (by omega), lsh_bit _ (by omega)]; exact h2 _ (by omega)))) (va_cwS 1 hts (lw_S q589 q590 q80 q591) rfl rfl rfl (by decide +kernel) ⟨Nat.le_of_ble_eq_true rfl, Nat.le_of_ble_eq_true rfl⟩) hK hX hP hD hS hA [] rfl (by decide) tYb_0 (fun _ _ _ => trivial) rfl hl.1 rfl (Nat.le_of_ble_eq_true rfl) dJ18_numberOfTrailingZeros_14 ⟨(show 0 ≤ 0 from by omega), (show 0 ≤ 0 from by omega)⟩ ?_
    refine W.eq (g2 := F0 m0 17 ls [.int (iI (((t - 32) : Nat) : Int)), .int (iI 32)]) rfl ?_
    refine ti_iadd kx kb dJ18_numberOfTrailingZeros_17 ?_
    refine lv_goto (tgt := 25) kx kb dJ18_numberOfTrailingZeros_18 (by decide) ?_
    subst hQ
    exact tr_iret C rfl (by rw [show (32 : Int) + ((t - 32 : Nat) : Int) = (t : Int) from by omega]) dJ18_numberOfTrailingZeros_25
set_option maxHeartbeats 4000000 in
set_option maxRecDepth 100000 in
theorem met_J18_bitCount (l : Launch) (D : TG) (E : TE) (x : Int64) : tRd l yJ18_bitCount cJ18_bitCount 2 (some .int) 0 0 [.long x] D E [] tY0 (some (.int (iI ((fb_ct (wbt x) 64 : Nat) : Int)))) := by
  refine tu_rd (by decide +kernel) (Nat.le_of_ble_eq_true rfl) ?_
  intro p0 e0 s0 m0 below meth c0 A ls args Q hag hQ C hK hX hY hP hD hA hAe hl
  obtain ⟨kx, kb, hml, hown, hts, -⟩ := id C
  have hS : va_S A s0.heap s0.heap [] := va_S.rf
  have hl : lv_has ls 2 [(0, .long x)] := hl
  refine lv_lload_n kx kb dJ18_bitCount_0 rfl (lv_at hl 0 rfl) ?_
  refine lv_lload_n kx kb dJ18_bitCount_1 rfl (lv_at hl 0 rfl) ?_
  refine lv_iconst (v := iI 1) kx kb dJ18_bitCount_2 rfl ?_
  refine lv_lushr kx kb dJ18_bitCount_3 rfl ?_
  refine lv_ldc2 (v := 6148914691236517205) kx kb hown (hts _ q542) dJ18_bitCount_4 ?_
  refine lv_land kx kb dJ18_bitCount_7 ?_
  refine lv_lsub kx kb dJ18_bitCount_8 ?_
  refine W.eq (g2 := F0 m0 9 ls [.long (sw1 x)]) (by rfl) ?_
  refine lv_lstore_n (lv' := [(0, .long (sw1 x))]) kx kb dJ18_bitCount_9 rfl hl (by decide) rfl (fun ls hl => ?_)
  refine lv_lload_n kx kb dJ18_bitCount_10 rfl (lv_at hl 0 rfl) ?_
  refine lv_ldc2 (v := 3689348814741910323) kx kb hown (hts _ q543) dJ18_bitCount_11 ?_
  refine lv_land kx kb dJ18_bitCount_14 ?_
  refine lv_lload_n kx kb dJ18_bitCount_15 rfl (lv_at hl 0 rfl) ?_
  refine lv_iconst (v := iI 2) kx kb dJ18_bitCount_16 rfl ?_
  refine lv_lushr kx kb dJ18_bitCount_17 rfl ?_
  refine lv_ldc2 (v := 3689348814741910323) kx kb hown (hts _ q543) dJ18_bitCount_18 ?_
  refine lv_land kx kb dJ18_bitCount_21 ?_
  refine lv_ladd kx kb dJ18_bitCount_22 ?_
  refine W.eq (g2 := F0 m0 23 ls [.long (sw2 (sw1 x))]) (by rfl) ?_
  refine lv_lstore_n (lv' := [(0, .long (sw2 (sw1 x)))]) kx kb dJ18_bitCount_23 rfl hl (by decide) rfl (fun ls hl => ?_)
  refine lv_lload_n kx kb dJ18_bitCount_24 rfl (lv_at hl 0 rfl) ?_
  refine lv_lload_n kx kb dJ18_bitCount_25 rfl (lv_at hl 0 rfl) ?_
  refine lv_iconst (v := iI 4) kx kb dJ18_bitCount_26 rfl ?_
  refine lv_lushr kx kb dJ18_bitCount_27 rfl ?_
  refine lv_ladd kx kb dJ18_bitCount_28 ?_
  refine lv_ldc2 (v := 1085102592571150095) kx kb hown (hts _ q544) dJ18_bitCount_29 ?_
  refine lv_land kx kb dJ18_bitCount_32 ?_
  refine W.eq (g2 := F0 m0 33 ls [.long (sw3 (sw2 (sw1 x)))]) (by rfl) ?_
  refine lv_lstore_n (lv' := [(0, .long (sw3 (sw2 (sw1 x))))]) kx kb dJ18_bitCount_33 rfl hl (by decide) rfl (fun ls hl => ?_)
  refine lv_lload_n kx kb dJ18_bitCount_34 rfl (lv_at hl 0 rfl) ?_
  refine lv_lload_n kx kb dJ18_bitCount_35 rfl (lv_at hl 0 rfl) ?_
  refine lv_bipush (v := iI 8) kx kb dJ18_bitCount_36 rfl ?_
  refine lv_lushr kx kb dJ18_bitCount_38 rfl ?_
  refine lv_ladd kx kb dJ18_bitCount_39 ?_
  refine W.eq (g2 := F0 m0 40 ls [.long (sw4 8 (sw3 (sw2 (sw1 x))))]) (by rfl) ?_
  refine lv_lstore_n (lv' := [(0, .long (sw4 8 (sw3 (sw2 (sw1 x)))))]) kx kb dJ18_bitCount_40 rfl hl (by decide) rfl (fun ls hl => ?_)
  refine lv_lload_n kx kb dJ18_bitCount_41 rfl (lv_at hl 0 rfl) ?_
  refine lv_lload_n kx kb dJ18_bitCount_42 rfl (lv_at hl 0 rfl) ?_
  refine lv_bipush (v := iI 16) kx kb dJ18_bitCount_43 rfl ?_
  refine lv_lushr kx kb dJ18_bitCount_45 rfl ?_
  refine lv_ladd kx kb dJ18_bitCount_46 ?_
  refine W.eq (g2 := F0 m0 47 ls [.long (sw4 16 (sw4 8 (sw3 (sw2 (sw1 x)))))]) (by rfl) ?_
  refine lv_lstore_n (lv' := [(0, .long (sw4 16 (sw4 8 (sw3 (sw2 (sw1 x))))))]) kx kb dJ18_bitCount_47 rfl hl (by decide) rfl (fun ls hl => ?_)
  refine lv_lload_n kx kb dJ18_bitCount_48 rfl (lv_at hl 0 rfl) ?_
  refine lv_lload_n kx kb dJ18_bitCount_49 rfl (lv_at hl 0 rfl) ?_
  refine lv_bipush (v := iI 32) kx kb dJ18_bitCount_50 rfl ?_
  refine lv_lushr kx kb dJ18_bitCount_52 rfl ?_
  refine lv_ladd kx kb dJ18_bitCount_53 ?_
  refine W.eq (g2 := F0 m0 54 ls [.long (sw4 32 (sw4 16 (sw4 8 (sw3 (sw2 (sw1 x))))))]) (by rfl) ?_
  refine lv_lstore_n (lv' := [(0, .long (sw4 32 (sw4 16 (sw4 8 (sw3 (sw2 (sw1 x)))))))]) kx kb dJ18_bitCount_54 rfl hl (by decide) rfl (fun ls hl => ?_)
  refine lv_lload_n kx kb dJ18_bitCount_55 rfl (lv_at hl 0 rfl) ?_
  refine lv_l2i kx kb dJ18_bitCount_56 rfl ?_
  refine lv_bipush (v := iI 127) kx kb dJ18_bitCount_57 rfl ?_
  refine lv_iand kx kb dJ18_bitCount_59 ?_
  subst hQ
  exact tr_iret C rfl (by rw [bitc_eq]) dJ18_bitCount_60
