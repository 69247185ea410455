def bA (x : Nat) : Nat := x - ((x / 2) &&& 0x5555555555555555)
theorem bA_lt {x : Nat} (h : x < 2 ^ 64) : bA x < 2 ^ 64 := Nat.lt_of_le_of_lt (Nat.sub_le _ _) h
abbrev bB (x : Nat) : Nat := pG 0x5555555555555555 0x3333333333333333 x
abbrev bD (x : Nat) : Nat := pS 0x0f0f0f0f0f0f0f0f (bB x)
theorem bT1 {x : Nat} (h : x < 2 ^ 64) : pT1 (bD x) < 2 ^ 62 := by have h2 : bD x < 2 ^ 61 := (bc_bd h).2; unfold pT1; omega
theorem bT2 {x : Nat} (h : x < 2 ^ 64) : pT2 (pT1 (bD x)) < 2 ^ 63 := by have := bT1 h; unfold pT2; omega
def Q_ctJ23_bitCount (G : GT) (x : Nat) : Option Value → List va_W → Prop := fun v S1 => v = some (.int (nI (fb_ct (fun i => x.testBit i) 64))) ∧ S1 = []
set_option maxHeartbeats 4000000 in
set_option maxRecDepth 100000 in
theorem ctJ23_bitCount (l : Launch) (G : GT) (x : Nat) (hx : x < 2 ^ 64) : Ct l G yJ23_bitCount cJ23_bitCount 2 (some .int) 0 0 0 0 [.long (lN x)] ([]) noR (Q_ctJ23_bitCount G x) := by
  refine Ct.of (by decide +kernel) (Nat.le_of_ble_eq_true rfl) ?_
  intro p e s m below meth c A ls C hW hRo hl
  have hl : lv_has ls 2 [(0, .long (lN x))] := hl
  refine lv_lload_n C.hx C.hb dJ23_bitCount_0 rfl (lv_at hl 0 rfl) ?_
  refine lv_lload_n C.hx C.hb dJ23_bitCount_1 rfl (lv_at hl 0 rfl) ?_
  refine kn_iconst (a := 1) C (by decide) dJ23_bitCount_2 ?_
  refine kn_lushr C hx (by decide) dJ23_bitCount_3 ?_
  refine lv_ldc2 (own := "java/lang/Long") (v := (lN 6148914691236517205)) C.hx C.hb C.hown (C.hts _ q1086) dJ23_bitCount_4 ?_
  refine kn_land C dJ23_bitCount_7 ?_
  refine kn_lsub C (Nat.le_trans Nat.and_le_left (Nat.div_le_self _ _)) dJ23_bitCount_8 ?_
  refine k_op (y := .long (lN (bA x))) rfl ?_
  refine lv_lstore_n (lv' := [(0, .long (lN (bA x)))]) C.hx C.hb dJ23_bitCount_9 rfl hl (Nat.le_of_ble_eq_true rfl) rfl (fun ls1 hl1 => ?_)
  clear hl
  refine lv_lload_n C.hx C.hb dJ23_bitCount_10 rfl (lv_at hl1 0 rfl) ?_
  refine lv_ldc2 (own := "java/lang/Long") (v := (lN 3689348814741910323)) C.hx C.hb C.hown (C.hts _ q1087) dJ23_bitCount_11 ?_
  refine kn_land C dJ23_bitCount_14 ?_
  refine lv_lload_n C.hx C.hb dJ23_bitCount_15 rfl (lv_at hl1 0 rfl) ?_
  refine kn_iconst (a := 2) C (by decide) dJ23_bitCount_16 ?_
  refine kn_lushr C (bA_lt hx) (by decide) dJ23_bitCount_17 ?_
  refine lv_ldc2 (own := "java/lang/Long") (v := (lN 3689348814741910323)) C.hx C.hb C.hown (C.hts _ q1087) dJ23_bitCount_18 ?_
  refine kn_land C dJ23_bitCount_21 ?_
  refine kn_ladd C  dJ23_bitCount_22 ?_
  refine k_op (y := .long (lN (bB x))) rfl ?_
  refine lv_lstore_n (lv' := [(0, .long (lN (bB x)))]) C.hx C.hb dJ23_bitCount_23 rfl hl1 (Nat.le_of_ble_eq_true rfl) rfl (fun ls2 hl2 => ?_)
  clear hl1
  refine lv_lload_n C.hx C.hb dJ23_bitCount_24 rfl (lv_at hl2 0 rfl) ?_
  refine lv_lload_n C.hx C.hb dJ23_bitCount_25 rfl (lv_at hl2 0 rfl) ?_
  refine kn_iconst (a := 4) C (by decide) dJ23_bitCount_26 ?_
  refine kn_lushr C (bc_bd hx).1 (by decide) dJ23_bitCount_27 ?_
  refine kn_ladd C  dJ23_bitCount_28 ?_
  refine lv_ldc2 (own := "java/lang/Long") (v := (lN 1085102592571150095)) C.hx C.hb C.hown (C.hts _ q1088) dJ23_bitCount_29 ?_
  refine kn_land C dJ23_bitCount_32 ?_
  refine k_op (y := .long (lN (bD x))) rfl ?_
  refine lv_lstore_n (lv' := [(0, .long (lN (bD x)))]) C.hx C.hb dJ23_bitCount_33 rfl hl2 (Nat.le_of_ble_eq_true rfl) rfl (fun ls3 hl3 => ?_)
  clear hl2
  refine lv_lload_n C.hx C.hb dJ23_bitCount_34 rfl (lv_at hl3 0 rfl) ?_
  refine lv_lload_n C.hx C.hb dJ23_bitCount_35 rfl (lv_at hl3 0 rfl) ?_
  refine kn_bipush (a := 8) C (by decide) dJ23_bitCount_36 ?_
  refine kn_lushr C (Nat.lt_trans (bc_bd hx).2 (by decide)) (by decide) dJ23_bitCount_38 ?_
  refine kn_ladd C  dJ23_bitCount_39 ?_
  refine k_op (y := .long (lN (pT1 (bD x)))) rfl ?_
  refine lv_lstore_n (lv' := [(0, .long (lN (pT1 (bD x))))]) C.hx C.hb dJ23_bitCount_40 rfl hl3 (Nat.le_of_ble_eq_true rfl) rfl (fun ls4 hl4 => ?_)
  clear hl3
  refine lv_lload_n C.hx C.hb dJ23_bitCount_41 rfl (lv_at hl4 0 rfl) ?_
  refine lv_lload_n C.hx C.hb dJ23_bitCount_42 rfl (lv_at hl4 0 rfl) ?_
  refine kn_bipush (a := 16) C (by decide) dJ23_bitCount_43 ?_
  refine kn_lushr C (Nat.lt_trans (bT1 hx) (by decide)) (by decide) dJ23_bitCount_45 ?_
  refine kn_ladd C  dJ23_bitCount_46 ?_
  refine k_op (y := .long (lN (pT2 (pT1 (bD x))))) rfl ?_
  refine lv_lstore_n (lv' := [(0, .long (lN (pT2 (pT1 (bD x)))))]) C.hx C.hb dJ23_bitCount_47 rfl hl4 (Nat.le_of_ble_eq_true rfl) rfl (fun ls5 hl5 => ?_)
  clear hl4
  refine lv_lload_n C.hx C.hb dJ23_bitCount_48 rfl (lv_at hl5 0 rfl) ?_
  refine lv_lload_n C.hx C.hb dJ23_bitCount_49 rfl (lv_at hl5 0 rfl) ?_
  refine kn_bipush (a := 32) C (by decide) dJ23_bitCount_50 ?_
  refine kn_lushr C (Nat.lt_trans (bT2 hx) (by decide)) (by decide) dJ23_bitCount_52 ?_
  refine kn_ladd C  dJ23_bitCount_53 ?_
  refine k_op (y := .long (lN (bcN x))) rfl ?_
  refine lv_lstore_n (lv' := [(0, .long (lN (bcN x)))]) C.hx C.hb dJ23_bitCount_54 rfl hl5 (Nat.le_of_ble_eq_true rfl) rfl (fun ls6 hl6 => ?_)
  clear hl5
  refine lv_lload_n C.hx C.hb dJ23_bitCount_55 rfl (lv_at hl6 0 rfl) ?_
  refine kn_l2i C dJ23_bitCount_56 ?_
  refine kn_bipush (a := 127) C (by decide) dJ23_bitCount_57 ?_
  refine kn_iand C dJ23_bitCount_59 ?_
  exact k_iret C hW rfl ⟨by rw [← bcN_eq hx]; exact congrArg (fun z => some (Value.int (nI z))) (Nat.and_two_pow_sub_one_eq_mod _ 7), rfl⟩ (Nat.le_refl _) (Nat.le_refl _) dJ23_bitCount_60

def Q_ctJ16_numberOfTrailingZeros (G : GT) (x t : Nat) : Option Value → List va_W → Prop := fun v S1 => v = some (.int (nI t)) ∧ S1 = []
set_option maxHeartbeats 4000000 in
set_option maxRecDepth 100000 in
theorem ctJ16_numberOfTrailingZeros (l : Launch) (G : GT) (x t : Nat) (hx : x < 2 ^ 32) (ht : t < 32) (h1 : Low1 x t) : Ct l G yJ16_numberOfTrailingZeros cJ16_numberOfTrailingZeros 2 (some .int) 0 0 0 0 [.int (nI x)] ([]) noR (Q_ctJ16_numberOfTrailingZeros G x t) := by
  refine Ct.of (by decide +kernel) (Nat.le_of_ble_eq_true rfl) ?_
  intro p e s m below meth c A ls C hW hRo hl
  have hl : lv_has ls 2 [(0, .int (nI x))] := hl
  have hm : 2 ^ t - 1 < 2 ^ 31 := (by decide +kernel : ∀ t, t < 32 → 2 ^ t - 1 < 2 ^ 31) t ht
  refine lv_iload_n C.hx C.hb dJ16_numberOfTrailingZeros_0 rfl (lv_at hl 0 rfl) ?_
  refine lv_iconst (v := nI NONE) C.hx C.hb dJ16_numberOfTrailingZeros_1 (by decide) ?_
  refine kn_ixor C dJ16_numberOfTrailingZeros_2 ?_
  refine lv_iload_n C.hx C.hb dJ16_numberOfTrailingZeros_3 rfl (lv_at hl 0 rfl) ?_
  refine kn_iconst (a := 1) C (by decide) dJ16_numberOfTrailingZeros_4 ?_
  refine kn_isub C h1.pos dJ16_numberOfTrailingZeros_5 ?_
  refine kn_iand C dJ16_numberOfTrailingZeros_6 ?_
  refine k_op (y := .int (nI (2 ^ t - 1))) (congrArg (fun z => Value.int (nI z)) (low_mask hx ht h1)) ?_
  refine lv_istore_n (lv' := [(0, .int (nI (2 ^ t - 1)))]) C.hx C.hb dJ16_numberOfTrailingZeros_7 rfl hl (Nat.le_of_ble_eq_true rfl) rfl (fun ls1 hl1 => ?_)
  clear hl
  refine lv_iload_n C.hx C.hb dJ16_numberOfTrailingZeros_8 rfl (lv_at hl1 0 rfl) ?_
  refine kn_if_gt (tgt := 17) C (by omega) dJ16_numberOfTrailingZeros_9 (by decide) (fun c9 => ?_) (fun c9 => ?_)
  · refine kn_iconst (a := 1) C (by decide) dJ16_numberOfTrailingZeros_17 ?_
    refine lv_istore_n (lv' := [(1, .int (nI 1)), (0, .int (nI (2 ^ t - 1)))]) C.hx C.hb dJ16_numberOfTrailingZeros_18 rfl hl1 (Nat.le_of_ble_eq_true rfl) rfl (fun ls2 hl2 => ?_)
    clear hl1
    refine lv_iload_n C.hx C.hb dJ16_numberOfTrailingZeros_19 rfl (lv_at hl2 1 rfl) ?_
    refine lv_ldcw (own := "java/lang/Integer") (v := (nI 65536)) C.hx C.hb C.hown (C.hts _ q1436) dJ16_numberOfTrailingZeros_20 ?_
    refine kn_icmp_le (tgt := 34) C (by omega) (by decide) dJ16_numberOfTrailingZeros_23 (by decide) (fun c23 => ?_) (fun c23 => ?_)
    · refine lv_iload_n C.hx C.hb dJ16_numberOfTrailingZeros_34 rfl (lv_at hl2 1 rfl) ?_
      refine kn_sipush (a := 256) C (by decide) dJ16_numberOfTrailingZeros_35 ?_
      refine kn_icmp_le (tgt := 49) C (by omega) (by decide) dJ16_numberOfTrailingZeros_38 (by decide) (fun c38 => ?_) (fun c38 => ?_)
      · refine lv_iload_n C.hx C.hb dJ16_numberOfTrailingZeros_49 rfl (lv_at hl2 1 rfl) ?_
        refine kn_bipush (a := 16) C (by decide) dJ16_numberOfTrailingZeros_50 ?_
        refine kn_icmp_le (tgt := 62) C (by omega) (by decide) dJ16_numberOfTrailingZeros_52 (by decide) (fun c52 => ?_) (fun c52 => ?_)
        · refine lv_iload_n C.hx C.hb dJ16_numberOfTrailingZeros_62 rfl (lv_at hl2 1 rfl) ?_
          refine kn_iconst (a := 4) C (by decide) dJ16_numberOfTrailingZeros_63 ?_
          refine kn_icmp_le (tgt := 74) C (by omega) (by decide) dJ16_numberOfTrailingZeros_64 (by decide) (fun c64 => ?_) (fun c64 => ?_)
          · refine lv_iload_n C.hx C.hb dJ16_numberOfTrailingZeros_74 rfl (lv_at hl2 0 rfl) ?_
            refine lv_iload_n C.hx C.hb dJ16_numberOfTrailingZeros_75 rfl (lv_at hl2 1 rfl) ?_
            refine kn_iconst (a := 1) C (by decide) dJ16_numberOfTrailingZeros_76 ?_
            refine kn_iushr C (by omega) (by decide) dJ16_numberOfTrailingZeros_77 ?_
            refine kn_iadd C  dJ16_numberOfTrailingZeros_78 ?_
            exact k_iret C hW rfl ⟨congrArg (fun z => some (Value.int z)) ((by decide +kernel : ∀ t, t < 32 → (0 < (2 ^ t - 1) ∧ (2 ^ t - 1) ≤ 65536 ∧ (2 ^ t - 1) ≤ 256 ∧ (2 ^ t - 1) ≤ 16 ∧ (2 ^ t - 1) ≤ 4) → (nI (1 + ((2 ^ t - 1) / 2 ^ 1))) = nI t) t ht ⟨c9, c23, c38, c52, c64⟩), rfl⟩ (Nat.le_refl _) (Nat.le_refl _) dJ16_numberOfTrailingZeros_79
          · refine lv_iinc (lv' := [(1, .int ((nI 1) + (2))), (0, .int (nI (2 ^ t - 1)))]) (k := 0) C.hx C.hb dJ16_numberOfTrailingZeros_67 hl2 rfl rfl (Nat.le_of_ble_eq_true rfl) rfl (fun ls3 hl3 => ?_)
            clear hl2
            refine lv_iload_n C.hx C.hb dJ16_numberOfTrailingZeros_70 rfl (lv_at hl3 1 rfl) ?_
            refine kn_iconst (a := 2) C (by decide) dJ16_numberOfTrailingZeros_71 ?_
            refine kn_iushr C (by omega) (by decide) dJ16_numberOfTrailingZeros_72 ?_
            refine lv_istore_n (lv' := [(0, .int (nI ((2 ^ t - 1) / 2 ^ 2))), (1, .int ((nI 1) + (2)))]) C.hx C.hb dJ16_numberOfTrailingZeros_73 rfl hl3 (Nat.le_of_ble_eq_true rfl) rfl (fun ls4 hl4 => ?_)
            clear hl3
            refine lv_iload_n C.hx C.hb dJ16_numberOfTrailingZeros_74 rfl (lv_at hl4 1 rfl) ?_
            refine lv_iload_n C.hx C.hb dJ16_numberOfTrailingZeros_75 rfl (lv_at hl4 0 rfl) ?_
            refine kn_iconst (a := 1) C (by decide) dJ16_numberOfTrailingZeros_76 ?_
            refine kn_iushr C (by omega) (by decide) dJ16_numberOfTrailingZeros_77 ?_
            refine lv_iadd C.hx C.hb dJ16_numberOfTrailingZeros_78 ?_
            exact k_iret C hW rfl ⟨congrArg (fun z => some (Value.int z)) ((by decide +kernel : ∀ t, t < 32 → (0 < (2 ^ t - 1) ∧ (2 ^ t - 1) ≤ 65536 ∧ (2 ^ t - 1) ≤ 256 ∧ (2 ^ t - 1) ≤ 16 ∧ ¬ ((2 ^ t - 1) ≤ 4)) → (((nI 1) + (2)) + (nI (((2 ^ t - 1) / 2 ^ 2) / 2 ^ 1))) = nI t) t ht ⟨c9, c23, c38, c52, c64⟩), rfl⟩ (Nat.le_refl _) (Nat.le_refl _) dJ16_numberOfTrailingZeros_79
        · refine lv_iinc (lv' := [(1, .int ((nI 1) + (4))), (0, .int (nI (2 ^ t - 1)))]) (k := 0) C.hx C.hb dJ16_numberOfTrailingZeros_55 hl2 rfl rfl (Nat.le_of_ble_eq_true rfl) rfl (fun ls5 hl5 => ?_)
          clear hl2
          refine lv_iload_n C.hx C.hb dJ16_numberOfTrailingZeros_58 rfl (lv_at hl5 1 rfl) ?_
          refine kn_iconst (a := 4) C (by decide) dJ16_numberOfTrailingZeros_59 ?_
          refine kn_iushr C (by omega) (by decide) dJ16_numberOfTrailingZeros_60 ?_
          refine lv_istore_n (lv' := [(0, .int (nI ((2 ^ t - 1) / 2 ^ 4))), (1, .int ((nI 1) + (4)))]) C.hx C.hb dJ16_numberOfTrailingZeros_61 rfl hl5 (Nat.le_of_ble_eq_true rfl) rfl (fun ls6 hl6 => ?_)
          clear hl5
          refine lv_iload_n C.hx C.hb dJ16_numberOfTrailingZeros_62 rfl (lv_at hl6 0 rfl) ?_
          refine kn_iconst (a := 4) C (by decide) dJ16_numberOfTrailingZeros_63 ?_
          refine kn_icmp_le (tgt := 74) C (by omega) (by decide) dJ16_numberOfTrailingZeros_64 (by decide) (fun c64 => ?_) (fun c64 => ?_)
          · refine lv_iload_n C.hx C.hb dJ16_numberOfTrailingZeros_74 rfl (lv_at hl6 1 rfl) ?_
            refine lv_iload_n C.hx C.hb dJ16_numberOfTrailingZeros_75 rfl (lv_at hl6 0 rfl) ?_
            refine kn_iconst (a := 1) C (by decide) dJ16_numberOfTrailingZeros_76 ?_
            refine kn_iushr C (by omega) (by decide) dJ16_numberOfTrailingZeros_77 ?_
            refine lv_iadd C.hx C.hb dJ16_numberOfTrailingZeros_78 ?_
            exact k_iret C hW rfl ⟨congrArg (fun z => some (Value.int z)) ((by decide +kernel : ∀ t, t < 32 → (0 < (2 ^ t - 1) ∧ (2 ^ t - 1) ≤ 65536 ∧ (2 ^ t - 1) ≤ 256 ∧ ¬ ((2 ^ t - 1) ≤ 16) ∧ ((2 ^ t - 1) / 2 ^ 4) ≤ 4) → (((nI 1) + (4)) + (nI (((2 ^ t - 1) / 2 ^ 4) / 2 ^ 1))) = nI t) t ht ⟨c9, c23, c38, c52, c64⟩), rfl⟩ (Nat.le_refl _) (Nat.le_refl _) dJ16_numberOfTrailingZeros_79
          · refine lv_iinc (lv' := [(1, .int (((nI 1) + (4)) + (2))), (0, .int (nI ((2 ^ t - 1) / 2 ^ 4)))]) (k := 1) C.hx C.hb dJ16_numberOfTrailingZeros_67 hl6 rfl rfl (Nat.le_of_ble_eq_true rfl) rfl (fun ls7 hl7 => ?_)
            clear hl6
            refine lv_iload_n C.hx C.hb dJ16_numberOfTrailingZeros_70 rfl (lv_at hl7 1 rfl) ?_
            refine kn_iconst (a := 2) C (by decide) dJ16_numberOfTrailingZeros_71 ?_
            refine kn_iushr C (by omega) (by decide) dJ16_numberOfTrailingZeros_72 ?_
            refine lv_istore_n (lv' := [(0, .int (nI (((2 ^ t - 1) / 2 ^ 4) / 2 ^ 2))), (1, .int (((nI 1) + (4)) + (2)))]) C.hx C.hb dJ16_numberOfTrailingZeros_73 rfl hl7 (Nat.le_of_ble_eq_true rfl) rfl (fun ls8 hl8 => ?_)
            clear hl7
            refine lv_iload_n C.hx C.hb dJ16_numberOfTrailingZeros_74 rfl (lv_at hl8 1 rfl) ?_
            refine lv_iload_n C.hx C.hb dJ16_numberOfTrailingZeros_75 rfl (lv_at hl8 0 rfl) ?_
            refine kn_iconst (a := 1) C (by decide) dJ16_numberOfTrailingZeros_76 ?_
            refine kn_iushr C (by omega) (by decide) dJ16_numberOfTrailingZeros_77 ?_
            refine lv_iadd C.hx C.hb dJ16_numberOfTrailingZeros_78 ?_
            exact k_iret C hW rfl ⟨congrArg (fun z => some (Value.int z)) ((by decide +kernel : ∀ t, t < 32 → (0 < (2 ^ t - 1) ∧ (2 ^ t - 1) ≤ 65536 ∧ (2 ^ t - 1) ≤ 256 ∧ ¬ ((2 ^ t - 1) ≤ 16) ∧ ¬ (((2 ^ t - 1) / 2 ^ 4) ≤ 4)) → ((((nI 1) + (4)) + (2)) + (nI ((((2 ^ t - 1) / 2 ^ 4) / 2 ^ 2) / 2 ^ 1))) = nI t) t ht ⟨c9, c23, c38, c52, c64⟩), rfl⟩ (Nat.le_refl _) (Nat.le_refl _) dJ16_numberOfTrailingZeros_79
      · refine lv_iinc (lv' := [(1, .int ((nI 1) + (8))), (0, .int (nI (2 ^ t - 1)))]) (k := 0) C.hx C.hb dJ16_numberOfTrailingZeros_41 hl2 rfl rfl (Nat.le_of_ble_eq_true rfl) rfl (fun ls9 hl9 => ?_)
        clear hl2
        refine lv_iload_n C.hx C.hb dJ16_numberOfTrailingZeros_44 rfl (lv_at hl9 1 rfl) ?_
        refine kn_bipush (a := 8) C (by decide) dJ16_numberOfTrailingZeros_45 ?_
        refine kn_iushr C (by omega) (by decide) dJ16_numberOfTrailingZeros_47 ?_
        refine lv_istore_n (lv' := [(0, .int (nI ((2 ^ t - 1) / 2 ^ 8))), (1, .int ((nI 1) + (8)))]) C.hx C.hb dJ16_numberOfTrailingZeros_48 rfl hl9 (Nat.le_of_ble_eq_true rfl) rfl (fun ls10 hl10 => ?_)
        clear hl9
        refine lv_iload_n C.hx C.hb dJ16_numberOfTrailingZeros_49 rfl (lv_at hl10 0 rfl) ?_
        refine kn_bipush (a := 16) C (by decide) dJ16_numberOfTrailingZeros_50 ?_
        refine kn_icmp_le (tgt := 62) C (by omega) (by decide) dJ16_numberOfTrailingZeros_52 (by decide) (fun c52 => ?_) (fun c52 => ?_)
        · refine lv_iload_n C.hx C.hb dJ16_numberOfTrailingZeros_62 rfl (lv_at hl10 0 rfl) ?_
          refine kn_iconst (a := 4) C (by decide) dJ16_numberOfTrailingZeros_63 ?_
          refine kn_icmp_le (tgt := 74) C (by omega) (by decide) dJ16_numberOfTrailingZeros_64 (by decide) (fun c64 => ?_) (fun c64 => ?_)
          · refine lv_iload_n C.hx C.hb dJ16_numberOfTrailingZeros_74 rfl (lv_at hl10 1 rfl) ?_
            refine lv_iload_n C.hx C.hb dJ16_numberOfTrailingZeros_75 rfl (lv_at hl10 0 rfl) ?_
            refine kn_iconst (a := 1) C (by decide) dJ16_numberOfTrailingZeros_76 ?_
            refine kn_iushr C (by omega) (by decide) dJ16_numberOfTrailingZeros_77 ?_
            refine lv_iadd C.hx C.hb dJ16_numberOfTrailingZeros_78 ?_
            exact k_iret C hW rfl ⟨congrArg (fun z => some (Value.int z)) ((by decide +kernel : ∀ t, t < 32 → (0 < (2 ^ t - 1) ∧ (2 ^ t - 1) ≤ 65536 ∧ ¬ ((2 ^ t - 1) ≤ 256) ∧ ((2 ^ t - 1) / 2 ^ 8) ≤ 16 ∧ ((2 ^ t - 1) / 2 ^ 8) ≤ 4) → (((nI 1) + (8)) + (nI (((2 ^ t - 1) / 2 ^ 8) / 2 ^ 1))) = nI t) t ht ⟨c9, c23, c38, c52, c64⟩), rfl⟩ (Nat.le_refl _) (Nat.le_refl _) dJ16_numberOfTrailingZeros_79
          · refine lv_iinc (lv' := [(1, .int (((nI 1) + (8)) + (2))), (0, .int (nI ((2 ^ t - 1) / 2 ^ 8)))]) (k := 1) C.hx C.hb dJ16_numberOfTrailingZeros_67 hl10 rfl rfl (Nat.le_of_ble_eq_true rfl) rfl (fun ls11 hl11 => ?_)
            clear hl10
            refine lv_iload_n C.hx C.hb dJ16_numberOfTrailingZeros_70 rfl (lv_at hl11 1 rfl) ?_
            refine kn_iconst (a := 2) C (by decide) dJ16_numberOfTrailingZeros_71 ?_
            refine kn_iushr C (by omega) (by decide) dJ16_numberOfTrailingZeros_72 ?_
            refine lv_istore_n (lv' := [(0, .int (nI (((2 ^ t - 1) / 2 ^ 8) / 2 ^ 2))), (1, .int (((nI 1) + (8)) + (2)))]) C.hx C.hb dJ16_numberOfTrailingZeros_73 rfl hl11 (Nat.le_of_ble_eq_true rfl) rfl (fun ls12 hl12 => ?_)
            clear hl11
            refine lv_iload_n C.hx C.hb dJ16_numberOfTrailingZeros_74 rfl (lv_at hl12 1 rfl) ?_
            refine lv_iload_n C.hx C.hb dJ16_numberOfTrailingZeros_75 rfl (lv_at hl12 0 rfl) ?_
            refine kn_iconst (a := 1) C (by decide) dJ16_numberOfTrailingZeros_76 ?_
            refine kn_iushr C (by omega) (by decide) dJ16_numberOfTrailingZeros_77 ?_
            refine lv_iadd C.hx C.hb dJ16_numberOfTrailingZeros_78 ?_
            exact k_iret C hW rfl ⟨congrArg (fun z => some (Value.int z)) ((by decide +kernel : ∀ t, t < 32 → (0 < (2 ^ t - 1) ∧ (2 ^ t - 1) ≤ 65536 ∧ ¬ ((2 ^ t - 1) ≤ 256) ∧ ((2 ^ t - 1) / 2 ^ 8) ≤ 16 ∧ ¬ (((2 ^ t - 1) / 2 ^ 8) ≤ 4)) → ((((nI 1) + (8)) + (2)) + (nI ((((2 ^ t - 1) / 2 ^ 8) / 2 ^ 2) / 2 ^ 1))) = nI t) t ht ⟨c9, c23, c38, c52, c64⟩), rfl⟩ (Nat.le_refl _) (Nat.le_refl _) dJ16_numberOfTrailingZeros_79
        · refine lv_iinc (lv' := [(1, .int (((nI 1) + (8)) + (4))), (0, .int (nI ((2 ^ t - 1) / 2 ^ 8)))]) (k := 1) C.hx C.hb dJ16_numberOfTrailingZeros_55 hl10 rfl rfl (Nat.le_of_ble_eq_true rfl) rfl (fun ls13 hl13 => ?_)
          clear hl10
          refine lv_iload_n C.hx C.hb dJ16_numberOfTrailingZeros_58 rfl (lv_at hl13 1 rfl) ?_
          refine kn_iconst (a := 4) C (by decide) dJ16_numberOfTrailingZeros_59 ?_
          refine kn_iushr C (by omega) (by decide) dJ16_numberOfTrailingZeros_60 ?_
          refine lv_istore_n (lv' := [(0, .int (nI (((2 ^ t - 1) / 2 ^ 8) / 2 ^ 4))), (1, .int (((nI 1) + (8)) + (4)))]) C.hx C.hb dJ16_numberOfTrailingZeros_61 rfl hl13 (Nat.le_of_ble_eq_true rfl) rfl (fun ls14 hl14 => ?_)
          clear hl13
          refine lv_iload_n C.hx C.hb dJ16_numberOfTrailingZeros_62 rfl (lv_at hl14 0 rfl) ?_
          refine kn_iconst (a := 4) C (by decide) dJ16_numberOfTrailingZeros_63 ?_
          refine kn_icmp_le (tgt := 74) C (by omega) (by decide) dJ16_numberOfTrailingZeros_64 (by decide) (fun c64 => ?_) (fun c64 => ?_)
          · refine lv_iload_n C.hx C.hb dJ16_numberOfTrailingZeros_74 rfl (lv_at hl14 1 rfl) ?_
            refine lv_iload_n C.hx C.hb dJ16_numberOfTrailingZeros_75 rfl (lv_at hl14 0 rfl) ?_
            refine kn_iconst (a := 1) C (by decide) dJ16_numberOfTrailingZeros_76 ?_
            refine kn_iushr C (by omega) (by decide) dJ16_numberOfTrailingZeros_77 ?_
            refine lv_iadd C.hx C.hb dJ16_numberOfTrailingZeros_78 ?_
            exact k_iret C hW rfl ⟨congrArg (fun z => some (Value.int z)) ((by decide +kernel : ∀ t, t < 32 → (0 < (2 ^ t - 1) ∧ (2 ^ t - 1) ≤ 65536 ∧ ¬ ((2 ^ t - 1) ≤ 256) ∧ ¬ (((2 ^ t - 1) / 2 ^ 8) ≤ 16) ∧ (((2 ^ t - 1) / 2 ^ 8) / 2 ^ 4) ≤ 4) → ((((nI 1) + (8)) + (4)) + (nI ((((2 ^ t - 1) / 2 ^ 8) / 2 ^ 4) / 2 ^ 1))) = nI t) t ht ⟨c9, c23, c38, c52, c64⟩), rfl⟩ (Nat.le_refl _) (Nat.le_refl _) dJ16_numberOfTrailingZeros_79
          · refine lv_iinc (lv' := [(1, .int ((((nI 1) + (8)) + (4)) + (2))), (0, .int (nI (((2 ^ t - 1) / 2 ^ 8) / 2 ^ 4)))]) (k := 1) C.hx C.hb dJ16_numberOfTrailingZeros_67 hl14 rfl rfl (Nat.le_of_ble_eq_true rfl) rfl (fun ls15 hl15 => ?_)
            clear hl14
            refine lv_iload_n C.hx C.hb dJ16_numberOfTrailingZeros_70 rfl (lv_at hl15 1 rfl) ?_
            refine kn_iconst (a := 2) C (by decide) dJ16_numberOfTrailingZeros_71 ?_
            refine kn_iushr C (by omega) (by decide) dJ16_numberOfTrailingZeros_72 ?_
            refine lv_istore_n (lv' := [(0, .int (nI ((((2 ^ t - 1) / 2 ^ 8) / 2 ^ 4) / 2 ^ 2))), (1, .int ((((nI 1) + (8)) + (4)) + (2)))]) C.hx C.hb dJ16_numberOfTrailingZeros_73 rfl hl15 (Nat.le_of_ble_eq_true rfl) rfl (fun ls16 hl16 => ?_)
            clear hl15
            refine lv_iload_n C.hx C.hb dJ16_numberOfTrailingZeros_74 rfl (lv_at hl16 1 rfl) ?_
            refine lv_iload_n C.hx C.hb dJ16_numberOfTrailingZeros_75 rfl (lv_at hl16 0 rfl) ?_
            refine kn_iconst (a := 1) C (by decide) dJ16_numberOfTrailingZeros_76 ?_
            refine kn_iushr C (by omega) (by decide) dJ16_numberOfTrailingZeros_77 ?_
            refine lv_iadd C.hx C.hb dJ16_numberOfTrailingZeros_78 ?_
            exact k_iret C hW rfl ⟨congrArg (fun z => some (Value.int z)) ((by decide +kernel : ∀ t, t < 32 → (0 < (2 ^ t - 1) ∧ (2 ^ t - 1) ≤ 65536 ∧ ¬ ((2 ^ t - 1) ≤ 256) ∧ ¬ (((2 ^ t - 1) / 2 ^ 8) ≤ 16) ∧ ¬ ((((2 ^ t - 1) / 2 ^ 8) / 2 ^ 4) ≤ 4)) → (((((nI 1) + (8)) + (4)) + (2)) + (nI (((((2 ^ t - 1) / 2 ^ 8) / 2 ^ 4) / 2 ^ 2) / 2 ^ 1))) = nI t) t ht ⟨c9, c23, c38, c52, c64⟩), rfl⟩ (Nat.le_refl _) (Nat.le_refl _) dJ16_numberOfTrailingZeros_79
    · refine lv_iinc (lv' := [(1, .int ((nI 1) + (16))), (0, .int (nI (2 ^ t - 1)))]) (k := 0) C.hx C.hb dJ16_numberOfTrailingZeros_26 hl2 rfl rfl (Nat.le_of_ble_eq_true rfl) rfl (fun ls17 hl17 => ?_)
      clear hl2
      refine lv_iload_n C.hx C.hb dJ16_numberOfTrailingZeros_29 rfl (lv_at hl17 1 rfl) ?_
      refine kn_bipush (a := 16) C (by decide) dJ16_numberOfTrailingZeros_30 ?_
      refine kn_iushr C (by omega) (by decide) dJ16_numberOfTrailingZeros_32 ?_
      refine lv_istore_n (lv' := [(0, .int (nI ((2 ^ t - 1) / 2 ^ 16))), (1, .int ((nI 1) + (16)))]) C.hx C.hb dJ16_numberOfTrailingZeros_33 rfl hl17 (Nat.le_of_ble_eq_true rfl) rfl (fun ls18 hl18 => ?_)
      clear hl17
      refine lv_iload_n C.hx C.hb dJ16_numberOfTrailingZeros_34 rfl (lv_at hl18 0 rfl) ?_
      refine kn_sipush (a := 256) C (by decide) dJ16_numberOfTrailingZeros_35 ?_
      refine kn_icmp_le (tgt := 49) C (by omega) (by decide) dJ16_numberOfTrailingZeros_38 (by decide) (fun c38 => ?_) (fun c38 => ?_)
      · refine lv_iload_n C.hx C.hb dJ16_numberOfTrailingZeros_49 rfl (lv_at hl18 0 rfl) ?_
        refine kn_bipush (a := 16) C (by decide) dJ16_numberOfTrailingZeros_50 ?_
        refine kn_icmp_le (tgt := 62) C (by omega) (by decide) dJ16_numberOfTrailingZeros_52 (by decide) (fun c52 => ?_) (fun c52 => ?_)
        · refine lv_iload_n C.hx C.hb dJ16_numberOfTrailingZeros_62 rfl (lv_at hl18 0 rfl) ?_
          refine kn_iconst (a := 4) C (by decide) dJ16_numberOfTrailingZeros_63 ?_
          refine kn_icmp_le (tgt := 74) C (by omega) (by decide) dJ16_numberOfTrailingZeros_64 (by decide) (fun c64 => ?_) (fun c64 => ?_)
          · refine lv_iload_n C.hx C.hb dJ16_numberOfTrailingZeros_74 rfl (lv_at hl18 1 rfl) ?_
            refine lv_iload_n C.hx C.hb dJ16_numberOfTrailingZeros_75 rfl (lv_at hl18 0 rfl) ?_
            refine kn_iconst (a := 1) C (by decide) dJ16_numberOfTrailingZeros_76 ?_
            refine kn_iushr C (by omega) (by decide) dJ16_numberOfTrailingZeros_77 ?_
            refine lv_iadd C.hx C.hb dJ16_numberOfTrailingZeros_78 ?_
            exact k_iret C hW rfl ⟨congrArg (fun z => some (Value.int z)) ((by decide +kernel : ∀ t, t < 32 → (0 < (2 ^ t - 1) ∧ ¬ ((2 ^ t - 1) ≤ 65536) ∧ ((2 ^ t - 1) / 2 ^ 16) ≤ 256 ∧ ((2 ^ t - 1) / 2 ^ 16) ≤ 16 ∧ ((2 ^ t - 1) / 2 ^ 16) ≤ 4) → (((nI 1) + (16)) + (nI (((2 ^ t - 1) / 2 ^ 16) / 2 ^ 1))) = nI t) t ht ⟨c9, c23, c38, c52, c64⟩), rfl⟩ (Nat.le_refl _) (Nat.le_refl _) dJ16_numberOfTrailingZeros_79
          · refine lv_iinc (lv' := [(1, .int (((nI 1) + (16)) + (2))), (0, .int (nI ((2 ^ t - 1) / 2 ^ 16)))]) (k := 1) C.hx C.hb dJ16_numberOfTrailingZeros_67 hl18 rfl rfl (Nat.le_of_ble_eq_true rfl) rfl (fun ls19 hl19 => ?_)
            clear hl18
            refine lv_iload_n C.hx C.hb dJ16_numberOfTrailingZeros_70 rfl (lv_at hl19 1 rfl) ?_
            refine kn_iconst (a := 2) C (by decide) dJ16_numberOfTrailingZeros_71 ?_
            refine kn_iushr C (by omega) (by decide) dJ16_numberOfTrailingZeros_72 ?_
            refine lv_istore_n (lv' := [(0, .int (nI (((2 ^ t - 1) / 2 ^ 16) / 2 ^ 2))), (1, .int (((nI 1) + (16)) + (2)))]) C.hx C.hb dJ16_numberOfTrailingZeros_73 rfl hl19 (Nat.le_of_ble_eq_true rfl) rfl (fun ls20 hl20 => ?_)
            clear hl19
            refine lv_iload_n C.hx C.hb dJ16_numberOfTrailingZeros_74 rfl (lv_at hl20 1 rfl) ?_
            refine lv_iload_n C.hx C.hb dJ16_numberOfTrailingZeros_75 rfl (lv_at hl20 0 rfl) ?_
            refine kn_iconst (a := 1) C (by decide) dJ16_numberOfTrailingZeros_76 ?_
            refine kn_iushr C (by omega) (by decide) dJ16_numberOfTrailingZeros_77 ?_
            refine lv_iadd C.hx C.hb dJ16_numberOfTrailingZeros_78 ?_
            exact k_iret C hW rfl ⟨congrArg (fun z => some (Value.int z)) ((by decide +kernel : ∀ t, t < 32 → (0 < (2 ^ t - 1) ∧ ¬ ((2 ^ t - 1) ≤ 65536) ∧ ((2 ^ t - 1) / 2 ^ 16) ≤ 256 ∧ ((2 ^ t - 1) / 2 ^ 16) ≤ 16 ∧ ¬ (((2 ^ t - 1) / 2 ^ 16) ≤ 4)) → ((((nI 1) + (16)) + (2)) + (nI ((((2 ^ t - 1) / 2 ^ 16) / 2 ^ 2) / 2 ^ 1))) = nI t) t ht ⟨c9, c23, c38, c52, c64⟩), rfl⟩ (Nat.le_refl _) (Nat.le_refl _) dJ16_numberOfTrailingZeros_79
        · refine lv_iinc (lv' := [(1, .int (((nI 1) + (16)) + (4))), (0, .int (nI ((2 ^ t - 1) / 2 ^ 16)))]) (k := 1) C.hx C.hb dJ16_numberOfTrailingZeros_55 hl18 rfl rfl (Nat.le_of_ble_eq_true rfl) rfl (fun ls21 hl21 => ?_)
          clear hl18
          refine lv_iload_n C.hx C.hb dJ16_numberOfTrailingZeros_58 rfl (lv_at hl21 1 rfl) ?_
          refine kn_iconst (a := 4) C (by decide) dJ16_numberOfTrailingZeros_59 ?_
          refine kn_iushr C (by omega) (by decide) dJ16_numberOfTrailingZeros_60 ?_
          refine lv_istore_n (lv' := [(0, .int (nI (((2 ^ t - 1) / 2 ^ 16) / 2 ^ 4))), (1, .int (((nI 1) + (16)) + (4)))]) C.hx C.hb dJ16_numberOfTrailingZeros_61 rfl hl21 (Nat.le_of_ble_eq_true rfl) rfl (fun ls22 hl22 => ?_)
          clear hl21
          refine lv_iload_n C.hx C.hb dJ16_numberOfTrailingZeros_62 rfl (lv_at hl22 0 rfl) ?_
          refine kn_iconst (a := 4) C (by decide) dJ16_numberOfTrailingZeros_63 ?_
          refine kn_icmp_le (tgt := 74) C (by omega) (by decide) dJ16_numberOfTrailingZeros_64 (by decide) (fun c64 => ?_) (fun c64 => ?_)
          · refine lv_iload_n C.hx C.hb dJ16_numberOfTrailingZeros_74 rfl (lv_at hl22 1 rfl) ?_
            refine lv_iload_n C.hx C.hb dJ16_numberOfTrailingZeros_75 rfl (lv_at hl22 0 rfl) ?_
            refine kn_iconst (a := 1) C (by decide) dJ16_numberOfTrailingZeros_76 ?_
            refine kn_iushr C (by omega) (by decide) dJ16_numberOfTrailingZeros_77 ?_
            refine lv_iadd C.hx C.hb dJ16_numberOfTrailingZeros_78 ?_
            exact k_iret C hW rfl ⟨congrArg (fun z => some (Value.int z)) ((by decide +kernel : ∀ t, t < 32 → (0 < (2 ^ t - 1) ∧ ¬ ((2 ^ t - 1) ≤ 65536) ∧ ((2 ^ t - 1) / 2 ^ 16) ≤ 256 ∧ ¬ (((2 ^ t - 1) / 2 ^ 16) ≤ 16) ∧ (((2 ^ t - 1) / 2 ^ 16) / 2 ^ 4) ≤ 4) → ((((nI 1) + (16)) + (4)) + (nI ((((2 ^ t - 1) / 2 ^ 16) / 2 ^ 4) / 2 ^ 1))) = nI t) t ht ⟨c9, c23, c38, c52, c64⟩), rfl⟩ (Nat.le_refl _) (Nat.le_refl _) dJ16_numberOfTrailingZeros_79
          · refine lv_iinc (lv' := [(1, .int ((((nI 1) + (16)) + (4)) + (2))), (0, .int (nI (((2 ^ t - 1) / 2 ^ 16) / 2 ^ 4)))]) (k := 1) C.hx C.hb dJ16_numberOfTrailingZeros_67 hl22 rfl rfl (Nat.le_of_ble_eq_true rfl) rfl (fun ls23 hl23 => ?_)
            clear hl22
            refine lv_iload_n C.hx C.hb dJ16_numberOfTrailingZeros_70 rfl (lv_at hl23 1 rfl) ?_
            refine kn_iconst (a := 2) C (by decide) dJ16_numberOfTrailingZeros_71 ?_
            refine kn_iushr C (by omega) (by decide) dJ16_numberOfTrailingZeros_72 ?_
            refine lv_istore_n (lv' := [(0, .int (nI ((((2 ^ t - 1) / 2 ^ 16) / 2 ^ 4) / 2 ^ 2))), (1, .int ((((nI 1) + (16)) + (4)) + (2)))]) C.hx C.hb dJ16_numberOfTrailingZeros_73 rfl hl23 (Nat.le_of_ble_eq_true rfl) rfl (fun ls24 hl24 => ?_)
            clear hl23
            refine lv_iload_n C.hx C.hb dJ16_numberOfTrailingZeros_74 rfl (lv_at hl24 1 rfl) ?_
            refine lv_iload_n C.hx C.hb dJ16_numberOfTrailingZeros_75 rfl (lv_at hl24 0 rfl) ?_
            refine kn_iconst (a := 1) C (by decide) dJ16_numberOfTrailingZeros_76 ?_
            refine kn_iushr C (by omega) (by decide) dJ16_numberOfTrailingZeros_77 ?_
            refine lv_iadd C.hx C.hb dJ16_numberOfTrailingZeros_78 ?_
            exact k_iret C hW rfl ⟨congrArg (fun z => some (Value.int z)) ((by decide +kernel : ∀ t, t < 32 → (0 < (2 ^ t - 1) ∧ ¬ ((2 ^ t - 1) ≤ 65536) ∧ ((2 ^ t - 1) / 2 ^ 16) ≤ 256 ∧ ¬ (((2 ^ t - 1) / 2 ^ 16) ≤ 16) ∧ ¬ ((((2 ^ t - 1) / 2 ^ 16) / 2 ^ 4) ≤ 4)) → (((((nI 1) + (16)) + (4)) + (2)) + (nI (((((2 ^ t - 1) / 2 ^ 16) / 2 ^ 4) / 2 ^ 2) / 2 ^ 1))) = nI t) t ht ⟨c9, c23, c38, c52, c64⟩), rfl⟩ (Nat.le_refl _) (Nat.le_refl _) dJ16_numberOfTrailingZeros_79
      · refine lv_iinc (lv' := [(1, .int (((nI 1) + (16)) + (8))), (0, .int (nI ((2 ^ t - 1) / 2 ^ 16)))]) (k := 1) C.hx C.hb dJ16_numberOfTrailingZeros_41 hl18 rfl rfl (Nat.le_of_ble_eq_true rfl) rfl (fun ls25 hl25 => ?_)
        clear hl18
        refine lv_iload_n C.hx C.hb dJ16_numberOfTrailingZeros_44 rfl (lv_at hl25 1 rfl) ?_
        refine kn_bipush (a := 8) C (by decide) dJ16_numberOfTrailingZeros_45 ?_
        refine kn_iushr C (by omega) (by decide) dJ16_numberOfTrailingZeros_47 ?_
        refine lv_istore_n (lv' := [(0, .int (nI (((2 ^ t - 1) / 2 ^ 16) / 2 ^ 8))), (1, .int (((nI 1) + (16)) + (8)))]) C.hx C.hb dJ16_numberOfTrailingZeros_48 rfl hl25 (Nat.le_of_ble_eq_true rfl) rfl (fun ls26 hl26 => ?_)
        clear hl25
        refine lv_iload_n C.hx C.hb dJ16_numberOfTrailingZeros_49 rfl (lv_at hl26 0 rfl) ?_
        refine kn_bipush (a := 16) C (by decide) dJ16_numberOfTrailingZeros_50 ?_
        refine kn_icmp_le (tgt := 62) C (by omega) (by decide) dJ16_numberOfTrailingZeros_52 (by decide) (fun c52 => ?_) (fun c52 => ?_)
        · refine lv_iload_n C.hx C.hb dJ16_numberOfTrailingZeros_62 rfl (lv_at hl26 0 rfl) ?_
          refine kn_iconst (a := 4) C (by decide) dJ16_numberOfTrailingZeros_63 ?_
          refine kn_icmp_le (tgt := 74) C (by omega) (by decide) dJ16_numberOfTrailingZeros_64 (by decide) (fun c64 => ?_) (fun c64 => ?_)
          · refine lv_iload_n C.hx C.hb dJ16_numberOfTrailingZeros_74 rfl (lv_at hl26 1 rfl) ?_
            refine lv_iload_n C.hx C.hb dJ16_numberOfTrailingZeros_75 rfl (lv_at hl26 0 rfl) ?_
            refine kn_iconst (a := 1) C (by decide) dJ16_numberOfTrailingZeros_76 ?_
            refine kn_iushr C (by omega) (by decide) dJ16_numberOfTrailingZeros_77 ?_
            refine lv_iadd C.hx C.hb dJ16_numberOfTrailingZeros_78 ?_
            exact k_iret C hW rfl ⟨congrArg (fun z => some (Value.int z)) ((by decide +kernel : ∀ t, t < 32 → (0 < (2 ^ t - 1) ∧ ¬ ((2 ^ t - 1) ≤ 65536) ∧ ¬ (((2 ^ t - 1) / 2 ^ 16) ≤ 256) ∧ (((2 ^ t - 1) / 2 ^ 16) / 2 ^ 8) ≤ 16 ∧ (((2 ^ t - 1) / 2 ^ 16) / 2 ^ 8) ≤ 4) → ((((nI 1) + (16)) + (8)) + (nI ((((2 ^ t - 1) / 2 ^ 16) / 2 ^ 8) / 2 ^ 1))) = nI t) t ht ⟨c9, c23, c38, c52, c64⟩), rfl⟩ (Nat.le_refl _) (Nat.le_refl _) dJ16_numberOfTrailingZeros_79
          · refine lv_iinc (lv' := [(1, .int ((((nI 1) + (16)) + (8)) + (2))), (0, .int (nI (((2 ^ t - 1) / 2 ^ 16) / 2 ^ 8)))]) (k := 1) C.hx C.hb dJ16_numberOfTrailingZeros_67 hl26 rfl rfl (Nat.le_of_ble_eq_true rfl) rfl (fun ls27 hl27 => ?_)
            clear hl26
            refine lv_iload_n C.hx C.hb dJ16_numberOfTrailingZeros_70 rfl (lv_at hl27 1 rfl) ?_
            refine kn_iconst (a := 2) C (by decide) dJ16_numberOfTrailingZeros_71 ?_
            refine kn_iushr C (by omega) (by decide) dJ16_numberOfTrailingZeros_72 ?_
            refine lv_istore_n (lv' := [(0, .int (nI ((((2 ^ t - 1) / 2 ^ 16) / 2 ^ 8) / 2 ^ 2))), (1, .int ((((nI 1) + (16)) + (8)) + (2)))]) C.hx C.hb dJ16_numberOfTrailingZeros_73 rfl hl27 (Nat.le_of_ble_eq_true rfl) rfl (fun ls28 hl28 => ?_)
            clear hl27
            refine lv_iload_n C.hx C.hb dJ16_numberOfTrailingZeros_74 rfl (lv_at hl28 1 rfl) ?_
            refine lv_iload_n C.hx C.hb dJ16_numberOfTrailingZeros_75 rfl (lv_at hl28 0 rfl) ?_
            refine kn_iconst (a := 1) C (by decide) dJ16_numberOfTrailingZeros_76 ?_
            refine kn_iushr C (by omega) (by decide) dJ16_numberOfTrailingZeros_77 ?_
            refine lv_iadd C.hx C.hb dJ16_numberOfTrailingZeros_78 ?_
            exact k_iret C hW rfl ⟨congrArg (fun z => some (Value.int z)) ((by decide +kernel : ∀ t, t < 32 → (0 < (2 ^ t - 1) ∧ ¬ ((2 ^ t - 1) ≤ 65536) ∧ ¬ (((2 ^ t - 1) / 2 ^ 16) ≤ 256) ∧ (((2 ^ t - 1) / 2 ^ 16) / 2 ^ 8) ≤ 16 ∧ ¬ ((((2 ^ t - 1) / 2 ^ 16) / 2 ^ 8) ≤ 4)) → (((((nI 1) + (16)) + (8)) + (2)) + (nI (((((2 ^ t - 1) / 2 ^ 16) / 2 ^ 8) / 2 ^ 2) / 2 ^ 1))) = nI t) t ht ⟨c9, c23, c38, c52, c64⟩), rfl⟩ (Nat.le_refl _) (Nat.le_refl _) dJ16_numberOfTrailingZeros_79
        · refine lv_iinc (lv' := [(1, .int ((((nI 1) + (16)) + (8)) + (4))), (0, .int (nI (((2 ^ t - 1) / 2 ^ 16) / 2 ^ 8)))]) (k := 1) C.hx C.hb dJ16_numberOfTrailingZeros_55 hl26 rfl rfl (Nat.le_of_ble_eq_true rfl) rfl (fun ls29 hl29 => ?_)
          clear hl26
          refine lv_iload_n C.hx C.hb dJ16_numberOfTrailingZeros_58 rfl (lv_at hl29 1 rfl) ?_
          refine kn_iconst (a := 4) C (by decide) dJ16_numberOfTrailingZeros_59 ?_
          refine kn_iushr C (by omega) (by decide) dJ16_numberOfTrailingZeros_60 ?_
          refine lv_istore_n (lv' := [(0, .int (nI ((((2 ^ t - 1) / 2 ^ 16) / 2 ^ 8) / 2 ^ 4))), (1, .int ((((nI 1) + (16)) + (8)) + (4)))]) C.hx C.hb dJ16_numberOfTrailingZeros_61 rfl hl29 (Nat.le_of_ble_eq_true rfl) rfl (fun ls30 hl30 => ?_)
          clear hl29
          refine lv_iload_n C.hx C.hb dJ16_numberOfTrailingZeros_62 rfl (lv_at hl30 0 rfl) ?_
          refine kn_iconst (a := 4) C (by decide) dJ16_numberOfTrailingZeros_63 ?_
          refine kn_icmp_le (tgt := 74) C (by omega) (by decide) dJ16_numberOfTrailingZeros_64 (by decide) (fun c64 => ?_) (fun c64 => ?_)
          · refine lv_iload_n C.hx C.hb dJ16_numberOfTrailingZeros_74 rfl (lv_at hl30 1 rfl) ?_
            refine lv_iload_n C.hx C.hb dJ16_numberOfTrailingZeros_75 rfl (lv_at hl30 0 rfl) ?_
            refine kn_iconst (a := 1) C (by decide) dJ16_numberOfTrailingZeros_76 ?_
            refine kn_iushr C (by omega) (by decide) dJ16_numberOfTrailingZeros_77 ?_
            refine lv_iadd C.hx C.hb dJ16_numberOfTrailingZeros_78 ?_
            exact k_iret C hW rfl ⟨congrArg (fun z => some (Value.int z)) ((by decide +kernel : ∀ t, t < 32 → (0 < (2 ^ t - 1) ∧ ¬ ((2 ^ t - 1) ≤ 65536) ∧ ¬ (((2 ^ t - 1) / 2 ^ 16) ≤ 256) ∧ ¬ ((((2 ^ t - 1) / 2 ^ 16) / 2 ^ 8) ≤ 16) ∧ ((((2 ^ t - 1) / 2 ^ 16) / 2 ^ 8) / 2 ^ 4) ≤ 4) → (((((nI 1) + (16)) + (8)) + (4)) + (nI (((((2 ^ t - 1) / 2 ^ 16) / 2 ^ 8) / 2 ^ 4) / 2 ^ 1))) = nI t) t ht ⟨c9, c23, c38, c52, c64⟩), rfl⟩ (Nat.le_refl _) (Nat.le_refl _) dJ16_numberOfTrailingZeros_79
          · refine lv_iinc (lv' := [(1, .int (((((nI 1) + (16)) + (8)) + (4)) + (2))), (0, .int (nI ((((2 ^ t - 1) / 2 ^ 16) / 2 ^ 8) / 2 ^ 4)))]) (k := 1) C.hx C.hb dJ16_numberOfTrailingZeros_67 hl30 rfl rfl (Nat.le_of_ble_eq_true rfl) rfl (fun ls31 hl31 => ?_)
            clear hl30
            refine lv_iload_n C.hx C.hb dJ16_numberOfTrailingZeros_70 rfl (lv_at hl31 1 rfl) ?_
            refine kn_iconst (a := 2) C (by decide) dJ16_numberOfTrailingZeros_71 ?_
            refine kn_iushr C (by omega) (by decide) dJ16_numberOfTrailingZeros_72 ?_
            refine lv_istore_n (lv' := [(0, .int (nI (((((2 ^ t - 1) / 2 ^ 16) / 2 ^ 8) / 2 ^ 4) / 2 ^ 2))), (1, .int (((((nI 1) + (16)) + (8)) + (4)) + (2)))]) C.hx C.hb dJ16_numberOfTrailingZeros_73 rfl hl31 (Nat.le_of_ble_eq_true rfl) rfl (fun ls32 hl32 => ?_)
            clear hl31
            refine lv_iload_n C.hx C.hb dJ16_numberOfTrailingZeros_74 rfl (lv_at hl32 1 rfl) ?_
            refine lv_iload_n C.hx C.hb dJ16_numberOfTrailingZeros_75 rfl (lv_at hl32 0 rfl) ?_
            refine kn_iconst (a := 1) C (by decide) dJ16_numberOfTrailingZeros_76 ?_
            refine kn_iushr C (by omega) (by decide) dJ16_numberOfTrailingZeros_77 ?_
            refine lv_iadd C.hx C.hb dJ16_numberOfTrailingZeros_78 ?_
            exact k_iret C hW rfl ⟨congrArg (fun z => some (Value.int z)) ((by decide +kernel : ∀ t, t < 32 → (0 < (2 ^ t - 1) ∧ ¬ ((2 ^ t - 1) ≤ 65536) ∧ ¬ (((2 ^ t - 1) / 2 ^ 16) ≤ 256) ∧ ¬ ((((2 ^ t - 1) / 2 ^ 16) / 2 ^ 8) ≤ 16) ∧ ¬ (((((2 ^ t - 1) / 2 ^ 16) / 2 ^ 8) / 2 ^ 4) ≤ 4)) → ((((((nI 1) + (16)) + (8)) + (4)) + (2)) + (nI ((((((2 ^ t - 1) / 2 ^ 16) / 2 ^ 8) / 2 ^ 4) / 2 ^ 2) / 2 ^ 1))) = nI t) t ht ⟨c9, c23, c38, c52, c64⟩), rfl⟩ (Nat.le_refl _) (Nat.le_refl _) dJ16_numberOfTrailingZeros_79
  · refine lv_iload_n C.hx C.hb dJ16_numberOfTrailingZeros_12 rfl (lv_at hl1 0 rfl) ?_
    refine kn_bipush (a := 32) C (by decide) dJ16_numberOfTrailingZeros_13 ?_
    refine kn_iand C dJ16_numberOfTrailingZeros_15 ?_
    exact k_iret C hW rfl ⟨congrArg (fun z => some (Value.int z)) ((by decide +kernel : ∀ t, t < 32 → 2 ^ t - 1 = 0 → (nI ((2 ^ t - 1) &&& 32)) = nI t) t ht c9), rfl⟩ (Nat.le_refl _) (Nat.le_refl _) dJ16_numberOfTrailingZeros_16

def Q_ctJ23_ntz_lo (G : GT) (x t : Nat) : Option Value → List va_W → Prop := fun v S1 => v = some (.int (nI t)) ∧ S1 = []
set_option maxHeartbeats 4000000 in
set_option maxRecDepth 100000 in
theorem ctJ23_ntz_lo (l : Launch) (G : GT) (x t : Nat) (ht : t < 32) (h1 : Low1 x t) : Ct l G yJ23_numberOfTrailingZeros cJ23_numberOfTrailingZeros 3 (some .int) 1 21 0 0 [.long (lN x)] ([]) noR (Q_ctJ23_ntz_lo G x t) := by
  refine Ct.of (by decide +kernel) (Nat.le_of_ble_eq_true rfl) ?_
  intro p e s m below meth c A ls C hW hRo hl
  have hl : lv_has ls 3 [(0, .long (lN x))] := hl
  refine lv_lload_n C.hx C.hb dJ23_numberOfTrailingZeros_0 rfl (lv_at hl 0 rfl) ?_
  refine kn_l2i C dJ23_numberOfTrailingZeros_1 ?_
  refine k_op (y := .int (Int32.ofNat x)) rfl ?_
  refine lv_istore_n (lv' := [(2, .int (Int32.ofNat x)), (0, .long (lN x))]) C.hx C.hb dJ23_numberOfTrailingZeros_2 rfl hl (Nat.le_of_ble_eq_true rfl) rfl (fun ls1 hl1 => ?_)
  clear hl
  refine lv_iload_n C.hx C.hb dJ23_numberOfTrailingZeros_3 rfl (lv_at hl1 0 rfl) ?_
  refine lv_if_ne (tgt := 21) C.hx C.hb dJ23_numberOfTrailingZeros_4 (by decide) (fun c4 => ?_) (fun c4 => (absurd (show nI (x % 2 ^ 32) = nI 0 from (nI_mod x).trans c4) (fun q => absurd ((nI_eq32 (Nat.mod_lt _ (by decide)) (by decide)).mp q) (Nat.ne_of_gt (h1.mod ht).pos))))
  refine lv_iload_n C.hx C.hb dJ23_numberOfTrailingZeros_21 rfl (lv_at hl1 0 rfl) ?_
  refine k_op (y := .int (nI (x % 2 ^ 32))) (congrArg Value.int (nI_mod x).symm) ?_
  refine k_callS (Sc := []) (Sr := []) (As := [.int (nI (x % 2 ^ 32))]) (rest := []) C (ctJ16_numberOfTrailingZeros l G (x % 2 ^ 32) t (Nat.mod_lt _ (by decide)) ht (h1.mod ht)) hW q1442 q1443 q92 q1444 rfl ⟨by decide, by decide, Eq.trans (b := some 1) (by decide +kernel) rfl⟩ (Nat.le_of_ble_eq_true rfl) (Nat.le_of_ble_eq_true rfl) (Nat.le_refl _) (Nat.le_refl _) hl1.1 rfl (Nat.le_of_ble_eq_true rfl) dJ23_numberOfTrailingZeros_22 (k_permR _) (fun _ h => h.elim) (fun v H2 locs2 S1 hQ hz2 hW2 => ?_)
  obtain ⟨rfl, rfl⟩ := hQ
  have hW2 : Ws G A s ([]) H2 locs2 := hW2
  clear hW
  refine W.eq (g2 := F0 m 25 ls1 [.int (nI t)]) rfl ?_
  exact k_iret C hW2 rfl ⟨rfl, rfl⟩ (Nat.le_refl _) (Nat.le_refl _) dJ23_numberOfTrailingZeros_25

def Q_ctJ23_ntz_hi (G : GT) (x t : Nat) : Option Value → List va_W → Prop := fun v S1 => v = some (.int (nI t)) ∧ S1 = []
set_option maxHeartbeats 4000000 in
set_option maxRecDepth 100000 in
theorem ctJ23_ntz_hi (l : Launch) (G : GT) (x t : Nat) (hx : x < 2 ^ 64) (h32 : 32 ≤ t) (ht : t < 64) (h1 : Low1 x t) : Ct l G yJ23_numberOfTrailingZeros cJ23_numberOfTrailingZeros 3 (some .int) 1 21 0 0 [.long (lN x)] ([]) noR (Q_ctJ23_ntz_hi G x t) := by
  refine Ct.of (by decide +kernel) (Nat.le_of_ble_eq_true rfl) ?_
  intro p e s m below meth c A ls C hW hRo hl
  have hl : lv_has ls 3 [(0, .long (lN x))] := hl
  refine lv_lload_n C.hx C.hb dJ23_numberOfTrailingZeros_0 rfl (lv_at hl 0 rfl) ?_
  refine kn_l2i C dJ23_numberOfTrailingZeros_1 ?_
  refine k_op (y := .int (Int32.ofNat x)) rfl ?_
  refine lv_istore_n (lv' := [(2, .int (Int32.ofNat x)), (0, .long (lN x))]) C.hx C.hb dJ23_numberOfTrailingZeros_2 rfl hl (Nat.le_of_ble_eq_true rfl) rfl (fun ls1 hl1 => ?_)
  clear hl
  refine lv_iload_n C.hx C.hb dJ23_numberOfTrailingZeros_3 rfl (lv_at hl1 0 rfl) ?_
  refine lv_if_ne (tgt := 21) C.hx C.hb dJ23_numberOfTrailingZeros_4 (by decide) (fun c4 => (absurd (show nI x = 0 from (nI_mod x).symm.trans (by rw [(h1.div h32).2]; rfl)) c4)) (fun c4 => ?_)
  refine kn_bipush (a := 32) C (by decide) dJ23_numberOfTrailingZeros_7 ?_
  refine lv_lload_n C.hx C.hb dJ23_numberOfTrailingZeros_9 rfl (lv_at hl1 1 rfl) ?_
  refine kn_bipush (a := 32) C (by decide) dJ23_numberOfTrailingZeros_10 ?_
  refine kn_lushr C hx (by decide) dJ23_numberOfTrailingZeros_12 ?_
  refine kn_l2i C dJ23_numberOfTrailingZeros_13 ?_
  refine k_callS (Sc := []) (Sr := []) (As := [.int (nI (x / 2 ^ 32))]) (rest := [.int (nI 32)]) C (ctJ16_numberOfTrailingZeros l G (x / 2 ^ 32) (t - 32) (by omega) (by omega) (h1.div h32).1) hW q1442 q1443 q92 q1444 rfl ⟨by decide, by decide, Eq.trans (b := some 1) (by decide +kernel) rfl⟩ (Nat.le_of_ble_eq_true rfl) (Nat.le_of_ble_eq_true rfl) (Nat.le_refl _) (Nat.le_refl _) hl1.1 rfl (Nat.le_of_ble_eq_true rfl) dJ23_numberOfTrailingZeros_14 (k_permR _) (fun _ h => h.elim) (fun v H2 locs2 S1 hQ hz2 hW2 => ?_)
  obtain ⟨rfl, rfl⟩ := hQ
  have hW2 : Ws G A s ([]) H2 locs2 := hW2
  clear hW
  refine W.eq (g2 := F0 m 17 ls1 [.int (nI (t - 32)), .int (nI 32)]) rfl ?_
  refine kn_iadd C  dJ23_numberOfTrailingZeros_17 ?_
  refine lv_goto (tgt := 25) C.hx C.hb dJ23_numberOfTrailingZeros_18 (by decide) ?_
  exact k_iret C hW2 rfl ⟨by rw [show 32 + (t - 32) = t by omega], rfl⟩ (Nat.le_refl _) (Nat.le_refl _) dJ23_numberOfTrailingZeros_25
