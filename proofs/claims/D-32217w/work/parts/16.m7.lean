def Q_ctX4_board (G : GT) (h : Nat) (ad : Nat → Nat) (σ : Sg) (x1 x2 : Int32) : Option Value → List va_W → Prop := fun v S1 => v = some (.int (nI (if cBoard σ x1 x2 = 0 then boardF σ (iN x1) (iN x2) else 0))) ∧ S1 = mW G h ad (if cBoard σ x1 x2 = 0 then k0 σ 0 else k0 σ (cBoard σ x1 x2))
set_option maxHeartbeats 4000000 in
set_option maxRecDepth 100000 in
theorem ctX4_board (l : Launch) (G : GT) (h : Nat) (ad : Nat → Nat) (σ : Sg) (x1 x2 : Int32) (hS : Sf σ) : Ct l G yX4_board cX4_board 3 (some .int) 1 25 0 0 [.ref h, .int x1, .int x2] (mW G h ad σ) noR (Q_ctX4_board G h ad σ x1 x2) := by
  refine Ct.of (by decide +kernel) (Nat.le_of_ble_eq_true rfl) ?_
  intro p e s m below meth c A ls C hW hRo hl
  have hl : lv_has ls 3 [(0, .ref h), (1, .int x1), (2, .int x2)] := hl
  have hB : Bd σ := hS.1
  have h32 : σ 32 0 ≤ 200 := Nat.lt_succ_iff.mp (hB.lt 32 (by decide) 0)
  have h34 : σ 34 0 ≤ 480 := Nat.lt_succ_iff.mp (hB.lt 34 (by decide) 0)
  have h35 : σ 35 0 ≤ 64 := Nat.lt_succ_iff.mp (hB.lt 35 (by decide) 0)
  have h36 : σ 36 0 ≤ 60 := Nat.lt_succ_iff.mp (hB.lt 36 (by decide) 0)
  have h30 : σ 30 0 ≤ 5000 := Nat.lt_succ_iff.mp (hB.lt 30 (by decide) 0)
  have h9 : ∀ j, σ 9 j < 5001 := fun j => hB.lt 9 (by decide) j
  have h99 := h9 (iN x1)
  refine lv_aload_n C.hx C.hb dX4_board_0 rfl (lv_at hl 0 rfl) ?_
  refine lv_iload_n C.hx C.hb dX4_board_1 rfl (lv_at hl 1 rfl) ?_
  refine lv_i2l C.hx C.hb dX4_board_2 rfl ?_
  refine kn_lconst (a := 0) C rfl dX4_board_3 ?_
  refine lv_aload_n C.hx C.hb dX4_board_4 rfl (lv_at hl 0 rfl) ?_
  refine k_get (v := .int (nI (σ 32 0))) C clX4 (hW.get 0 0 rfl rfl) 32 (Nat.le_of_ble_eq_true rfl) rfl q2356 rfl rfl dX4_board_5 ?_
  refine kn_iconst (a := 1) C (by decide) dX4_board_8 ?_
  refine lv_isub C.hx C.hb dX4_board_9 ?_
  refine lv_i2l C.hx C.hb dX4_board_10 rfl ?_
  refine k_callS (Sc := []) (Sr := mW G h ad σ) (As := [.long (x1).toInt64, .long (lN 0), .long (((nI (σ 32 0)) - (nI 1))).toInt64]) (rest := [.ref h]) C (ctX4_isBetween l G ((x1).toInt64) (lN 0) ((((nI (σ 32 0)) - (nI 1))).toInt64)) hW q2449 q2450 q85 q2451 rfl ⟨by decide, by decide, Eq.trans (b := some 3) (by decide +kernel) rfl⟩ (Nat.le_of_ble_eq_true rfl) (Nat.le_of_ble_eq_true rfl) (Nat.le_refl _) (Nat.le_refl _) hl.1 rfl (Nat.le_of_ble_eq_true rfl) dX4_board_11 (k_permR _) (fun _ h => h.elim) (fun v H1 locs1 S1 hQ hz1 hW1 => ?_)
  obtain ⟨rfl, rfl⟩ := hQ
  have hW1 : Ws G A s (mW G h ad σ) H1 locs1 := hW1
  clear hW
  refine W.eq (g2 := F0 m 14 ls [.int (b01 ((lN 0) ≤ (x1).toInt64 ∧ (x1).toInt64 ≤ (((nI (σ 32 0)) - (nI 1))).toInt64)), .ref h]) rfl ?_
  refine k_op (y := .int (b01 (inR x1 0 (((σ 32 0) : Nat) - 1 : Int)))) (by rw [b01_cg (inRM x1 (by omega))]) ?_
  refine lv_iload_n C.hx C.hb dX4_board_14 rfl (lv_at hl 2 rfl) ?_
  refine lv_i2l C.hx C.hb dX4_board_15 rfl ?_
  refine kn_lconst (a := 0) C rfl dX4_board_16 ?_
  refine lv_ldc2 (own := "BogsignModel") (v := (lN 4)) C.hx C.hb C.hown (C.hts _ q2557) dX4_board_17 ?_
  refine k_callS (Sc := []) (Sr := mW G h ad σ) (As := [.long (x2).toInt64, .long (lN 0), .long (lN 4)]) (rest := [.int (b01 (inR x1 0 (((σ 32 0) : Nat) - 1 : Int))), .ref h]) C (ctX4_isBetween l G ((x2).toInt64) (lN 0) (lN 4)) hW1 q2449 q2450 q85 q2451 rfl ⟨by decide, by decide, Eq.trans (b := some 3) (by decide +kernel) rfl⟩ (Nat.le_of_ble_eq_true rfl) (Nat.le_of_ble_eq_true rfl) (Nat.le_refl _) (Nat.le_refl _) hl.1 rfl (Nat.le_of_ble_eq_true rfl) dX4_board_20 (k_permR _) (fun _ h => h.elim) (fun v H2 locs2 S1 hQ hz2 hW2 => ?_)
  obtain ⟨rfl, rfl⟩ := hQ
  have hW2 : Ws G A s (mW G h ad σ) H2 locs2 := hW2
  clear hW1
  refine W.eq (g2 := F0 m 23 ls [.int (b01 ((lN 0) ≤ (x2).toInt64 ∧ (x2).toInt64 ≤ (lN 4))), .int (b01 (inR x1 0 (((σ 32 0) : Nat) - 1 : Int))), .ref h]) rfl ?_
  refine k_op (y := .int (b01 (inR x2 0 4))) (by rw [b01_cg (inR64 x2 0 4 rfl rfl)]; rfl) ?_
  refine k_callV (Sc := mW G h ad σ) (Sr := []) (As := [.int (b01 (inR x1 0 (((σ 32 0) : Nat) - 1 : Int))), .int (b01 (inR x2 0 4))]) (rest := []) C (ctX4_goesBoth l G h ad σ (inR x1 0 (((σ 32 0) : Nat) - 1 : Int)) (inR x2 0 4) hS) hW2 clX4 (hW2.get 0 0 rfl rfl) q2453 q2455 qs47 q85 q2456 rfl rfl ⟨by decide, by decide, Eq.trans (b := some 2) (by decide +kernel) rfl⟩ (Nat.le_of_ble_eq_true rfl) (Nat.le_of_ble_eq_true rfl) (Nat.le_refl _) (Nat.le_refl _) hl.1 rfl (Nat.le_of_ble_eq_true rfl) dX4_board_23 (List.Perm.refl _) (fun _ h => h.elim) (fun v H3 locs3 S1 hQ hz3 hW3 => ?_)
  obtain ⟨rfl, rfl⟩ := hQ
  have hW3 : Ws G A s (mW G h ad (s2 σ 37 0 (c2_ (inR x1 0 (((σ 32 0) : Nat) - 1 : Int)) (inR x2 0 4)))) H3 locs3 := hW3
  clear hW2
  refine W.eq (g2 := F0 m 26 ls [.int (b01 ((inR x1 0 (((σ 32 0) : Nat) - 1 : Int)) ∧ (inR x2 0 4)))]) rfl ?_
  refine kb_if_ne (tgt := 31) C dX4_board_26 (by decide) (fun c26 => ?_) (fun c26 => ?_)
  · have hc : (c2_ (inR x1 0 (((σ 32 0) : Nat) - 1 : Int)) (inR x2 0 4)) = 0 := c2_0 c26
    rw [hc] at hW3
    obtain ⟨hx4, hy4, hz4⟩ := iN_eq (a := 0) (b := 4) (by decide) c26.2
    have hl4 : lv_has ls 3 [(0, .ref h), (1, .int x1), (2, .int (nI (iN x2)))] := by rw [← hx4]; exact hl
    have hin5 : inR x1 ((0 : Nat) : Int) ((σ 32 0 : Nat) : Int) := ⟨(c26.1).1, by have := (c26.1).2; omega⟩
    have hlt5 : x1.toInt < σ 32 0 := by have := (c26.1).2; omega
    obtain ⟨hx5, -, -⟩ := iN_eq (a := 0) (b := σ 32 0) (by omega) hin5
    have hi1 : iN x1 < σ 32 0 := by unfold iN; have := (c26.1).1; omega
    have hl5 : lv_has ls 3 [(0, .ref h), (1, .int (nI (iN x1))), (2, .int (nI (iN x2)))] := by rw [← hx5]; exact hl4
    refine lv_iload_n C.hx C.hb dX4_board_31 rfl (lv_at hl5 2 rfl) ?_
    have hv6 : (nI (iN x2)).toInt = ((iN x2) : Nat) := nI_toInt (by omega)
    by_cases u0 : (iN x2) = 0
    · refine lv_tableIn (tgt := 64) (off := 32) C.hx C.hb dX4_board_32 (by rw [hv6]; omega) (by rw [hv6]; omega) (by rw [hv6, u0]; rfl) (by decide) ?_
      refine lv_aload_n C.hx C.hb dX4_board_64 rfl (lv_at hl5 0 rfl) ?_
      refine k_get (v := .ref (ad 7)) C clX4 (hW3.get 0 0 rfl rfl) 7 (Nat.le_of_ble_eq_true rfl) rfl q2331 rfl rfl dX4_board_65 ?_
      refine lv_iload_n C.hx C.hb dX4_board_68 rfl (lv_at hl5 1 rfl) ?_
      refine k_iald C (f := (fun i => nI ((s2 σ 37 0 0) 7 i))) rfl (hW3.get 8 0 rfl rfl) (by omega) (by decide) dX4_board_69 ?_
      refine k_op (y := .int (nI (σ 7 (iN x1)))) (by simp [s2_rd]) ?_
      exact k_iret C hW3 rfl ⟨by rw [if_pos (show cBoard σ x1 x2 = 0 from hc)]; unfold boardF; rw [if_pos u0], by rw [if_pos (show cBoard σ x1 x2 = 0 from hc)]⟩ (Nat.le_refl _) (Nat.le_refl _) dX4_board_70
    by_cases u1 : (iN x2) = 1
    · refine lv_tableIn (tgt := 71) (off := 39) C.hx C.hb dX4_board_32 (by rw [hv6]; omega) (by rw [hv6]; omega) (by rw [hv6, u1]; rfl) (by decide) ?_
      refine lv_aload_n C.hx C.hb dX4_board_71 rfl (lv_at hl5 0 rfl) ?_
      refine k_get (v := .ref (ad 8)) C clX4 (hW3.get 0 0 rfl rfl) 8 (Nat.le_of_ble_eq_true rfl) rfl q2332 rfl rfl dX4_board_72 ?_
      refine lv_iload_n C.hx C.hb dX4_board_75 rfl (lv_at hl5 1 rfl) ?_
      refine k_iald C (f := (fun i => nI ((s2 σ 37 0 0) 8 i))) rfl (hW3.get 9 0 rfl rfl) (by omega) (by decide) dX4_board_76 ?_
      refine k_op (y := .int (nI (σ 8 (iN x1)))) (by simp [s2_rd]) ?_
      exact k_iret C hW3 rfl ⟨by rw [if_pos (show cBoard σ x1 x2 = 0 from hc)]; unfold boardF; rw [if_neg u0, if_pos u1], by rw [if_pos (show cBoard σ x1 x2 = 0 from hc)]⟩ (Nat.le_refl _) (Nat.le_refl _) dX4_board_77
    by_cases u2 : (iN x2) = 2
    · refine lv_tableIn (tgt := 78) (off := 46) C.hx C.hb dX4_board_32 (by rw [hv6]; omega) (by rw [hv6]; omega) (by rw [hv6, u2]; rfl) (by decide) ?_
      refine lv_aload_n C.hx C.hb dX4_board_78 rfl (lv_at hl5 0 rfl) ?_
      refine k_get (v := .ref (ad 11)) C clX4 (hW3.get 0 0 rfl rfl) 11 (Nat.le_of_ble_eq_true rfl) rfl q2335 rfl rfl dX4_board_79 ?_
      refine lv_iload_n C.hx C.hb dX4_board_82 rfl (lv_at hl5 1 rfl) ?_
      refine k_lald C (f := (fun i => lN ((s2 σ 37 0 0) 11 i))) rfl (hW3.get 12 0 rfl rfl) (by omega) (by decide) dX4_board_83 ?_
      refine k_op (y := .long (lN (σ 11 (iN x1)))) (by simp [s2_rd]) ?_
      refine kn_l2i C dX4_board_84 ?_
      exact k_iret C hW3 rfl ⟨by rw [if_pos (show cBoard σ x1 x2 = 0 from hc)]; unfold boardF; rw [if_neg u0, if_neg u1, if_pos u2], by rw [if_pos (show cBoard σ x1 x2 = 0 from hc)]⟩ (Nat.le_refl _) (Nat.le_refl _) dX4_board_85
    by_cases u3 : (iN x2) = 3
    · refine lv_tableIn (tgt := 86) (off := 54) C.hx C.hb dX4_board_32 (by rw [hv6]; omega) (by rw [hv6]; omega) (by rw [hv6, u3]; rfl) (by decide) ?_
      refine lv_aload_n C.hx C.hb dX4_board_86 rfl (lv_at hl5 0 rfl) ?_
      refine k_get (v := .ref (ad 9)) C clX4 (hW3.get 0 0 rfl rfl) 9 (Nat.le_of_ble_eq_true rfl) rfl q2333 rfl rfl dX4_board_87 ?_
      refine lv_iload_n C.hx C.hb dX4_board_90 rfl (lv_at hl5 1 rfl) ?_
      refine k_iald C (f := (fun i => nI ((s2 σ 37 0 0) 9 i))) rfl (hW3.get 10 0 rfl rfl) (by omega) (by decide) dX4_board_91 ?_
      refine k_op (y := .int (nI (σ 9 (iN x1)))) (by simp [s2_rd]) ?_
      refine k_callS (Sc := []) (Sr := mW G h ad (s2 σ 37 0 0)) (As := [.int (nI (σ 9 (iN x1)))]) (rest := []) C (ctX4_seasonOf l G (σ 9 (iN x1)) (by omega)) hW3 q2498 q2499 q85 q2500 rfl ⟨by decide, by decide, Eq.trans (b := some 1) (by decide +kernel) rfl⟩ (Nat.le_of_ble_eq_true rfl) (Nat.le_of_ble_eq_true rfl) (Nat.le_refl _) (Nat.le_refl _) hl5.1 rfl (Nat.le_of_ble_eq_true rfl) dX4_board_92 (k_permR _) (fun _ h => h.elim) (fun v H7 locs7 S1 hQ hz7 hW7 => ?_)
      obtain ⟨rfl, rfl⟩ := hQ
      have hW7 : Ws G A s (mW G h ad (s2 σ 37 0 0)) H7 locs7 := hW7
      clear hW3
      refine W.eq (g2 := F0 m 95 ls [.int (nI (seasonN (σ 9 (iN x1))))]) rfl ?_
      exact k_iret C hW7 rfl ⟨by rw [if_pos (show cBoard σ x1 x2 = 0 from hc)]; unfold boardF; rw [if_neg u0, if_neg u1, if_neg u2, if_pos u3], by rw [if_pos (show cBoard σ x1 x2 = 0 from hc)]⟩ (Nat.le_refl _) (Nat.le_refl _) dX4_board_95
    refine lv_tableOut (tgt := 96) C.hx C.hb dX4_board_32 (by rw [hv6]; omega) (by decide) ?_
    refine lv_aload_n C.hx C.hb dX4_board_96 rfl (lv_at hl5 0 rfl) ?_
    refine k_get (v := .ref (ad 9)) C clX4 (hW3.get 0 0 rfl rfl) 9 (Nat.le_of_ble_eq_true rfl) rfl q2333 rfl rfl dX4_board_97 ?_
    refine lv_iload_n C.hx C.hb dX4_board_100 rfl (lv_at hl5 1 rfl) ?_
    refine k_iald C (f := (fun i => nI ((s2 σ 37 0 0) 9 i))) rfl (hW3.get 10 0 rfl rfl) (by omega) (by decide) dX4_board_101 ?_
    refine k_op (y := .int (nI (σ 9 (iN x1)))) (by simp [s2_rd]) ?_
    exact k_iret C hW3 rfl ⟨by rw [if_pos (show cBoard σ x1 x2 = 0 from hc)]; unfold boardF; rw [if_neg u0, if_neg u1, if_neg u2, if_neg u3], by rw [if_pos (show cBoard σ x1 x2 = 0 from hc)]⟩ (Nat.le_refl _) (Nat.le_refl _) dX4_board_102
  · have hc : ¬ (c2_ (inR x1 0 (((σ 32 0) : Nat) - 1 : Int)) (inR x2 0 4)) = 0 := c2_n c26
    refine kn_iconst (a := 0) C (by decide) dX4_board_29 ?_
    exact k_iret C hW3 rfl ⟨by rw [if_neg (show ¬ cBoard σ x1 x2 = 0 from hc)], by rw [if_neg (show ¬ cBoard σ x1 x2 = 0 from hc)]; rfl⟩ (Nat.le_refl _) (Nat.le_refl _) dX4_board_30

def Q_ctX4_isMessage (G : GT) (h : Nat) (ad : Nat → Nat) (σ : Sg) (x1 : Int32) : Option Value → List va_W → Prop := fun v S1 => v = some (.int (b01 (inR x1 0 ((σ 36 0 : Int) - 1)))) ∧ S1 = mW G h ad σ
set_option maxHeartbeats 4000000 in
set_option maxRecDepth 100000 in
theorem ctX4_isMessage (l : Launch) (G : GT) (h : Nat) (ad : Nat → Nat) (σ : Sg) (x1 : Int32) (hS : Sf σ) : Ct l G yX4_isMessage cX4_isMessage 2 (some .boolean) 1 25 0 0 [.ref h, .int x1] (mW G h ad σ) noR (Q_ctX4_isMessage G h ad σ x1) := by
  refine Ct.of (by decide +kernel) (Nat.le_of_ble_eq_true rfl) ?_
  intro p e s m below meth c A ls C hW hRo hl
  have hl : lv_has ls 2 [(0, .ref h), (1, .int x1)] := hl
  have hB : Bd σ := hS.1
  have h32 : σ 32 0 ≤ 200 := Nat.lt_succ_iff.mp (hB.lt 32 (by decide) 0)
  have h34 : σ 34 0 ≤ 480 := Nat.lt_succ_iff.mp (hB.lt 34 (by decide) 0)
  have h35 : σ 35 0 ≤ 64 := Nat.lt_succ_iff.mp (hB.lt 35 (by decide) 0)
  have h36 : σ 36 0 ≤ 60 := Nat.lt_succ_iff.mp (hB.lt 36 (by decide) 0)
  have h30 : σ 30 0 ≤ 5000 := Nat.lt_succ_iff.mp (hB.lt 30 (by decide) 0)
  refine lv_iload_n C.hx C.hb dX4_isMessage_0 rfl (lv_at hl 1 rfl) ?_
  refine lv_i2l C.hx C.hb dX4_isMessage_1 rfl ?_
  refine kn_lconst (a := 0) C rfl dX4_isMessage_2 ?_
  refine lv_aload_n C.hx C.hb dX4_isMessage_3 rfl (lv_at hl 0 rfl) ?_
  refine k_get (v := .int (nI (σ 36 0))) C clX4 (hW.get 0 0 rfl rfl) 36 (Nat.le_of_ble_eq_true rfl) rfl q2360 rfl rfl dX4_isMessage_4 ?_
  refine kn_iconst (a := 1) C (by decide) dX4_isMessage_7 ?_
  refine lv_isub C.hx C.hb dX4_isMessage_8 ?_
  refine lv_i2l C.hx C.hb dX4_isMessage_9 rfl ?_
  refine k_callS (Sc := []) (Sr := mW G h ad σ) (As := [.long (x1).toInt64, .long (lN 0), .long (((nI (σ 36 0)) - (nI 1))).toInt64]) (rest := []) C (ctX4_isBetween l G ((x1).toInt64) (lN 0) ((((nI (σ 36 0)) - (nI 1))).toInt64)) hW q2449 q2450 q85 q2451 rfl ⟨by decide, by decide, Eq.trans (b := some 3) (by decide +kernel) rfl⟩ (Nat.le_of_ble_eq_true rfl) (Nat.le_of_ble_eq_true rfl) (Nat.le_refl _) (Nat.le_refl _) hl.1 rfl (Nat.le_of_ble_eq_true rfl) dX4_isMessage_10 (k_permR _) (fun _ h => h.elim) (fun v H1 locs1 S1 hQ hz1 hW1 => ?_)
  obtain ⟨rfl, rfl⟩ := hQ
  have hW1 : Ws G A s (mW G h ad σ) H1 locs1 := hW1
  clear hW
  refine W.eq (g2 := F0 m 13 ls [.int (b01 ((lN 0) ≤ (x1).toInt64 ∧ (x1).toInt64 ≤ (((nI (σ 36 0)) - (nI 1))).toInt64))]) rfl ?_
  refine k_op (y := .int (b01 (inR x1 0 (((σ 36 0) : Nat) - 1 : Int)))) (by rw [b01_cg (inRM x1 (by omega))]) ?_
  exact k_zret C hW1 rfl (b01_nar _) ⟨rfl, rfl⟩ (Nat.le_refl _) (Nat.le_refl _) dX4_isMessage_13

def Q_ctX4_digits (G : GT) (h : Nat) (ad : Nat → Nat) (σ : Sg) (m1 : Nat) : Option Value → List va_W → Prop := fun v S1 => v = some (.int (nI (digitsF σ m1))) ∧ S1 = mW G h ad σ
set_option maxHeartbeats 4000000 in
set_option maxRecDepth 100000 in
theorem ctX4_digits (l : Launch) (G : GT) (h : Nat) (ad : Nat → Nat) (σ : Sg) (m1 : Nat) (hS : Sf σ) (hm : m1 < 60) : Ct l G yX4_digits cX4_digits 2 (some .int) 0 0 0 0 [.ref h, .int (nI m1)] (mW G h ad σ) noR (Q_ctX4_digits G h ad σ m1) := by
  refine Ct.of (by decide +kernel) (Nat.le_of_ble_eq_true rfl) ?_
  intro p e s m below meth c A ls C hW hRo hl
  have hl : lv_has ls 2 [(0, .ref h), (1, .int (nI m1))] := hl
  have hB : Bd σ := hS.1
  have h32 : σ 32 0 ≤ 200 := Nat.lt_succ_iff.mp (hB.lt 32 (by decide) 0)
  have h34 : σ 34 0 ≤ 480 := Nat.lt_succ_iff.mp (hB.lt 34 (by decide) 0)
  have h35 : σ 35 0 ≤ 64 := Nat.lt_succ_iff.mp (hB.lt 35 (by decide) 0)
  have h36 : σ 36 0 ≤ 60 := Nat.lt_succ_iff.mp (hB.lt 36 (by decide) 0)
  have h30 : σ 30 0 ≤ 5000 := Nat.lt_succ_iff.mp (hB.lt 30 (by decide) 0)
  refine lv_aload_n C.hx C.hb dX4_digits_0 rfl (lv_at hl 0 rfl) ?_
  refine k_get (v := .ref (ad 18)) C clX4 (hW.get 0 0 rfl rfl) 18 (Nat.le_of_ble_eq_true rfl) rfl q2342 rfl rfl dX4_digits_1 ?_
  refine lv_iload_n C.hx C.hb dX4_digits_4 rfl (lv_at hl 1 rfl) ?_
  refine k_iald C (f := (fun i => nI (σ 18 i))) rfl (hW.get 19 0 rfl rfl) (by omega) (by decide) dX4_digits_5 ?_
  refine kn_bipush (a := 10) C (by decide) dX4_digits_6 ?_
  refine kn_icmp_ge (tgt := 15) C (Nat.lt_of_lt_of_le (hB.lt 18 (by decide) m1) (by decide)) (by decide) dX4_digits_8 (by decide) (fun c8 => ?_) (fun c8 => ?_)
  · refine kn_iconst (a := 2) C (by decide) dX4_digits_15 ?_
    exact k_iret C hW rfl ⟨by unfold digitsF; rw [if_neg (by omega : ¬ σ 18 m1 < 10)], rfl⟩ (Nat.le_refl _) (Nat.le_refl _) dX4_digits_16
  · refine kn_iconst (a := 1) C (by decide) dX4_digits_11 ?_
    refine lv_goto (tgt := 16) C.hx C.hb dX4_digits_12 (by decide) ?_
    exact k_iret C hW rfl ⟨by unfold digitsF; rw [if_pos (by omega : σ 18 m1 < 10)], rfl⟩ (Nat.le_refl _) (Nat.le_refl _) dX4_digits_16

def Q_ctX4_message (G : GT) (h : Nat) (ad : Nat → Nat) (σ : Sg) (x1 x2 : Int32) : Option Value → List va_W → Prop := fun v S1 => v = some (.int (nI (if cMsg σ x1 x2 = 0 then msgGet σ (iN x1) (iN x2) else 0))) ∧ S1 = mW G h ad (if cMsg σ x1 x2 = 0 then k0 σ 0 else k0 σ (cMsg σ x1 x2))
set_option maxHeartbeats 4000000 in
set_option maxRecDepth 100000 in
theorem ctX4_message (l : Launch) (G : GT) (h : Nat) (ad : Nat → Nat) (σ : Sg) (x1 x2 : Int32) (hS : Sf σ) : Ct l G yX4_message cX4_message 3 (some .int) 2 46 0 0 [.ref h, .int x1, .int x2] (mW G h ad σ) noR (Q_ctX4_message G h ad σ x1 x2) := by
  refine Ct.of (by decide +kernel) (Nat.le_of_ble_eq_true rfl) ?_
  intro p e s m below meth c A ls C hW hRo hl
  have hl : lv_has ls 3 [(0, .ref h), (1, .int x1), (2, .int x2)] := hl
  have hB : Bd σ := hS.1
  have h32 : σ 32 0 ≤ 200 := Nat.lt_succ_iff.mp (hB.lt 32 (by decide) 0)
  have h34 : σ 34 0 ≤ 480 := Nat.lt_succ_iff.mp (hB.lt 34 (by decide) 0)
  have h35 : σ 35 0 ≤ 64 := Nat.lt_succ_iff.mp (hB.lt 35 (by decide) 0)
  have h36 : σ 36 0 ≤ 60 := Nat.lt_succ_iff.mp (hB.lt 36 (by decide) 0)
  have h30 : σ 30 0 ≤ 5000 := Nat.lt_succ_iff.mp (hB.lt 30 (by decide) 0)
  refine lv_aload_n C.hx C.hb dX4_message_0 rfl (lv_at hl 0 rfl) ?_
  refine lv_aload_n C.hx C.hb dX4_message_1 rfl (lv_at hl 0 rfl) ?_
  refine lv_iload_n C.hx C.hb dX4_message_2 rfl (lv_at hl 1 rfl) ?_
  refine k_callV (Sc := mW G h ad σ) (Sr := []) (As := [.int x1]) (rest := [.ref h]) C (ctX4_isMessage l G h ad σ x1 hS) hW clX4 (hW.get 0 0 rfl rfl) q2573 q2575 qs61 q85 q2576 rfl rfl ⟨by decide, by decide, Eq.trans (b := some 1) (by decide +kernel) rfl⟩ (Nat.le_of_ble_eq_true rfl) (Nat.le_of_ble_eq_true rfl) (Nat.le_refl _) (Nat.le_refl _) hl.1 rfl (Nat.le_of_ble_eq_true rfl) dX4_message_3 (List.Perm.refl _) (fun _ h => h.elim) (fun v H1 locs1 S1 hQ hz1 hW1 => ?_)
  obtain ⟨rfl, rfl⟩ := hQ
  have hW1 : Ws G A s (mW G h ad σ) H1 locs1 := hW1
  clear hW
  refine W.eq (g2 := F0 m 6 ls [.int (b01 (inR x1 0 ((σ 36 0 : Int) - 1))), .ref h]) rfl ?_
  refine lv_iload_n C.hx C.hb dX4_message_6 rfl (lv_at hl 2 rfl) ?_
  refine lv_i2l C.hx C.hb dX4_message_7 rfl ?_
  refine kn_lconst (a := 0) C rfl dX4_message_8 ?_
  refine lv_ldc2 (own := "BogsignModel") (v := (lN 6)) C.hx C.hb C.hown (C.hts _ q2577) dX4_message_9 ?_
  refine k_callS (Sc := []) (Sr := mW G h ad σ) (As := [.long (x2).toInt64, .long (lN 0), .long (lN 6)]) (rest := [.int (b01 (inR x1 0 ((σ 36 0 : Int) - 1))), .ref h]) C (ctX4_isBetween l G ((x2).toInt64) (lN 0) (lN 6)) hW1 q2449 q2450 q85 q2451 rfl ⟨by decide, by decide, Eq.trans (b := some 3) (by decide +kernel) rfl⟩ (Nat.le_of_ble_eq_true rfl) (Nat.le_of_ble_eq_true rfl) (Nat.le_refl _) (Nat.le_refl _) hl.1 rfl (Nat.le_of_ble_eq_true rfl) dX4_message_12 (k_permR _) (fun _ h => h.elim) (fun v H2 locs2 S1 hQ hz2 hW2 => ?_)
  obtain ⟨rfl, rfl⟩ := hQ
  have hW2 : Ws G A s (mW G h ad σ) H2 locs2 := hW2
  clear hW1
  refine W.eq (g2 := F0 m 15 ls [.int (b01 ((lN 0) ≤ (x2).toInt64 ∧ (x2).toInt64 ≤ (lN 6))), .int (b01 (inR x1 0 ((σ 36 0 : Int) - 1))), .ref h]) rfl ?_
  refine k_op (y := .int (b01 (inR x2 0 6))) (by rw [b01_cg (inR64 x2 0 6 rfl rfl)]; rfl) ?_
  refine k_callV (Sc := mW G h ad σ) (Sr := []) (As := [.int (b01 (inR x1 0 ((σ 36 0 : Int) - 1))), .int (b01 (inR x2 0 6))]) (rest := []) C (ctX4_goesBoth l G h ad σ (inR x1 0 ((σ 36 0 : Int) - 1)) (inR x2 0 6) hS) hW2 clX4 (hW2.get 0 0 rfl rfl) q2453 q2455 qs47 q85 q2456 rfl rfl ⟨by decide, by decide, Eq.trans (b := some 2) (by decide +kernel) rfl⟩ (Nat.le_of_ble_eq_true rfl) (Nat.le_of_ble_eq_true rfl) (Nat.le_refl _) (Nat.le_refl _) hl.1 rfl (Nat.le_of_ble_eq_true rfl) dX4_message_15 (List.Perm.refl _) (fun _ h => h.elim) (fun v H3 locs3 S1 hQ hz3 hW3 => ?_)
  obtain ⟨rfl, rfl⟩ := hQ
  have hW3 : Ws G A s (mW G h ad (s2 σ 37 0 (c2_ (inR x1 0 ((σ 36 0 : Int) - 1)) (inR x2 0 6)))) H3 locs3 := hW3
  clear hW2
  refine W.eq (g2 := F0 m 18 ls [.int (b01 ((inR x1 0 ((σ 36 0 : Int) - 1)) ∧ (inR x2 0 6)))]) rfl ?_
  refine kb_if_ne (tgt := 23) C dX4_message_18 (by decide) (fun c18 => ?_) (fun c18 => ?_)
  · have hc : (c2_ (inR x1 0 ((σ 36 0 : Int) - 1)) (inR x2 0 6)) = 0 := c2_0 c18
    rw [hc] at hW3
    obtain ⟨hx4, hy4, hz4⟩ := iN_eq (a := 0) (b := 6) (by decide) c18.2
    have hl4 : lv_has ls 3 [(0, .ref h), (1, .int x1), (2, .int (nI (iN x2)))] := by rw [← hx4]; exact hl
    have hin5 : inR x1 ((0 : Nat) : Int) ((σ 36 0 : Nat) : Int) := ⟨(c18.1).1, by have := (c18.1).2; omega⟩
    have hlt5 : x1.toInt < σ 36 0 := by have := (c18.1).2; omega
    obtain ⟨hx5, -, -⟩ := iN_eq (a := 0) (b := σ 36 0) (by omega) hin5
    have hi1 : iN x1 < σ 36 0 := by unfold iN; have := (c18.1).1; omega
    have hl5 : lv_has ls 3 [(0, .ref h), (1, .int (nI (iN x1))), (2, .int (nI (iN x2)))] := by rw [← hx5]; exact hl4
    refine lv_iload_n C.hx C.hb dX4_message_23 rfl (lv_at hl5 2 rfl) ?_
    have hv6 : (nI (iN x2)).toInt = ((iN x2) : Nat) := nI_toInt (by omega)
    by_cases u0 : (iN x2) = 0
    · refine lv_tableIn (tgt := 64) (off := 40) C.hx C.hb dX4_message_24 (by rw [hv6]; omega) (by rw [hv6]; omega) (by rw [hv6, u0]; rfl) (by decide) ?_
      refine lv_aload_n C.hx C.hb dX4_message_64 rfl (lv_at hl5 0 rfl) ?_
      refine k_get (v := .ref (ad 17)) C clX4 (hW3.get 0 0 rfl rfl) 17 (Nat.le_of_ble_eq_true rfl) rfl q2341 rfl rfl dX4_message_65 ?_
      refine lv_iload_n C.hx C.hb dX4_message_68 rfl (lv_at hl5 1 rfl) ?_
      refine k_iald C (f := (fun i => nI ((s2 σ 37 0 0) 17 i))) rfl (hW3.get 18 0 rfl rfl) (by omega) (by decide) dX4_message_69 ?_
      refine k_op (y := .int (nI (σ 17 (iN x1)))) (by simp [s2_rd]) ?_
      exact k_iret C hW3 rfl ⟨by rw [if_pos (show cMsg σ x1 x2 = 0 from hc)]; unfold msgGet; rw [if_pos u0], by rw [if_pos (show cMsg σ x1 x2 = 0 from hc)]⟩ (Nat.le_refl _) (Nat.le_refl _) dX4_message_70
    by_cases u1 : (iN x2) = 1
    · refine lv_tableIn (tgt := 71) (off := 47) C.hx C.hb dX4_message_24 (by rw [hv6]; omega) (by rw [hv6]; omega) (by rw [hv6, u1]; rfl) (by decide) ?_
      refine lv_aload_n C.hx C.hb dX4_message_71 rfl (lv_at hl5 0 rfl) ?_
      refine k_get (v := .ref (ad 18)) C clX4 (hW3.get 0 0 rfl rfl) 18 (Nat.le_of_ble_eq_true rfl) rfl q2342 rfl rfl dX4_message_72 ?_
      refine lv_iload_n C.hx C.hb dX4_message_75 rfl (lv_at hl5 1 rfl) ?_
      refine k_iald C (f := (fun i => nI ((s2 σ 37 0 0) 18 i))) rfl (hW3.get 19 0 rfl rfl) (by omega) (by decide) dX4_message_76 ?_
      refine k_op (y := .int (nI (σ 18 (iN x1)))) (by simp [s2_rd]) ?_
      exact k_iret C hW3 rfl ⟨by rw [if_pos (show cMsg σ x1 x2 = 0 from hc)]; unfold msgGet; rw [if_neg u0, if_pos u1], by rw [if_pos (show cMsg σ x1 x2 = 0 from hc)]⟩ (Nat.le_refl _) (Nat.le_refl _) dX4_message_77
    by_cases u2 : (iN x2) = 2
    · refine lv_tableIn (tgt := 78) (off := 54) C.hx C.hb dX4_message_24 (by rw [hv6]; omega) (by rw [hv6]; omega) (by rw [hv6, u2]; rfl) (by decide) ?_
      refine lv_aload_n C.hx C.hb dX4_message_78 rfl (lv_at hl5 0 rfl) ?_
      refine k_get (v := .ref (ad 19)) C clX4 (hW3.get 0 0 rfl rfl) 19 (Nat.le_of_ble_eq_true rfl) rfl q2343 rfl rfl dX4_message_79 ?_
      refine lv_iload_n C.hx C.hb dX4_message_82 rfl (lv_at hl5 1 rfl) ?_
      refine k_iald C (f := (fun i => nI ((s2 σ 37 0 0) 19 i))) rfl (hW3.get 20 0 rfl rfl) (by omega) (by decide) dX4_message_83 ?_
      refine k_op (y := .int (nI (σ 19 (iN x1)))) (by simp [s2_rd]) ?_
      exact k_iret C hW3 rfl ⟨by rw [if_pos (show cMsg σ x1 x2 = 0 from hc)]; unfold msgGet; rw [if_neg u0, if_neg u1, if_pos u2], by rw [if_pos (show cMsg σ x1 x2 = 0 from hc)]⟩ (Nat.le_refl _) (Nat.le_refl _) dX4_message_84
    by_cases u3 : (iN x2) = 3
    · refine lv_tableIn (tgt := 85) (off := 61) C.hx C.hb dX4_message_24 (by rw [hv6]; omega) (by rw [hv6]; omega) (by rw [hv6, u3]; rfl) (by decide) ?_
      refine lv_aload_n C.hx C.hb dX4_message_85 rfl (lv_at hl5 0 rfl) ?_
      refine k_get (v := .ref (ad 20)) C clX4 (hW3.get 0 0 rfl rfl) 20 (Nat.le_of_ble_eq_true rfl) rfl q2344 rfl rfl dX4_message_86 ?_
      refine lv_iload_n C.hx C.hb dX4_message_89 rfl (lv_at hl5 1 rfl) ?_
      refine k_iald C (f := (fun i => nI ((s2 σ 37 0 0) 20 i))) rfl (hW3.get 21 0 rfl rfl) (by omega) (by decide) dX4_message_90 ?_
      refine k_op (y := .int (nI (σ 20 (iN x1)))) (by simp [s2_rd]) ?_
      exact k_iret C hW3 rfl ⟨by rw [if_pos (show cMsg σ x1 x2 = 0 from hc)]; unfold msgGet; rw [if_neg u0, if_neg u1, if_neg u2, if_pos u3], by rw [if_pos (show cMsg σ x1 x2 = 0 from hc)]⟩ (Nat.le_refl _) (Nat.le_refl _) dX4_message_91
    by_cases u4 : (iN x2) = 4
    · refine lv_tableIn (tgt := 92) (off := 68) C.hx C.hb dX4_message_24 (by rw [hv6]; omega) (by rw [hv6]; omega) (by rw [hv6, u4]; rfl) (by decide) ?_
      refine lv_aload_n C.hx C.hb dX4_message_92 rfl (lv_at hl5 0 rfl) ?_
      refine k_get (v := .ref (ad 21)) C clX4 (hW3.get 0 0 rfl rfl) 21 (Nat.le_of_ble_eq_true rfl) rfl q2345 rfl rfl dX4_message_93 ?_
      refine lv_iload_n C.hx C.hb dX4_message_96 rfl (lv_at hl5 1 rfl) ?_
      refine k_iald C (f := (fun i => nI ((s2 σ 37 0 0) 21 i))) rfl (hW3.get 22 0 rfl rfl) (by omega) (by decide) dX4_message_97 ?_
      refine k_op (y := .int (nI (σ 21 (iN x1)))) (by simp [s2_rd]) ?_
      exact k_iret C hW3 rfl ⟨by rw [if_pos (show cMsg σ x1 x2 = 0 from hc)]; unfold msgGet; rw [if_neg u0, if_neg u1, if_neg u2, if_neg u3, if_pos u4], by rw [if_pos (show cMsg σ x1 x2 = 0 from hc)]⟩ (Nat.le_refl _) (Nat.le_refl _) dX4_message_98
    by_cases u5 : (iN x2) = 5
    · refine lv_tableIn (tgt := 99) (off := 75) C.hx C.hb dX4_message_24 (by rw [hv6]; omega) (by rw [hv6]; omega) (by rw [hv6, u5]; rfl) (by decide) ?_
      refine lv_aload_n C.hx C.hb dX4_message_99 rfl (lv_at hl5 0 rfl) ?_
      refine k_get (v := .ref (ad 22)) C clX4 (hW3.get 0 0 rfl rfl) 22 (Nat.le_of_ble_eq_true rfl) rfl q2346 rfl rfl dX4_message_100 ?_
      refine lv_iload_n C.hx C.hb dX4_message_103 rfl (lv_at hl5 1 rfl) ?_
      refine k_zald C (f := (fun i => nI ((s2 σ 37 0 0) 22 i))) rfl (hW3.get 23 0 rfl rfl) (by omega) (by decide) dX4_message_104 ?_
      refine k_op (y := .int (nI (σ 22 (iN x1)))) (by simp [s2_rd]) ?_
      refine kn_if_eq (tgt := 112) C (Nat.lt_of_lt_of_le (hB.lt 22 (by decide) (iN x1)) (by decide)) dX4_message_105 (by decide) (fun c105 => ?_) (fun c105 => ?_)
      · refine kn_iconst (a := 0) C (by decide) dX4_message_112 ?_
        exact k_iret C hW3 rfl ⟨by rw [if_pos (show cMsg σ x1 x2 = 0 from hc)]; unfold msgGet; rw [if_neg u0, if_neg u1, if_neg u2, if_neg u3, if_neg u4, if_pos u5]; exact congrArg (fun z => some (Value.int (nI z))) (by have h8 : σ 22 (iN x1) < 2 := hB.lt 22 (by decide) _; omega), by rw [if_pos (show cMsg σ x1 x2 = 0 from hc)]⟩ (Nat.le_refl _) (Nat.le_refl _) dX4_message_113
      · refine kn_iconst (a := 1) C (by decide) dX4_message_108 ?_
        refine lv_goto (tgt := 113) C.hx C.hb dX4_message_109 (by decide) ?_
        exact k_iret C hW3 rfl ⟨by rw [if_pos (show cMsg σ x1 x2 = 0 from hc)]; unfold msgGet; rw [if_neg u0, if_neg u1, if_neg u2, if_neg u3, if_neg u4, if_pos u5]; exact congrArg (fun z => some (Value.int (nI z))) (by have h8 : σ 22 (iN x1) < 2 := hB.lt 22 (by decide) _; omega), by rw [if_pos (show cMsg σ x1 x2 = 0 from hc)]⟩ (Nat.le_refl _) (Nat.le_refl _) dX4_message_113
    refine lv_tableOut (tgt := 114) C.hx C.hb dX4_message_24 (by rw [hv6]; omega) (by decide) ?_
    refine lv_aload_n C.hx C.hb dX4_message_114 rfl (lv_at hl5 0 rfl) ?_
    refine k_get (v := .ref (ad 23)) C clX4 (hW3.get 0 0 rfl rfl) 23 (Nat.le_of_ble_eq_true rfl) rfl q2347 rfl rfl dX4_message_115 ?_
    refine lv_iload_n C.hx C.hb dX4_message_118 rfl (lv_at hl5 1 rfl) ?_
    refine k_zald C (f := (fun i => nI ((s2 σ 37 0 0) 23 i))) rfl (hW3.get 24 0 rfl rfl) (by omega) (by decide) dX4_message_119 ?_
    refine k_op (y := .int (nI (σ 23 (iN x1)))) (by simp [s2_rd]) ?_
    refine kn_if_eq (tgt := 127) C (Nat.lt_of_lt_of_le (hB.lt 23 (by decide) (iN x1)) (by decide)) dX4_message_120 (by decide) (fun c120 => ?_) (fun c120 => ?_)
    · refine kn_iconst (a := 0) C (by decide) dX4_message_127 ?_
      exact k_iret C hW3 rfl ⟨by rw [if_pos (show cMsg σ x1 x2 = 0 from hc)]; unfold msgGet; rw [if_neg u0, if_neg u1, if_neg u2, if_neg u3, if_neg u4, if_neg u5]; exact congrArg (fun z => some (Value.int (nI z))) (by have h8 : σ 23 (iN x1) < 2 := hB.lt 23 (by decide) _; omega), by rw [if_pos (show cMsg σ x1 x2 = 0 from hc)]⟩ (Nat.le_refl _) (Nat.le_refl _) dX4_message_128
    · refine kn_iconst (a := 1) C (by decide) dX4_message_123 ?_
      refine lv_goto (tgt := 128) C.hx C.hb dX4_message_124 (by decide) ?_
      exact k_iret C hW3 rfl ⟨by rw [if_pos (show cMsg σ x1 x2 = 0 from hc)]; unfold msgGet; rw [if_neg u0, if_neg u1, if_neg u2, if_neg u3, if_neg u4, if_neg u5]; exact congrArg (fun z => some (Value.int (nI z))) (by have h8 : σ 23 (iN x1) < 2 := hB.lt 23 (by decide) _; omega), by rw [if_pos (show cMsg σ x1 x2 = 0 from hc)]⟩ (Nat.le_refl _) (Nat.le_refl _) dX4_message_128
  · have hc : ¬ (c2_ (inR x1 0 ((σ 36 0 : Int) - 1)) (inR x2 0 6)) = 0 := c2_n c18
    refine kn_iconst (a := 0) C (by decide) dX4_message_21 ?_
    exact k_iret C hW3 rfl ⟨by rw [if_neg (show ¬ cMsg σ x1 x2 = 0 from hc)], by rw [if_neg (show ¬ cMsg σ x1 x2 = 0 from hc)]; rfl⟩ (Nat.le_refl _) (Nat.le_refl _) dX4_message_22
