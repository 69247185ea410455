def Q_ctX4_sign (G : GT) (h : Nat) (ad : Nat → Nat) (σ : Sg) (x1 x2 : Int32) : Option Value → List va_W → Prop := fun v S1 => v = some (.int (nI (if cSign σ x1 x2 = 0 then signR σ x1 x2 else 0))) ∧ S1 = mW G h ad (if cSign σ x1 x2 = 0 then k0 σ 0 else k0 σ (cSign σ x1 x2))
set_option maxHeartbeats 4000000 in
set_option maxRecDepth 100000 in
theorem ctX4_sign (l : Launch) (G : GT) (h : Nat) (ad : Nat → Nat) (σ : Sg) (x1 x2 : Int32) (hS : Sf σ) : Ct l G yX4_sign cX4_sign 4 (some .int) 2 46 0 0 [.ref h, .int x1, .int x2] (mW G h ad σ) noR (Q_ctX4_sign G h ad σ x1 x2) := by
  refine Ct.of (by decide +kernel) (Nat.le_of_ble_eq_true rfl) ?_
  intro p e s m below meth c A ls C hW hRo hl
  have hl : lv_has ls 4 [(0, .ref h), (1, .int x1), (2, .int x2)] := hl
  have hB : Bd σ := hS.1
  have h32 : σ 32 0 ≤ 200 := Nat.lt_succ_iff.mp (hB.lt 32 (by decide) 0)
  have h34 : σ 34 0 ≤ 480 := Nat.lt_succ_iff.mp (hB.lt 34 (by decide) 0)
  have h35 : σ 35 0 ≤ 64 := Nat.lt_succ_iff.mp (hB.lt 35 (by decide) 0)
  have h36 : σ 36 0 ≤ 60 := Nat.lt_succ_iff.mp (hB.lt 36 (by decide) 0)
  have h30 : σ 30 0 ≤ 5000 := Nat.lt_succ_iff.mp (hB.lt 30 (by decide) 0)
  have hdg := digits_12 σ (iN x1)
  refine lv_aload_n C.hx C.hb dX4_sign_0 rfl (lv_at hl 0 rfl) ?_
  refine lv_iload_n C.hx C.hb dX4_sign_1 rfl (lv_at hl 1 rfl) ?_
  refine k_callV (Sc := mW G h ad σ) (Sr := []) (As := [.int x1]) (rest := []) C (ctX4_isMessage l G h ad σ x1 hS) hW clX4 (hW.get 0 0 rfl rfl) q2573 q2575 qs61 q85 q2576 rfl rfl ⟨by decide, by decide, Eq.trans (b := some 1) (by decide +kernel) rfl⟩ (Nat.le_of_ble_eq_true rfl) (Nat.le_of_ble_eq_true rfl) (Nat.le_refl _) (Nat.le_refl _) hl.1 rfl (Nat.le_of_ble_eq_true rfl) dX4_sign_2 (List.Perm.refl _) (fun _ h => h.elim) (fun v H1 locs1 S1 hQ hz1 hW1 => ?_)
  obtain ⟨rfl, rfl⟩ := hQ
  have hW1 : Ws G A s (mW G h ad σ) H1 locs1 := hW1
  clear hW
  refine W.eq (g2 := F0 m 5 ls [.int (b01 (inR x1 0 ((σ 36 0 : Int) - 1)))]) rfl ?_
  refine kb_if_eq (tgt := 28) C dX4_sign_5 (by decide) (fun c5 => ?_) (fun c5 => ?_)
  · refine kn_iconst (a := 0) C (by decide) dX4_sign_28 ?_
    refine lv_istore_n (lv' := [(3, .int (nI 0)), (0, .ref h), (1, .int x1), (2, .int x2)]) C.hx C.hb dX4_sign_29 rfl hl (Nat.le_of_ble_eq_true rfl) rfl (fun ls2 hl2 => ?_)
    clear hl
    refine lv_aload_n C.hx C.hb dX4_sign_30 rfl (lv_at hl2 1 rfl) ?_
    refine lv_aload_n C.hx C.hb dX4_sign_31 rfl (lv_at hl2 1 rfl) ?_
    refine lv_iload_n C.hx C.hb dX4_sign_32 rfl (lv_at hl2 2 rfl) ?_
    refine k_callV (Sc := mW G h ad σ) (Sr := []) (As := [.int x1]) (rest := [.ref h]) C (ctX4_isMessage l G h ad σ x1 hS) hW1 clX4 (hW1.get 0 0 rfl rfl) q2573 q2575 qs61 q85 q2576 rfl rfl ⟨by decide, by decide, Eq.trans (b := some 1) (by decide +kernel) rfl⟩ (Nat.le_of_ble_eq_true rfl) (Nat.le_of_ble_eq_true rfl) (Nat.le_refl _) (Nat.le_refl _) hl2.1 rfl (Nat.le_of_ble_eq_true rfl) dX4_sign_33 (List.Perm.refl _) (fun _ h => h.elim) (fun v H3 locs3 S1 hQ hz3 hW3 => ?_)
    obtain ⟨rfl, rfl⟩ := hQ
    have hW3 : Ws G A s (mW G h ad σ) H3 locs3 := hW3
    clear hW1
    refine W.eq (g2 := F0 m 36 ls2 [.int (b01 (inR x1 0 ((σ 36 0 : Int) - 1))), .ref h]) rfl ?_
    refine kb_if_eq (tgt := 58) C dX4_sign_36 (by decide) (fun c36 => ?_) (fun c36 => ?_)
    · refine kn_iconst (a := 0) C (by decide) dX4_sign_58 ?_
      have hms : manyS σ x1 = 0 := if_neg (fun q => c5 q.1)
      refine k_op (y := .int (b01 (inR x1 0 ((σ 36 0 : Int) - 1) ∧ inR x2 (-1) ((manyS σ x1 : Int) - 1)))) (by rw [b01_f (fun q => c36 q.1)]; rfl) ?_
      refine k_callV (Sc := mW G h ad σ) (Sr := []) (As := [.int (b01 (inR x1 0 ((σ 36 0 : Int) - 1) ∧ inR x2 (-1) ((manyS σ x1 : Int) - 1)))]) (rest := []) C (ctX4_goes l G h ad σ (inR x1 0 ((σ 36 0 : Int) - 1) ∧ inR x2 (-1) ((manyS σ x1 : Int) - 1)) hS) hW3 clX4 (hW3.get 0 0 rfl rfl) q2527 q2529 qs58 q85 q2530 rfl rfl ⟨by decide, by decide, Eq.trans (b := some 1) (by decide +kernel) rfl⟩ (Nat.le_of_ble_eq_true rfl) (Nat.le_of_ble_eq_true rfl) (Nat.le_refl _) (Nat.le_refl _) hl2.1 rfl (Nat.le_of_ble_eq_true rfl) dX4_sign_59 (List.Perm.refl _) (fun _ h => h.elim) (fun v H4 locs4 S1 hQ hz4 hW4 => ?_)
      obtain ⟨rfl, rfl⟩ := hQ
      have hW4 : Ws G A s (mW G h ad (s2 σ 37 0 (if (inR x1 0 ((σ 36 0 : Int) - 1) ∧ inR x2 (-1) ((manyS σ x1 : Int) - 1)) then 0 else 1))) H4 locs4 := hW4
      clear hW3
      refine W.eq (g2 := F0 m 62 ls2 [.int (b01 ((inR x1 0 ((σ 36 0 : Int) - 1) ∧ inR x2 (-1) ((manyS σ x1 : Int) - 1))))]) rfl ?_
      refine kb_if_ne (tgt := 67) C dX4_sign_62 (by decide) (fun c62 => ?_) (fun c62 => ?_)
      · have hc : (if (inR x1 0 ((σ 36 0 : Int) - 1) ∧ inR x2 (-1) ((manyS σ x1 : Int) - 1)) then 0 else 1) = 0 := c1_0 c62
        rw [hc] at hW4
        refine lv_iload_n C.hx C.hb dX4_sign_67 rfl (lv_at hl2 3 rfl) ?_
        refine lv_iconst (v := nI NONE) C.hx C.hb dX4_sign_68 (by decide) ?_
        refine lv_icmp_ne (tgt := 76) C.hx C.hb dX4_sign_69 (by decide) (fun c69 => ?_) (fun c69 => ?_)
        · have hx2a : -1 ≤ x2.toInt ∧ x2.toInt ≤ (manyS σ x1 : Int) - 1 := c62.2
          have hx2b : x2.toInt ≠ -1 := fun q => c69 (Int32.toInt_inj.mp (q.trans (by decide)))
          have hin2 : inR x2 ((0 : Nat) : Int) ((20 : Nat) : Int) := ⟨by omega, by have := digits_12 σ (iN x1); rw [hms] at hx2a; omega⟩
          obtain ⟨hx2, -, -⟩ := iN_eq (a := 0) (b := 20) (by decide) hin2
          have hp20 : iN x2 < 20 := by have := digits_12 σ (iN x1); rw [hms] at hx2a; unfold iN; omega
          refine lv_aload_n C.hx C.hb dX4_sign_76 rfl (lv_at hl2 1 rfl) ?_
          refine lv_iload_n C.hx C.hb dX4_sign_77 rfl (lv_at hl2 2 rfl) ?_
          have hin : inR x1 ((0 : Nat) : Int) ((σ 36 0 : Nat) : Int) := ⟨(c62.1).1, by have := (c62.1).2; omega⟩
          obtain ⟨hx, -, -⟩ := iN_eq (a := 0) (b := σ 36 0) (by omega) hin
          have hi1 : iN x1 < σ 36 0 := by unfold iN; have := (c62.1).1; have := (c62.1).2; omega
          refine k_op (y := .int (nI (iN x1))) (congrArg Value.int hx) ?_
          refine lv_iload_n C.hx C.hb dX4_sign_78 rfl (lv_at hl2 3 rfl) ?_
          refine k_op (y := .int (nI (iN x2))) (congrArg Value.int hx2) ?_
          refine k_callV (Sc := mW G h ad (s2 σ 37 0 0)) (Sr := []) (As := [.int (nI (iN x1)), .int (nI (iN x2))]) (rest := []) C (ctX4_signAt l G h ad (s2 σ 37 0 0) (iN x1) (iN x2) (hS.s2o (by decide) (Or.inr (by decide))) (by omega) hp20) hW4 clX4 (hW4.get 0 0 rfl rfl) q2587 q2589 qs63 q85 q2590 rfl rfl ⟨by decide, by decide, Eq.trans (b := some 2) (by decide +kernel) rfl⟩ (Nat.le_of_ble_eq_true rfl) (Nat.le_of_ble_eq_true rfl) (Nat.le_refl _) (Nat.le_refl _) hl2.1 rfl (Nat.le_of_ble_eq_true rfl) dX4_sign_79 (List.Perm.refl _) (fun _ h => h.elim) (fun v H5 locs5 S1 hQ hz5 hW5 => ?_)
          obtain ⟨rfl, rfl⟩ := hQ
          have hW5 : Ws G A s (mW G h ad (s2 σ 37 0 0)) H5 locs5 := hW5
          clear hW4
          refine W.eq (g2 := F0 m 82 ls2 [.int (nI (signF σ (iN x1) (iN x2)))]) rfl ?_
          exact k_iret C hW5 rfl ⟨by rw [if_pos (show cSign σ x1 x2 = 0 from hc)]; unfold signR; rw [if_neg c69], by rw [if_pos (show cSign σ x1 x2 = 0 from hc)]⟩ (Nat.le_refl _) (Nat.le_refl _) dX4_sign_82
        · refine lv_iload_n C.hx C.hb dX4_sign_72 rfl (lv_at hl2 0 rfl) ?_
          refine lv_goto (tgt := 82) C.hx C.hb dX4_sign_73 (by decide) ?_
          exact k_iret C hW4 rfl ⟨by rw [if_pos (show cSign σ x1 x2 = 0 from hc)]; unfold signR; rw [if_pos c69, hms], by rw [if_pos (show cSign σ x1 x2 = 0 from hc)]⟩ (Nat.le_refl _) (Nat.le_refl _) dX4_sign_82
      · have hc : ¬ (if (inR x1 0 ((σ 36 0 : Int) - 1) ∧ inR x2 (-1) ((manyS σ x1 : Int) - 1)) then 0 else 1) = 0 := c1_n c62
        refine kn_iconst (a := 0) C (by decide) dX4_sign_65 ?_
        exact k_iret C hW4 rfl ⟨by rw [if_neg (show ¬ cSign σ x1 x2 = 0 from hc)], by rw [if_neg (show ¬ cSign σ x1 x2 = 0 from hc)]; rfl⟩ (Nat.le_refl _) (Nat.le_refl _) dX4_sign_66
    · exact absurd c36 c5
  · have hin : inR x1 ((0 : Nat) : Int) ((σ 36 0 : Nat) : Int) := ⟨(c5).1, by have := (c5).2; omega⟩
    obtain ⟨hx, -, -⟩ := iN_eq (a := 0) (b := σ 36 0) (by omega) hin
    have hi1 : iN x1 < σ 36 0 := by unfold iN; have := (c5).1; have := (c5).2; omega
    refine lv_aload_n C.hx C.hb dX4_sign_8 rfl (lv_at hl 0 rfl) ?_
    refine k_get (v := .ref (ad 22)) C clX4 (hW1.get 0 0 rfl rfl) 22 (Nat.le_of_ble_eq_true rfl) rfl q2346 rfl rfl dX4_sign_9 ?_
    refine lv_iload_n C.hx C.hb dX4_sign_12 rfl (lv_at hl 1 rfl) ?_
    refine k_op (y := .int (nI (iN x1))) (congrArg Value.int hx) ?_
    refine k_zald C (f := (fun i => nI (σ 22 i))) rfl (hW1.get 23 0 rfl rfl) (by omega) (by decide) dX4_sign_13 ?_
    refine kn_if_eq (tgt := 28) C (Nat.lt_of_lt_of_le (hB.lt 22 (by decide) (iN x1)) (by decide)) dX4_sign_14 (by decide) (fun c14 => ?_) (fun c14 => ?_)
    · refine kn_iconst (a := 0) C (by decide) dX4_sign_28 ?_
      refine lv_istore_n (lv' := [(3, .int (nI 0)), (0, .ref h), (1, .int x1), (2, .int x2)]) C.hx C.hb dX4_sign_29 rfl hl (Nat.le_of_ble_eq_true rfl) rfl (fun ls6 hl6 => ?_)
      clear hl
      refine lv_aload_n C.hx C.hb dX4_sign_30 rfl (lv_at hl6 1 rfl) ?_
      refine lv_aload_n C.hx C.hb dX4_sign_31 rfl (lv_at hl6 1 rfl) ?_
      refine lv_iload_n C.hx C.hb dX4_sign_32 rfl (lv_at hl6 2 rfl) ?_
      refine k_callV (Sc := mW G h ad σ) (Sr := []) (As := [.int x1]) (rest := [.ref h]) C (ctX4_isMessage l G h ad σ x1 hS) hW1 clX4 (hW1.get 0 0 rfl rfl) q2573 q2575 qs61 q85 q2576 rfl rfl ⟨by decide, by decide, Eq.trans (b := some 1) (by decide +kernel) rfl⟩ (Nat.le_of_ble_eq_true rfl) (Nat.le_of_ble_eq_true rfl) (Nat.le_refl _) (Nat.le_refl _) hl6.1 rfl (Nat.le_of_ble_eq_true rfl) dX4_sign_33 (List.Perm.refl _) (fun _ h => h.elim) (fun v H7 locs7 S1 hQ hz7 hW7 => ?_)
      obtain ⟨rfl, rfl⟩ := hQ
      have hW7 : Ws G A s (mW G h ad σ) H7 locs7 := hW7
      clear hW1
      refine W.eq (g2 := F0 m 36 ls6 [.int (b01 (inR x1 0 ((σ 36 0 : Int) - 1))), .ref h]) rfl ?_
      refine kb_if_eq (tgt := 58) C dX4_sign_36 (by decide) (fun c36 => ?_) (fun c36 => ?_)
      · exact absurd c5 c36
      · refine lv_iload_n C.hx C.hb dX4_sign_39 rfl (lv_at hl6 3 rfl) ?_
        refine lv_i2l C.hx C.hb dX4_sign_40 rfl ?_
        refine lv_ldc2 (own := "BogsignModel") (v := (-1)) C.hx C.hb C.hown (C.hts _ q2586) dX4_sign_41 ?_
        refine lv_iload_n C.hx C.hb dX4_sign_44 rfl (lv_at hl6 0 rfl) ?_
        refine kn_iconst (a := 1) C (by decide) dX4_sign_45 ?_
        refine lv_isub C.hx C.hb dX4_sign_46 ?_
        refine lv_i2l C.hx C.hb dX4_sign_47 rfl ?_
        refine k_callS (Sc := []) (Sr := mW G h ad σ) (As := [.long (x2).toInt64, .long (-1), .long (((nI 0) - (nI 1))).toInt64]) (rest := [.ref h]) C (ctX4_isBetween l G ((x2).toInt64) (-1) ((((nI 0) - (nI 1))).toInt64)) hW7 q2449 q2450 q85 q2451 rfl ⟨by decide, by decide, Eq.trans (b := some 3) (by decide +kernel) rfl⟩ (Nat.le_of_ble_eq_true rfl) (Nat.le_of_ble_eq_true rfl) (Nat.le_refl _) (Nat.le_refl _) hl6.1 rfl (Nat.le_of_ble_eq_true rfl) dX4_sign_48 (k_permR _) (fun _ h => h.elim) (fun v H8 locs8 S1 hQ hz8 hW8 => ?_)
        obtain ⟨rfl, rfl⟩ := hQ
        have hW8 : Ws G A s (mW G h ad σ) H8 locs8 := hW8
        clear hW7
        refine W.eq (g2 := F0 m 51 ls6 [.int (b01 ((-1) ≤ (x2).toInt64 ∧ (x2).toInt64 ≤ (((nI 0) - (nI 1))).toInt64)), .ref h]) rfl ?_
        refine k_op (y := .int (b01 (inR x2 (-1) ((0 : Nat) - 1 : Int)))) (by rw [b01_cg (inRMm x2 (by omega))]) ?_
        refine kb_if_eq (tgt := 58) C dX4_sign_51 (by decide) (fun c51 => ?_) (fun c51 => ?_)
        · refine kn_iconst (a := 0) C (by decide) dX4_sign_58 ?_
          have hms : manyS σ x1 = 0 := if_neg (fun q => q.2 c14)
          refine k_op (y := .int (b01 (inR x1 0 ((σ 36 0 : Int) - 1) ∧ inR x2 (-1) ((manyS σ x1 : Int) - 1)))) (by rw [b01_f (fun q => c51 (by rw [hms] at q; exact q.2))]; rfl) ?_
          refine k_callV (Sc := mW G h ad σ) (Sr := []) (As := [.int (b01 (inR x1 0 ((σ 36 0 : Int) - 1) ∧ inR x2 (-1) ((manyS σ x1 : Int) - 1)))]) (rest := []) C (ctX4_goes l G h ad σ (inR x1 0 ((σ 36 0 : Int) - 1) ∧ inR x2 (-1) ((manyS σ x1 : Int) - 1)) hS) hW8 clX4 (hW8.get 0 0 rfl rfl) q2527 q2529 qs58 q85 q2530 rfl rfl ⟨by decide, by decide, Eq.trans (b := some 1) (by decide +kernel) rfl⟩ (Nat.le_of_ble_eq_true rfl) (Nat.le_of_ble_eq_true rfl) (Nat.le_refl _) (Nat.le_refl _) hl6.1 rfl (Nat.le_of_ble_eq_true rfl) dX4_sign_59 (List.Perm.refl _) (fun _ h => h.elim) (fun v H9 locs9 S1 hQ hz9 hW9 => ?_)
          obtain ⟨rfl, rfl⟩ := hQ
          have hW9 : Ws G A s (mW G h ad (s2 σ 37 0 (if (inR x1 0 ((σ 36 0 : Int) - 1) ∧ inR x2 (-1) ((manyS σ x1 : Int) - 1)) then 0 else 1))) H9 locs9 := hW9
          clear hW8
          refine W.eq (g2 := F0 m 62 ls6 [.int (b01 ((inR x1 0 ((σ 36 0 : Int) - 1) ∧ inR x2 (-1) ((manyS σ x1 : Int) - 1))))]) rfl ?_
          refine kb_if_ne (tgt := 67) C dX4_sign_62 (by decide) (fun c62 => ?_) (fun c62 => ?_)
          · have hc : (if (inR x1 0 ((σ 36 0 : Int) - 1) ∧ inR x2 (-1) ((manyS σ x1 : Int) - 1)) then 0 else 1) = 0 := c1_0 c62
            rw [hc] at hW9
            refine lv_iload_n C.hx C.hb dX4_sign_67 rfl (lv_at hl6 3 rfl) ?_
            refine lv_iconst (v := nI NONE) C.hx C.hb dX4_sign_68 (by decide) ?_
            refine lv_icmp_ne (tgt := 76) C.hx C.hb dX4_sign_69 (by decide) (fun c69 => ?_) (fun c69 => ?_)
            · have hx2a : -1 ≤ x2.toInt ∧ x2.toInt ≤ (manyS σ x1 : Int) - 1 := c62.2
              have hx2b : x2.toInt ≠ -1 := fun q => c69 (Int32.toInt_inj.mp (q.trans (by decide)))
              have hin2 : inR x2 ((0 : Nat) : Int) ((20 : Nat) : Int) := ⟨by omega, by have := digits_12 σ (iN x1); rw [hms] at hx2a; omega⟩
              obtain ⟨hx2, -, -⟩ := iN_eq (a := 0) (b := 20) (by decide) hin2
              have hp20 : iN x2 < 20 := by have := digits_12 σ (iN x1); rw [hms] at hx2a; unfold iN; omega
              have hx1 := hx
              refine lv_aload_n C.hx C.hb dX4_sign_76 rfl (lv_at hl6 1 rfl) ?_
              refine lv_iload_n C.hx C.hb dX4_sign_77 rfl (lv_at hl6 2 rfl) ?_
              have hin : inR x1 ((0 : Nat) : Int) ((σ 36 0 : Nat) : Int) := ⟨(c62.1).1, by have := (c62.1).2; omega⟩
              obtain ⟨hx, -, -⟩ := iN_eq (a := 0) (b := σ 36 0) (by omega) hin
              have hi1 : iN x1 < σ 36 0 := by unfold iN; have := (c62.1).1; have := (c62.1).2; omega
              refine k_op (y := .int (nI (iN x1))) (congrArg Value.int hx) ?_
              refine lv_iload_n C.hx C.hb dX4_sign_78 rfl (lv_at hl6 3 rfl) ?_
              refine k_op (y := .int (nI (iN x2))) (congrArg Value.int hx2) ?_
              refine k_callV (Sc := mW G h ad (s2 σ 37 0 0)) (Sr := []) (As := [.int (nI (iN x1)), .int (nI (iN x2))]) (rest := []) C (ctX4_signAt l G h ad (s2 σ 37 0 0) (iN x1) (iN x2) (hS.s2o (by decide) (Or.inr (by decide))) (by omega) hp20) hW9 clX4 (hW9.get 0 0 rfl rfl) q2587 q2589 qs63 q85 q2590 rfl rfl ⟨by decide, by decide, Eq.trans (b := some 2) (by decide +kernel) rfl⟩ (Nat.le_of_ble_eq_true rfl) (Nat.le_of_ble_eq_true rfl) (Nat.le_refl _) (Nat.le_refl _) hl6.1 rfl (Nat.le_of_ble_eq_true rfl) dX4_sign_79 (List.Perm.refl _) (fun _ h => h.elim) (fun v H10 locs10 S1 hQ hz10 hW10 => ?_)
              obtain ⟨rfl, rfl⟩ := hQ
              have hW10 : Ws G A s (mW G h ad (s2 σ 37 0 0)) H10 locs10 := hW10
              clear hW9
              refine W.eq (g2 := F0 m 82 ls6 [.int (nI (signF σ (iN x1) (iN x2)))]) rfl ?_
              exact k_iret C hW10 rfl ⟨by rw [if_pos (show cSign σ x1 x2 = 0 from hc)]; unfold signR; rw [if_neg c69], by rw [if_pos (show cSign σ x1 x2 = 0 from hc)]⟩ (Nat.le_refl _) (Nat.le_refl _) dX4_sign_82
            · refine lv_iload_n C.hx C.hb dX4_sign_72 rfl (lv_at hl6 0 rfl) ?_
              refine lv_goto (tgt := 82) C.hx C.hb dX4_sign_73 (by decide) ?_
              exact k_iret C hW9 rfl ⟨by rw [if_pos (show cSign σ x1 x2 = 0 from hc)]; unfold signR; rw [if_pos c69, hms], by rw [if_pos (show cSign σ x1 x2 = 0 from hc)]⟩ (Nat.le_refl _) (Nat.le_refl _) dX4_sign_82
          · have hc : ¬ (if (inR x1 0 ((σ 36 0 : Int) - 1) ∧ inR x2 (-1) ((manyS σ x1 : Int) - 1)) then 0 else 1) = 0 := c1_n c62
            refine kn_iconst (a := 0) C (by decide) dX4_sign_65 ?_
            exact k_iret C hW9 rfl ⟨by rw [if_neg (show ¬ cSign σ x1 x2 = 0 from hc)], by rw [if_neg (show ¬ cSign σ x1 x2 = 0 from hc)]; rfl⟩ (Nat.le_refl _) (Nat.le_refl _) dX4_sign_66
        · refine kn_iconst (a := 1) C (by decide) dX4_sign_54 ?_
          refine lv_goto (tgt := 59) C.hx C.hb dX4_sign_55 (by decide) ?_
          have hms : manyS σ x1 = 0 := if_neg (fun q => q.2 c14)
          refine k_op (y := .int (b01 (inR x1 0 ((σ 36 0 : Int) - 1) ∧ inR x2 (-1) ((manyS σ x1 : Int) - 1)))) (by rw [b01_t ⟨c36, by rw [hms]; exact c51⟩]; rfl) ?_
          refine k_callV (Sc := mW G h ad σ) (Sr := []) (As := [.int (b01 (inR x1 0 ((σ 36 0 : Int) - 1) ∧ inR x2 (-1) ((manyS σ x1 : Int) - 1)))]) (rest := []) C (ctX4_goes l G h ad σ (inR x1 0 ((σ 36 0 : Int) - 1) ∧ inR x2 (-1) ((manyS σ x1 : Int) - 1)) hS) hW8 clX4 (hW8.get 0 0 rfl rfl) q2527 q2529 qs58 q85 q2530 rfl rfl ⟨by decide, by decide, Eq.trans (b := some 1) (by decide +kernel) rfl⟩ (Nat.le_of_ble_eq_true rfl) (Nat.le_of_ble_eq_true rfl) (Nat.le_refl _) (Nat.le_refl _) hl6.1 rfl (Nat.le_of_ble_eq_true rfl) dX4_sign_59 (List.Perm.refl _) (fun _ h => h.elim) (fun v H11 locs11 S1 hQ hz11 hW11 => ?_)
          obtain ⟨rfl, rfl⟩ := hQ
          have hW11 : Ws G A s (mW G h ad (s2 σ 37 0 (if (inR x1 0 ((σ 36 0 : Int) - 1) ∧ inR x2 (-1) ((manyS σ x1 : Int) - 1)) then 0 else 1))) H11 locs11 := hW11
          clear hW8
          refine W.eq (g2 := F0 m 62 ls6 [.int (b01 ((inR x1 0 ((σ 36 0 : Int) - 1) ∧ inR x2 (-1) ((manyS σ x1 : Int) - 1))))]) rfl ?_
          refine kb_if_ne (tgt := 67) C dX4_sign_62 (by decide) (fun c62 => ?_) (fun c62 => ?_)
          · have hc : (if (inR x1 0 ((σ 36 0 : Int) - 1) ∧ inR x2 (-1) ((manyS σ x1 : Int) - 1)) then 0 else 1) = 0 := c1_0 c62
            rw [hc] at hW11
            refine lv_iload_n C.hx C.hb dX4_sign_67 rfl (lv_at hl6 3 rfl) ?_
            refine lv_iconst (v := nI NONE) C.hx C.hb dX4_sign_68 (by decide) ?_
            refine lv_icmp_ne (tgt := 76) C.hx C.hb dX4_sign_69 (by decide) (fun c69 => ?_) (fun c69 => ?_)
            · have hx2a : -1 ≤ x2.toInt ∧ x2.toInt ≤ (manyS σ x1 : Int) - 1 := c62.2
              have hx2b : x2.toInt ≠ -1 := fun q => c69 (Int32.toInt_inj.mp (q.trans (by decide)))
              have hin2 : inR x2 ((0 : Nat) : Int) ((20 : Nat) : Int) := ⟨by omega, by have := digits_12 σ (iN x1); rw [hms] at hx2a; omega⟩
              obtain ⟨hx2, -, -⟩ := iN_eq (a := 0) (b := 20) (by decide) hin2
              have hp20 : iN x2 < 20 := by have := digits_12 σ (iN x1); rw [hms] at hx2a; unfold iN; omega
              have hx1 := hx
              refine lv_aload_n C.hx C.hb dX4_sign_76 rfl (lv_at hl6 1 rfl) ?_
              refine lv_iload_n C.hx C.hb dX4_sign_77 rfl (lv_at hl6 2 rfl) ?_
              have hin : inR x1 ((0 : Nat) : Int) ((σ 36 0 : Nat) : Int) := ⟨(c62.1).1, by have := (c62.1).2; omega⟩
              obtain ⟨hx, -, -⟩ := iN_eq (a := 0) (b := σ 36 0) (by omega) hin
              have hi1 : iN x1 < σ 36 0 := by unfold iN; have := (c62.1).1; have := (c62.1).2; omega
              refine k_op (y := .int (nI (iN x1))) (congrArg Value.int hx) ?_
              refine lv_iload_n C.hx C.hb dX4_sign_78 rfl (lv_at hl6 3 rfl) ?_
              refine k_op (y := .int (nI (iN x2))) (congrArg Value.int hx2) ?_
              refine k_callV (Sc := mW G h ad (s2 σ 37 0 0)) (Sr := []) (As := [.int (nI (iN x1)), .int (nI (iN x2))]) (rest := []) C (ctX4_signAt l G h ad (s2 σ 37 0 0) (iN x1) (iN x2) (hS.s2o (by decide) (Or.inr (by decide))) (by omega) hp20) hW11 clX4 (hW11.get 0 0 rfl rfl) q2587 q2589 qs63 q85 q2590 rfl rfl ⟨by decide, by decide, Eq.trans (b := some 2) (by decide +kernel) rfl⟩ (Nat.le_of_ble_eq_true rfl) (Nat.le_of_ble_eq_true rfl) (Nat.le_refl _) (Nat.le_refl _) hl6.1 rfl (Nat.le_of_ble_eq_true rfl) dX4_sign_79 (List.Perm.refl _) (fun _ h => h.elim) (fun v H12 locs12 S1 hQ hz12 hW12 => ?_)
              obtain ⟨rfl, rfl⟩ := hQ
              have hW12 : Ws G A s (mW G h ad (s2 σ 37 0 0)) H12 locs12 := hW12
              clear hW11
              refine W.eq (g2 := F0 m 82 ls6 [.int (nI (signF σ (iN x1) (iN x2)))]) rfl ?_
              exact k_iret C hW12 rfl ⟨by rw [if_pos (show cSign σ x1 x2 = 0 from hc)]; unfold signR; rw [if_neg c69], by rw [if_pos (show cSign σ x1 x2 = 0 from hc)]⟩ (Nat.le_refl _) (Nat.le_refl _) dX4_sign_82
            · refine lv_iload_n C.hx C.hb dX4_sign_72 rfl (lv_at hl6 0 rfl) ?_
              refine lv_goto (tgt := 82) C.hx C.hb dX4_sign_73 (by decide) ?_
              exact k_iret C hW11 rfl ⟨by rw [if_pos (show cSign σ x1 x2 = 0 from hc)]; unfold signR; rw [if_pos c69, hms], by rw [if_pos (show cSign σ x1 x2 = 0 from hc)]⟩ (Nat.le_refl _) (Nat.le_refl _) dX4_sign_82
          · have hc : ¬ (if (inR x1 0 ((σ 36 0 : Int) - 1) ∧ inR x2 (-1) ((manyS σ x1 : Int) - 1)) then 0 else 1) = 0 := c1_n c62
            refine kn_iconst (a := 0) C (by decide) dX4_sign_65 ?_
            exact k_iret C hW11 rfl ⟨by rw [if_neg (show ¬ cSign σ x1 x2 = 0 from hc)], by rw [if_neg (show ¬ cSign σ x1 x2 = 0 from hc)]; rfl⟩ (Nat.le_refl _) (Nat.le_refl _) dX4_sign_66
    · refine kn_bipush (a := 10) C (by decide) dX4_sign_17 ?_
      refine lv_aload_n C.hx C.hb dX4_sign_19 rfl (lv_at hl 0 rfl) ?_
      refine lv_iload_n C.hx C.hb dX4_sign_20 rfl (lv_at hl 1 rfl) ?_
      refine k_op (y := .int (nI (iN x1))) (congrArg Value.int hx) ?_
      refine k_callV (Sc := mW G h ad σ) (Sr := []) (As := [.int (nI (iN x1))]) (rest := [.int (nI 10)]) C (ctX4_digits l G h ad σ (iN x1) hS (by omega)) hW1 clX4 (hW1.get 0 0 rfl rfl) q2582 q2584 qs62 q85 q2585 rfl rfl ⟨by decide, by decide, Eq.trans (b := some 1) (by decide +kernel) rfl⟩ (Nat.le_of_ble_eq_true rfl) (Nat.le_of_ble_eq_true rfl) (Nat.le_refl _) (Nat.le_refl _) hl.1 rfl (Nat.le_of_ble_eq_true rfl) dX4_sign_21 (List.Perm.refl _) (fun _ h => h.elim) (fun v H13 locs13 S1 hQ hz13 hW13 => ?_)
      obtain ⟨rfl, rfl⟩ := hQ
      have hW13 : Ws G A s (mW G h ad σ) H13 locs13 := hW13
      clear hW1
      refine W.eq (g2 := F0 m 24 ls [.int (nI (digitsF σ (iN x1))), .int (nI 10)]) rfl ?_
      refine kn_iadd C  dX4_sign_24 ?_
      refine lv_goto (tgt := 29) C.hx C.hb dX4_sign_25 (by decide) ?_
      refine lv_istore_n (lv' := [(3, .int (nI (10 + (digitsF σ (iN x1))))), (0, .ref h), (1, .int x1), (2, .int x2)]) C.hx C.hb dX4_sign_29 rfl hl (Nat.le_of_ble_eq_true rfl) rfl (fun ls14 hl14 => ?_)
      clear hl
      refine lv_aload_n C.hx C.hb dX4_sign_30 rfl (lv_at hl14 1 rfl) ?_
      refine lv_aload_n C.hx C.hb dX4_sign_31 rfl (lv_at hl14 1 rfl) ?_
      refine lv_iload_n C.hx C.hb dX4_sign_32 rfl (lv_at hl14 2 rfl) ?_
      refine k_callV (Sc := mW G h ad σ) (Sr := []) (As := [.int x1]) (rest := [.ref h]) C (ctX4_isMessage l G h ad σ x1 hS) hW13 clX4 (hW13.get 0 0 rfl rfl) q2573 q2575 qs61 q85 q2576 rfl rfl ⟨by decide, by decide, Eq.trans (b := some 1) (by decide +kernel) rfl⟩ (Nat.le_of_ble_eq_true rfl) (Nat.le_of_ble_eq_true rfl) (Nat.le_refl _) (Nat.le_refl _) hl14.1 rfl (Nat.le_of_ble_eq_true rfl) dX4_sign_33 (List.Perm.refl _) (fun _ h => h.elim) (fun v H15 locs15 S1 hQ hz15 hW15 => ?_)
      obtain ⟨rfl, rfl⟩ := hQ
      have hW15 : Ws G A s (mW G h ad σ) H15 locs15 := hW15
      clear hW13
      refine W.eq (g2 := F0 m 36 ls14 [.int (b01 (inR x1 0 ((σ 36 0 : Int) - 1))), .ref h]) rfl ?_
      refine kb_if_eq (tgt := 58) C dX4_sign_36 (by decide) (fun c36 => ?_) (fun c36 => ?_)
      · exact absurd c5 c36
      · refine lv_iload_n C.hx C.hb dX4_sign_39 rfl (lv_at hl14 3 rfl) ?_
        refine lv_i2l C.hx C.hb dX4_sign_40 rfl ?_
        refine lv_ldc2 (own := "BogsignModel") (v := (-1)) C.hx C.hb C.hown (C.hts _ q2586) dX4_sign_41 ?_
        refine lv_iload_n C.hx C.hb dX4_sign_44 rfl (lv_at hl14 0 rfl) ?_
        refine kn_iconst (a := 1) C (by decide) dX4_sign_45 ?_
        refine lv_isub C.hx C.hb dX4_sign_46 ?_
        refine lv_i2l C.hx C.hb dX4_sign_47 rfl ?_
        refine k_callS (Sc := []) (Sr := mW G h ad σ) (As := [.long (x2).toInt64, .long (-1), .long (((nI (10 + (digitsF σ (iN x1)))) - (nI 1))).toInt64]) (rest := [.ref h]) C (ctX4_isBetween l G ((x2).toInt64) (-1) ((((nI (10 + (digitsF σ (iN x1)))) - (nI 1))).toInt64)) hW15 q2449 q2450 q85 q2451 rfl ⟨by decide, by decide, Eq.trans (b := some 3) (by decide +kernel) rfl⟩ (Nat.le_of_ble_eq_true rfl) (Nat.le_of_ble_eq_true rfl) (Nat.le_refl _) (Nat.le_refl _) hl14.1 rfl (Nat.le_of_ble_eq_true rfl) dX4_sign_48 (k_permR _) (fun _ h => h.elim) (fun v H16 locs16 S1 hQ hz16 hW16 => ?_)
        obtain ⟨rfl, rfl⟩ := hQ
        have hW16 : Ws G A s (mW G h ad σ) H16 locs16 := hW16
        clear hW15
        refine W.eq (g2 := F0 m 51 ls14 [.int (b01 ((-1) ≤ (x2).toInt64 ∧ (x2).toInt64 ≤ (((nI (10 + (digitsF σ (iN x1)))) - (nI 1))).toInt64)), .ref h]) rfl ?_
        refine k_op (y := .int (b01 (inR x2 (-1) (((10 + (digitsF σ (iN x1))) : Nat) - 1 : Int)))) (by rw [b01_cg (inRMm x2 (by omega))]) ?_
        refine kb_if_eq (tgt := 58) C dX4_sign_51 (by decide) (fun c51 => ?_) (fun c51 => ?_)
        · refine kn_iconst (a := 0) C (by decide) dX4_sign_58 ?_
          have hms : manyS σ x1 = 10 + digitsF σ (iN x1) := if_pos ⟨c5, c14⟩
          refine k_op (y := .int (b01 (inR x1 0 ((σ 36 0 : Int) - 1) ∧ inR x2 (-1) ((manyS σ x1 : Int) - 1)))) (by rw [b01_f (fun q => c51 (by rw [hms] at q; exact q.2))]; rfl) ?_
          refine k_callV (Sc := mW G h ad σ) (Sr := []) (As := [.int (b01 (inR x1 0 ((σ 36 0 : Int) - 1) ∧ inR x2 (-1) ((manyS σ x1 : Int) - 1)))]) (rest := []) C (ctX4_goes l G h ad σ (inR x1 0 ((σ 36 0 : Int) - 1) ∧ inR x2 (-1) ((manyS σ x1 : Int) - 1)) hS) hW16 clX4 (hW16.get 0 0 rfl rfl) q2527 q2529 qs58 q85 q2530 rfl rfl ⟨by decide, by decide, Eq.trans (b := some 1) (by decide +kernel) rfl⟩ (Nat.le_of_ble_eq_true rfl) (Nat.le_of_ble_eq_true rfl) (Nat.le_refl _) (Nat.le_refl _) hl14.1 rfl (Nat.le_of_ble_eq_true rfl) dX4_sign_59 (List.Perm.refl _) (fun _ h => h.elim) (fun v H17 locs17 S1 hQ hz17 hW17 => ?_)
          obtain ⟨rfl, rfl⟩ := hQ
          have hW17 : Ws G A s (mW G h ad (s2 σ 37 0 (if (inR x1 0 ((σ 36 0 : Int) - 1) ∧ inR x2 (-1) ((manyS σ x1 : Int) - 1)) then 0 else 1))) H17 locs17 := hW17
          clear hW16
          refine W.eq (g2 := F0 m 62 ls14 [.int (b01 ((inR x1 0 ((σ 36 0 : Int) - 1) ∧ inR x2 (-1) ((manyS σ x1 : Int) - 1))))]) rfl ?_
          refine kb_if_ne (tgt := 67) C dX4_sign_62 (by decide) (fun c62 => ?_) (fun c62 => ?_)
          · have hc : (if (inR x1 0 ((σ 36 0 : Int) - 1) ∧ inR x2 (-1) ((manyS σ x1 : Int) - 1)) then 0 else 1) = 0 := c1_0 c62
            rw [hc] at hW17
            refine lv_iload_n C.hx C.hb dX4_sign_67 rfl (lv_at hl14 3 rfl) ?_
            refine lv_iconst (v := nI NONE) C.hx C.hb dX4_sign_68 (by decide) ?_
            refine lv_icmp_ne (tgt := 76) C.hx C.hb dX4_sign_69 (by decide) (fun c69 => ?_) (fun c69 => ?_)
            · have hx2a : -1 ≤ x2.toInt ∧ x2.toInt ≤ (manyS σ x1 : Int) - 1 := c62.2
              have hx2b : x2.toInt ≠ -1 := fun q => c69 (Int32.toInt_inj.mp (q.trans (by decide)))
              have hin2 : inR x2 ((0 : Nat) : Int) ((20 : Nat) : Int) := ⟨by omega, by have := digits_12 σ (iN x1); rw [hms] at hx2a; omega⟩
              obtain ⟨hx2, -, -⟩ := iN_eq (a := 0) (b := 20) (by decide) hin2
              have hp20 : iN x2 < 20 := by have := digits_12 σ (iN x1); rw [hms] at hx2a; unfold iN; omega
              have hx1 := hx
              refine lv_aload_n C.hx C.hb dX4_sign_76 rfl (lv_at hl14 1 rfl) ?_
              refine lv_iload_n C.hx C.hb dX4_sign_77 rfl (lv_at hl14 2 rfl) ?_
              have hin : inR x1 ((0 : Nat) : Int) ((σ 36 0 : Nat) : Int) := ⟨(c62.1).1, by have := (c62.1).2; omega⟩
              obtain ⟨hx, -, -⟩ := iN_eq (a := 0) (b := σ 36 0) (by omega) hin
              have hi1 : iN x1 < σ 36 0 := by unfold iN; have := (c62.1).1; have := (c62.1).2; omega
              refine k_op (y := .int (nI (iN x1))) (congrArg Value.int hx) ?_
              refine lv_iload_n C.hx C.hb dX4_sign_78 rfl (lv_at hl14 3 rfl) ?_
              refine k_op (y := .int (nI (iN x2))) (congrArg Value.int hx2) ?_
              refine k_callV (Sc := mW G h ad (s2 σ 37 0 0)) (Sr := []) (As := [.int (nI (iN x1)), .int (nI (iN x2))]) (rest := []) C (ctX4_signAt l G h ad (s2 σ 37 0 0) (iN x1) (iN x2) (hS.s2o (by decide) (Or.inr (by decide))) (by omega) hp20) hW17 clX4 (hW17.get 0 0 rfl rfl) q2587 q2589 qs63 q85 q2590 rfl rfl ⟨by decide, by decide, Eq.trans (b := some 2) (by decide +kernel) rfl⟩ (Nat.le_of_ble_eq_true rfl) (Nat.le_of_ble_eq_true rfl) (Nat.le_refl _) (Nat.le_refl _) hl14.1 rfl (Nat.le_of_ble_eq_true rfl) dX4_sign_79 (List.Perm.refl _) (fun _ h => h.elim) (fun v H18 locs18 S1 hQ hz18 hW18 => ?_)
              obtain ⟨rfl, rfl⟩ := hQ
              have hW18 : Ws G A s (mW G h ad (s2 σ 37 0 0)) H18 locs18 := hW18
              clear hW17
              refine W.eq (g2 := F0 m 82 ls14 [.int (nI (signF σ (iN x1) (iN x2)))]) rfl ?_
              exact k_iret C hW18 rfl ⟨by rw [if_pos (show cSign σ x1 x2 = 0 from hc)]; unfold signR; rw [if_neg c69], by rw [if_pos (show cSign σ x1 x2 = 0 from hc)]⟩ (Nat.le_refl _) (Nat.le_refl _) dX4_sign_82
            · refine lv_iload_n C.hx C.hb dX4_sign_72 rfl (lv_at hl14 0 rfl) ?_
              refine lv_goto (tgt := 82) C.hx C.hb dX4_sign_73 (by decide) ?_
              exact k_iret C hW17 rfl ⟨by rw [if_pos (show cSign σ x1 x2 = 0 from hc)]; unfold signR; rw [if_pos c69, hms], by rw [if_pos (show cSign σ x1 x2 = 0 from hc)]⟩ (Nat.le_refl _) (Nat.le_refl _) dX4_sign_82
          · have hc : ¬ (if (inR x1 0 ((σ 36 0 : Int) - 1) ∧ inR x2 (-1) ((manyS σ x1 : Int) - 1)) then 0 else 1) = 0 := c1_n c62
            refine kn_iconst (a := 0) C (by decide) dX4_sign_65 ?_
            exact k_iret C hW17 rfl ⟨by rw [if_neg (show ¬ cSign σ x1 x2 = 0 from hc)], by rw [if_neg (show ¬ cSign σ x1 x2 = 0 from hc)]; rfl⟩ (Nat.le_refl _) (Nat.le_refl _) dX4_sign_66
        · refine kn_iconst (a := 1) C (by decide) dX4_sign_54 ?_
          refine lv_goto (tgt := 59) C.hx C.hb dX4_sign_55 (by decide) ?_
          have hms : manyS σ x1 = 10 + digitsF σ (iN x1) := if_pos ⟨c5, c14⟩
          refine k_op (y := .int (b01 (inR x1 0 ((σ 36 0 : Int) - 1) ∧ inR x2 (-1) ((manyS σ x1 : Int) - 1)))) (by rw [b01_t ⟨c36, by rw [hms]; exact c51⟩]; rfl) ?_
          refine k_callV (Sc := mW G h ad σ) (Sr := []) (As := [.int (b01 (inR x1 0 ((σ 36 0 : Int) - 1) ∧ inR x2 (-1) ((manyS σ x1 : Int) - 1)))]) (rest := []) C (ctX4_goes l G h ad σ (inR x1 0 ((σ 36 0 : Int) - 1) ∧ inR x2 (-1) ((manyS σ x1 : Int) - 1)) hS) hW16 clX4 (hW16.get 0 0 rfl rfl) q2527 q2529 qs58 q85 q2530 rfl rfl ⟨by decide, by decide, Eq.trans (b := some 1) (by decide +kernel) rfl⟩ (Nat.le_of_ble_eq_true rfl) (Nat.le_of_ble_eq_true rfl) (Nat.le_refl _) (Nat.le_refl _) hl14.1 rfl (Nat.le_of_ble_eq_true rfl) dX4_sign_59 (List.Perm.refl _) (fun _ h => h.elim) (fun v H19 locs19 S1 hQ hz19 hW19 => ?_)
          obtain ⟨rfl, rfl⟩ := hQ
          have hW19 : Ws G A s (mW G h ad (s2 σ 37 0 (if (inR x1 0 ((σ 36 0 : Int) - 1) ∧ inR x2 (-1) ((manyS σ x1 : Int) - 1)) then 0 else 1))) H19 locs19 := hW19
          clear hW16
          refine W.eq (g2 := F0 m 62 ls14 [.int (b01 ((inR x1 0 ((σ 36 0 : Int) - 1) ∧ inR x2 (-1) ((manyS σ x1 : Int) - 1))))]) rfl ?_
          refine kb_if_ne (tgt := 67) C dX4_sign_62 (by decide) (fun c62 => ?_) (fun c62 => ?_)
          · have hc : (if (inR x1 0 ((σ 36 0 : Int) - 1) ∧ inR x2 (-1) ((manyS σ x1 : Int) - 1)) then 0 else 1) = 0 := c1_0 c62
            rw [hc] at hW19
            refine lv_iload_n C.hx C.hb dX4_sign_67 rfl (lv_at hl14 3 rfl) ?_
            refine lv_iconst (v := nI NONE) C.hx C.hb dX4_sign_68 (by decide) ?_
            refine lv_icmp_ne (tgt := 76) C.hx C.hb dX4_sign_69 (by decide) (fun c69 => ?_) (fun c69 => ?_)
            · have hx2a : -1 ≤ x2.toInt ∧ x2.toInt ≤ (manyS σ x1 : Int) - 1 := c62.2
              have hx2b : x2.toInt ≠ -1 := fun q => c69 (Int32.toInt_inj.mp (q.trans (by decide)))
              have hin2 : inR x2 ((0 : Nat) : Int) ((20 : Nat) : Int) := ⟨by omega, by have := digits_12 σ (iN x1); rw [hms] at hx2a; omega⟩
              obtain ⟨hx2, -, -⟩ := iN_eq (a := 0) (b := 20) (by decide) hin2
              have hp20 : iN x2 < 20 := by have := digits_12 σ (iN x1); rw [hms] at hx2a; unfold iN; omega
              have hx1 := hx
              refine lv_aload_n C.hx C.hb dX4_sign_76 rfl (lv_at hl14 1 rfl) ?_
              refine lv_iload_n C.hx C.hb dX4_sign_77 rfl (lv_at hl14 2 rfl) ?_
              have hin : inR x1 ((0 : Nat) : Int) ((σ 36 0 : Nat) : Int) := ⟨(c62.1).1, by have := (c62.1).2; omega⟩
              obtain ⟨hx, -, -⟩ := iN_eq (a := 0) (b := σ 36 0) (by omega) hin
              have hi1 : iN x1 < σ 36 0 := by unfold iN; have := (c62.1).1; have := (c62.1).2; omega
              refine k_op (y := .int (nI (iN x1))) (congrArg Value.int hx) ?_
              refine lv_iload_n C.hx C.hb dX4_sign_78 rfl (lv_at hl14 3 rfl) ?_
              refine k_op (y := .int (nI (iN x2))) (congrArg Value.int hx2) ?_
              refine k_callV (Sc := mW G h ad (s2 σ 37 0 0)) (Sr := []) (As := [.int (nI (iN x1)), .int (nI (iN x2))]) (rest := []) C (ctX4_signAt l G h ad (s2 σ 37 0 0) (iN x1) (iN x2) (hS.s2o (by decide) (Or.inr (by decide))) (by omega) hp20) hW19 clX4 (hW19.get 0 0 rfl rfl) q2587 q2589 qs63 q85 q2590 rfl rfl ⟨by decide, by decide, Eq.trans (b := some 2) (by decide +kernel) rfl⟩ (Nat.le_of_ble_eq_true rfl) (Nat.le_of_ble_eq_true rfl) (Nat.le_refl _) (Nat.le_refl _) hl14.1 rfl (Nat.le_of_ble_eq_true rfl) dX4_sign_79 (List.Perm.refl _) (fun _ h => h.elim) (fun v H20 locs20 S1 hQ hz20 hW20 => ?_)
              obtain ⟨rfl, rfl⟩ := hQ
              have hW20 : Ws G A s (mW G h ad (s2 σ 37 0 0)) H20 locs20 := hW20
              clear hW19
              refine W.eq (g2 := F0 m 82 ls14 [.int (nI (signF σ (iN x1) (iN x2)))]) rfl ?_
              exact k_iret C hW20 rfl ⟨by rw [if_pos (show cSign σ x1 x2 = 0 from hc)]; unfold signR; rw [if_neg c69], by rw [if_pos (show cSign σ x1 x2 = 0 from hc)]⟩ (Nat.le_refl _) (Nat.le_refl _) dX4_sign_82
            · refine lv_iload_n C.hx C.hb dX4_sign_72 rfl (lv_at hl14 0 rfl) ?_
              refine lv_goto (tgt := 82) C.hx C.hb dX4_sign_73 (by decide) ?_
              exact k_iret C hW19 rfl ⟨by rw [if_pos (show cSign σ x1 x2 = 0 from hc)]; unfold signR; rw [if_pos c69, hms], by rw [if_pos (show cSign σ x1 x2 = 0 from hc)]⟩ (Nat.le_refl _) (Nat.le_refl _) dX4_sign_82
          · have hc : ¬ (if (inR x1 0 ((σ 36 0 : Int) - 1) ∧ inR x2 (-1) ((manyS σ x1 : Int) - 1)) then 0 else 1) = 0 := c1_n c62
            refine kn_iconst (a := 0) C (by decide) dX4_sign_65 ?_
            exact k_iret C hW19 rfl ⟨by rw [if_neg (show ¬ cSign σ x1 x2 = 0 from hc)], by rw [if_neg (show ¬ cSign σ x1 x2 = 0 from hc)]; rfl⟩ (Nat.le_refl _) (Nat.le_refl _) dX4_sign_66
