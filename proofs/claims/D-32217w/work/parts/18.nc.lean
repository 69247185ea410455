def Q_ctX4_cart (G : GT) (h : Nat) (ad : Nat → Nat) (σ : Sg) (x1 x2 x3 : Int32) : Option Value → List va_W → Prop := fun v S1 => v = some (.int (nI (if cCart x1 x2 x3 = 0 then (cartF σ (iN x1) (iN x2) (iN x3)).1 else 0))) ∧ S1 = mW G h ad (if cCart x1 x2 x3 = 0 then (cartF σ (iN x1) (iN x2) (iN x3)).2 else k0 σ (cCart x1 x2 x3))
set_option maxHeartbeats 4000000 in
set_option maxRecDepth 100000 in
theorem ctX4_cart (l : Launch) (G : GT) (h : Nat) (ad : Nat → Nat) (σ : Sg) (x1 x2 x3 : Int32) (hS : Sf σ) (hF : ∀ s, σ 2 s = NONE ∨ σ 2 s < 2 ^ 30) : Ct l G yX4_cart cX4_cart 6 (some .int) 4 90 0 0 [.ref h, .int x1, .int x2, .int x3] (mW G h ad σ) noR (Q_ctX4_cart G h ad σ x1 x2 x3) := by
  refine Ct.of (by decide +kernel) (Nat.le_of_ble_eq_true rfl) ?_
  intro p e s m below meth c A ls C hW hRo hl
  have hl : lv_has ls 6 [(0, .ref h), (1, .int x1), (2, .int x2), (3, .int x3)] := hl
  have hB : Bd σ := hS.1
  have h32 : σ 32 0 ≤ 200 := Nat.lt_succ_iff.mp (hB.lt 32 (by decide) 0)
  have h34 : σ 34 0 ≤ 480 := Nat.lt_succ_iff.mp (hB.lt 34 (by decide) 0)
  have h35 : σ 35 0 ≤ 64 := Nat.lt_succ_iff.mp (hB.lt 35 (by decide) 0)
  have h36 : σ 36 0 ≤ 60 := Nat.lt_succ_iff.mp (hB.lt 36 (by decide) 0)
  have h30 : σ 30 0 ≤ 5000 := Nat.lt_succ_iff.mp (hB.lt 30 (by decide) 0)
  refine lv_aload_n C.hx C.hb dX4_cart_0 rfl (lv_at hl 0 rfl) ?_
  refine lv_iload_n C.hx C.hb dX4_cart_1 rfl (lv_at hl 1 rfl) ?_
  refine k_callS (Sc := []) (Sr := mW G h ad σ) (As := [.int x1]) (rest := [.ref h]) C (ctX4_isMark l G x1) hW q2631 q2632 q85 q2633 rfl ⟨by decide, by decide, Eq.trans (b := some 1) (by decide +kernel) rfl⟩ (Nat.le_of_ble_eq_true rfl) (Nat.le_of_ble_eq_true rfl) (Nat.le_refl _) (Nat.le_refl _) hl.1 rfl (Nat.le_of_ble_eq_true rfl) dX4_cart_2 (k_permR _) (fun _ h => h.elim) (fun v H1 locs1 S1 hQ hz1 hW1 => ?_)
  obtain ⟨rfl, rfl⟩ := hQ
  have hW1 : Ws G A s (mW G h ad σ) H1 locs1 := hW1
  clear hW
  refine W.eq (g2 := F0 m 5 ls [.int (b01 (inR x1 0 6)), .ref h]) rfl ?_
  refine kb_if_eq (tgt := 19) C dX4_cart_5 (by decide) (fun c5 => ?_) (fun c5 => ?_)
  · refine kn_iconst (a := 0) C (by decide) dX4_cart_19 ?_
    refine k_op (y := .int (b01 (inR x1 0 6 ∧ inR x2 0 6))) (by rw [b01_f (fun q => c5 q.1)]; rfl) ?_
    refine lv_iload_n C.hx C.hb dX4_cart_20 rfl (lv_at hl 3 rfl) ?_
    refine lv_i2l C.hx C.hb dX4_cart_21 rfl ?_
    refine kn_lconst (a := 1) C rfl dX4_cart_22 ?_
    refine lv_ldc2 (own := "BogsignModel") (v := (lN 500)) C.hx C.hb C.hown (C.hts _ q2634) dX4_cart_23 ?_
    refine k_callS (Sc := []) (Sr := mW G h ad σ) (As := [.long (x3).toInt64, .long (lN 1), .long (lN 500)]) (rest := [.int (b01 (inR x1 0 6 ∧ inR x2 0 6)), .ref h]) C (ctX4_isBetween l G ((x3).toInt64) (lN 1) (lN 500)) hW1 q2449 q2450 q85 q2451 rfl ⟨by decide, by decide, Eq.trans (b := some 3) (by decide +kernel) rfl⟩ (Nat.le_of_ble_eq_true rfl) (Nat.le_of_ble_eq_true rfl) (Nat.le_refl _) (Nat.le_refl _) hl.1 rfl (Nat.le_of_ble_eq_true rfl) dX4_cart_26 (k_permR _) (fun _ h => h.elim) (fun v H2 locs2 S1 hQ hz2 hW2 => ?_)
    obtain ⟨rfl, rfl⟩ := hQ
    have hW2 : Ws G A s (mW G h ad σ) H2 locs2 := hW2
    clear hW1
    refine W.eq (g2 := F0 m 29 ls [.int (b01 ((lN 1) ≤ (x3).toInt64 ∧ (x3).toInt64 ≤ (lN 500))), .int (b01 (inR x1 0 6 ∧ inR x2 0 6)), .ref h]) rfl ?_
    refine k_op (y := .int (b01 (inR x3 1 500))) (by rw [b01_cg (inR64 x3 1 500 rfl rfl)]; rfl) ?_
    refine kb_if_eq (tgt := 41) C dX4_cart_29 (by decide) (fun c29 => ?_) (fun c29 => ?_)
    · refine kn_iconst (a := 0) C (by decide) dX4_cart_41 ?_
      refine k_op (y := .int (b01 (inR x3 1 500 ∧ ¬ x1 = x2))) (by rw [b01_f (fun q => c29 q.1)]; rfl) ?_
      refine k_callV (Sc := mW G h ad σ) (Sr := []) (As := [.int (b01 (inR x1 0 6 ∧ inR x2 0 6)), .int (b01 (inR x3 1 500 ∧ ¬ x1 = x2))]) (rest := []) C (ctX4_goesBoth l G h ad σ (inR x1 0 6 ∧ inR x2 0 6) (inR x3 1 500 ∧ ¬ x1 = x2) hS) hW2 clX4 (hW2.get 0 0 rfl rfl) q2453 q2455 qs47 q85 q2456 rfl rfl ⟨by decide, by decide, Eq.trans (b := some 2) (by decide +kernel) rfl⟩ (Nat.le_of_ble_eq_true rfl) (Nat.le_of_ble_eq_true rfl) (Nat.le_refl _) (Nat.le_refl _) hl.1 rfl (Nat.le_of_ble_eq_true rfl) dX4_cart_42 (List.Perm.refl _) (fun _ h => h.elim) (fun v H3 locs3 S1 hQ hz3 hW3 => ?_)
      obtain ⟨rfl, rfl⟩ := hQ
      have hW3 : Ws G A s (mW G h ad (s2 σ 37 0 (c2_ (inR x1 0 6 ∧ inR x2 0 6) (inR x3 1 500 ∧ ¬ x1 = x2)))) H3 locs3 := hW3
      clear hW2
      refine W.eq (g2 := F0 m 45 ls [.int (b01 ((inR x1 0 6 ∧ inR x2 0 6) ∧ (inR x3 1 500 ∧ ¬ x1 = x2)))]) rfl ?_
      refine kb_if_ne (tgt := 50) C dX4_cart_45 (by decide) (fun c45 => ?_) (fun c45 => ?_)
      · exact absurd c45.1.1 c5
      · have hc : ¬ (c2_ (inR x1 0 6 ∧ inR x2 0 6) (inR x3 1 500 ∧ ¬ x1 = x2)) = 0 := c2_n c45
        refine kn_iconst (a := 0) C (by decide) dX4_cart_48 ?_
        exact k_iret C hW3 rfl ⟨by rw [if_neg (show ¬ cCart x1 x2 x3 = 0 from hc)], by rw [if_neg (show ¬ cCart x1 x2 x3 = 0 from hc)]; rfl⟩ (Nat.le_refl _) (Nat.le_refl _) dX4_cart_49
    · refine lv_iload_n C.hx C.hb dX4_cart_32 rfl (lv_at hl 1 rfl) ?_
      refine lv_iload_n C.hx C.hb dX4_cart_33 rfl (lv_at hl 2 rfl) ?_
      refine lv_icmp_eq (tgt := 41) C.hx C.hb dX4_cart_34 (by decide) (fun c34 => ?_) (fun c34 => ?_)
      · refine kn_iconst (a := 0) C (by decide) dX4_cart_41 ?_
        refine k_op (y := .int (b01 (inR x3 1 500 ∧ ¬ x1 = x2))) (by rw [b01_f (fun q => q.2 c34)]; rfl) ?_
        refine k_callV (Sc := mW G h ad σ) (Sr := []) (As := [.int (b01 (inR x1 0 6 ∧ inR x2 0 6)), .int (b01 (inR x3 1 500 ∧ ¬ x1 = x2))]) (rest := []) C (ctX4_goesBoth l G h ad σ (inR x1 0 6 ∧ inR x2 0 6) (inR x3 1 500 ∧ ¬ x1 = x2) hS) hW2 clX4 (hW2.get 0 0 rfl rfl) q2453 q2455 qs47 q85 q2456 rfl rfl ⟨by decide, by decide, Eq.trans (b := some 2) (by decide +kernel) rfl⟩ (Nat.le_of_ble_eq_true rfl) (Nat.le_of_ble_eq_true rfl) (Nat.le_refl _) (Nat.le_refl _) hl.1 rfl (Nat.le_of_ble_eq_true rfl) dX4_cart_42 (List.Perm.refl _) (fun _ h => h.elim) (fun v H4 locs4 S1 hQ hz4 hW4 => ?_)
        obtain ⟨rfl, rfl⟩ := hQ
        have hW4 : Ws G A s (mW G h ad (s2 σ 37 0 (c2_ (inR x1 0 6 ∧ inR x2 0 6) (inR x3 1 500 ∧ ¬ x1 = x2)))) H4 locs4 := hW4
        clear hW2
        refine W.eq (g2 := F0 m 45 ls [.int (b01 ((inR x1 0 6 ∧ inR x2 0 6) ∧ (inR x3 1 500 ∧ ¬ x1 = x2)))]) rfl ?_
        refine kb_if_ne (tgt := 50) C dX4_cart_45 (by decide) (fun c45 => ?_) (fun c45 => ?_)
        · exact absurd c45.1.1 c5
        · have hc : ¬ (c2_ (inR x1 0 6 ∧ inR x2 0 6) (inR x3 1 500 ∧ ¬ x1 = x2)) = 0 := c2_n c45
          refine kn_iconst (a := 0) C (by decide) dX4_cart_48 ?_
          exact k_iret C hW4 rfl ⟨by rw [if_neg (show ¬ cCart x1 x2 x3 = 0 from hc)], by rw [if_neg (show ¬ cCart x1 x2 x3 = 0 from hc)]; rfl⟩ (Nat.le_refl _) (Nat.le_refl _) dX4_cart_49
      · refine kn_iconst (a := 1) C (by decide) dX4_cart_37 ?_
        refine lv_goto (tgt := 42) C.hx C.hb dX4_cart_38 (by decide) ?_
        refine k_op (y := .int (b01 (inR x3 1 500 ∧ ¬ x1 = x2))) (by rw [b01_t ⟨c29, c34⟩]; rfl) ?_
        refine k_callV (Sc := mW G h ad σ) (Sr := []) (As := [.int (b01 (inR x1 0 6 ∧ inR x2 0 6)), .int (b01 (inR x3 1 500 ∧ ¬ x1 = x2))]) (rest := []) C (ctX4_goesBoth l G h ad σ (inR x1 0 6 ∧ inR x2 0 6) (inR x3 1 500 ∧ ¬ x1 = x2) hS) hW2 clX4 (hW2.get 0 0 rfl rfl) q2453 q2455 qs47 q85 q2456 rfl rfl ⟨by decide, by decide, Eq.trans (b := some 2) (by decide +kernel) rfl⟩ (Nat.le_of_ble_eq_true rfl) (Nat.le_of_ble_eq_true rfl) (Nat.le_refl _) (Nat.le_refl _) hl.1 rfl (Nat.le_of_ble_eq_true rfl) dX4_cart_42 (List.Perm.refl _) (fun _ h => h.elim) (fun v H5 locs5 S1 hQ hz5 hW5 => ?_)
        obtain ⟨rfl, rfl⟩ := hQ
        have hW5 : Ws G A s (mW G h ad (s2 σ 37 0 (c2_ (inR x1 0 6 ∧ inR x2 0 6) (inR x3 1 500 ∧ ¬ x1 = x2)))) H5 locs5 := hW5
        clear hW2
        refine W.eq (g2 := F0 m 45 ls [.int (b01 ((inR x1 0 6 ∧ inR x2 0 6) ∧ (inR x3 1 500 ∧ ¬ x1 = x2)))]) rfl ?_
        refine kb_if_ne (tgt := 50) C dX4_cart_45 (by decide) (fun c45 => ?_) (fun c45 => ?_)
        · exact absurd c45.1.1 c5
        · have hc : ¬ (c2_ (inR x1 0 6 ∧ inR x2 0 6) (inR x3 1 500 ∧ ¬ x1 = x2)) = 0 := c2_n c45
          refine kn_iconst (a := 0) C (by decide) dX4_cart_48 ?_
          exact k_iret C hW5 rfl ⟨by rw [if_neg (show ¬ cCart x1 x2 x3 = 0 from hc)], by rw [if_neg (show ¬ cCart x1 x2 x3 = 0 from hc)]; rfl⟩ (Nat.le_refl _) (Nat.le_refl _) dX4_cart_49
  · refine lv_iload_n C.hx C.hb dX4_cart_8 rfl (lv_at hl 2 rfl) ?_
    refine k_callS (Sc := []) (Sr := mW G h ad σ) (As := [.int x2]) (rest := [.ref h]) C (ctX4_isMark l G x2) hW1 q2631 q2632 q85 q2633 rfl ⟨by decide, by decide, Eq.trans (b := some 1) (by decide +kernel) rfl⟩ (Nat.le_of_ble_eq_true rfl) (Nat.le_of_ble_eq_true rfl) (Nat.le_refl _) (Nat.le_refl _) hl.1 rfl (Nat.le_of_ble_eq_true rfl) dX4_cart_9 (k_permR _) (fun _ h => h.elim) (fun v H6 locs6 S1 hQ hz6 hW6 => ?_)
    obtain ⟨rfl, rfl⟩ := hQ
    have hW6 : Ws G A s (mW G h ad σ) H6 locs6 := hW6
    clear hW1
    refine W.eq (g2 := F0 m 12 ls [.int (b01 (inR x2 0 6)), .ref h]) rfl ?_
    refine kb_if_eq (tgt := 19) C dX4_cart_12 (by decide) (fun c12 => ?_) (fun c12 => ?_)
    · refine kn_iconst (a := 0) C (by decide) dX4_cart_19 ?_
      refine k_op (y := .int (b01 (inR x1 0 6 ∧ inR x2 0 6))) (by rw [b01_f (fun q => c12 q.2)]; rfl) ?_
      refine lv_iload_n C.hx C.hb dX4_cart_20 rfl (lv_at hl 3 rfl) ?_
      refine lv_i2l C.hx C.hb dX4_cart_21 rfl ?_
      refine kn_lconst (a := 1) C rfl dX4_cart_22 ?_
      refine lv_ldc2 (own := "BogsignModel") (v := (lN 500)) C.hx C.hb C.hown (C.hts _ q2634) dX4_cart_23 ?_
      refine k_callS (Sc := []) (Sr := mW G h ad σ) (As := [.long (x3).toInt64, .long (lN 1), .long (lN 500)]) (rest := [.int (b01 (inR x1 0 6 ∧ inR x2 0 6)), .ref h]) C (ctX4_isBetween l G ((x3).toInt64) (lN 1) (lN 500)) hW6 q2449 q2450 q85 q2451 rfl ⟨by decide, by decide, Eq.trans (b := some 3) (by decide +kernel) rfl⟩ (Nat.le_of_ble_eq_true rfl) (Nat.le_of_ble_eq_true rfl) (Nat.le_refl _) (Nat.le_refl _) hl.1 rfl (Nat.le_of_ble_eq_true rfl) dX4_cart_26 (k_permR _) (fun _ h => h.elim) (fun v H7 locs7 S1 hQ hz7 hW7 => ?_)
      obtain ⟨rfl, rfl⟩ := hQ
      have hW7 : Ws G A s (mW G h ad σ) H7 locs7 := hW7
      clear hW6
      refine W.eq (g2 := F0 m 29 ls [.int (b01 ((lN 1) ≤ (x3).toInt64 ∧ (x3).toInt64 ≤ (lN 500))), .int (b01 (inR x1 0 6 ∧ inR x2 0 6)), .ref h]) rfl ?_
      refine k_op (y := .int (b01 (inR x3 1 500))) (by rw [b01_cg (inR64 x3 1 500 rfl rfl)]; rfl) ?_
      refine kb_if_eq (tgt := 41) C dX4_cart_29 (by decide) (fun c29 => ?_) (fun c29 => ?_)
      · refine kn_iconst (a := 0) C (by decide) dX4_cart_41 ?_
        refine k_op (y := .int (b01 (inR x3 1 500 ∧ ¬ x1 = x2))) (by rw [b01_f (fun q => c29 q.1)]; rfl) ?_
        refine k_callV (Sc := mW G h ad σ) (Sr := []) (As := [.int (b01 (inR x1 0 6 ∧ inR x2 0 6)), .int (b01 (inR x3 1 500 ∧ ¬ x1 = x2))]) (rest := []) C (ctX4_goesBoth l G h ad σ (inR x1 0 6 ∧ inR x2 0 6) (inR x3 1 500 ∧ ¬ x1 = x2) hS) hW7 clX4 (hW7.get 0 0 rfl rfl) q2453 q2455 qs47 q85 q2456 rfl rfl ⟨by decide, by decide, Eq.trans (b := some 2) (by decide +kernel) rfl⟩ (Nat.le_of_ble_eq_true rfl) (Nat.le_of_ble_eq_true rfl) (Nat.le_refl _) (Nat.le_refl _) hl.1 rfl (Nat.le_of_ble_eq_true rfl) dX4_cart_42 (List.Perm.refl _) (fun _ h => h.elim) (fun v H8 locs8 S1 hQ hz8 hW8 => ?_)
        obtain ⟨rfl, rfl⟩ := hQ
        have hW8 : Ws G A s (mW G h ad (s2 σ 37 0 (c2_ (inR x1 0 6 ∧ inR x2 0 6) (inR x3 1 500 ∧ ¬ x1 = x2)))) H8 locs8 := hW8
        clear hW7
        refine W.eq (g2 := F0 m 45 ls [.int (b01 ((inR x1 0 6 ∧ inR x2 0 6) ∧ (inR x3 1 500 ∧ ¬ x1 = x2)))]) rfl ?_
        refine kb_if_ne (tgt := 50) C dX4_cart_45 (by decide) (fun c45 => ?_) (fun c45 => ?_)
        · exact absurd c45.1.2 c12
        · have hc : ¬ (c2_ (inR x1 0 6 ∧ inR x2 0 6) (inR x3 1 500 ∧ ¬ x1 = x2)) = 0 := c2_n c45
          refine kn_iconst (a := 0) C (by decide) dX4_cart_48 ?_
          exact k_iret C hW8 rfl ⟨by rw [if_neg (show ¬ cCart x1 x2 x3 = 0 from hc)], by rw [if_neg (show ¬ cCart x1 x2 x3 = 0 from hc)]; rfl⟩ (Nat.le_refl _) (Nat.le_refl _) dX4_cart_49
      · refine lv_iload_n C.hx C.hb dX4_cart_32 rfl (lv_at hl 1 rfl) ?_
        refine lv_iload_n C.hx C.hb dX4_cart_33 rfl (lv_at hl 2 rfl) ?_
        refine lv_icmp_eq (tgt := 41) C.hx C.hb dX4_cart_34 (by decide) (fun c34 => ?_) (fun c34 => ?_)
        · refine kn_iconst (a := 0) C (by decide) dX4_cart_41 ?_
          refine k_op (y := .int (b01 (inR x3 1 500 ∧ ¬ x1 = x2))) (by rw [b01_f (fun q => q.2 c34)]; rfl) ?_
          refine k_callV (Sc := mW G h ad σ) (Sr := []) (As := [.int (b01 (inR x1 0 6 ∧ inR x2 0 6)), .int (b01 (inR x3 1 500 ∧ ¬ x1 = x2))]) (rest := []) C (ctX4_goesBoth l G h ad σ (inR x1 0 6 ∧ inR x2 0 6) (inR x3 1 500 ∧ ¬ x1 = x2) hS) hW7 clX4 (hW7.get 0 0 rfl rfl) q2453 q2455 qs47 q85 q2456 rfl rfl ⟨by decide, by decide, Eq.trans (b := some 2) (by decide +kernel) rfl⟩ (Nat.le_of_ble_eq_true rfl) (Nat.le_of_ble_eq_true rfl) (Nat.le_refl _) (Nat.le_refl _) hl.1 rfl (Nat.le_of_ble_eq_true rfl) dX4_cart_42 (List.Perm.refl _) (fun _ h => h.elim) (fun v H9 locs9 S1 hQ hz9 hW9 => ?_)
          obtain ⟨rfl, rfl⟩ := hQ
          have hW9 : Ws G A s (mW G h ad (s2 σ 37 0 (c2_ (inR x1 0 6 ∧ inR x2 0 6) (inR x3 1 500 ∧ ¬ x1 = x2)))) H9 locs9 := hW9
          clear hW7
          refine W.eq (g2 := F0 m 45 ls [.int (b01 ((inR x1 0 6 ∧ inR x2 0 6) ∧ (inR x3 1 500 ∧ ¬ x1 = x2)))]) rfl ?_
          refine kb_if_ne (tgt := 50) C dX4_cart_45 (by decide) (fun c45 => ?_) (fun c45 => ?_)
          · exact absurd c45.1.2 c12
          · have hc : ¬ (c2_ (inR x1 0 6 ∧ inR x2 0 6) (inR x3 1 500 ∧ ¬ x1 = x2)) = 0 := c2_n c45
            refine kn_iconst (a := 0) C (by decide) dX4_cart_48 ?_
            exact k_iret C hW9 rfl ⟨by rw [if_neg (show ¬ cCart x1 x2 x3 = 0 from hc)], by rw [if_neg (show ¬ cCart x1 x2 x3 = 0 from hc)]; rfl⟩ (Nat.le_refl _) (Nat.le_refl _) dX4_cart_49
        · refine kn_iconst (a := 1) C (by decide) dX4_cart_37 ?_
          refine lv_goto (tgt := 42) C.hx C.hb dX4_cart_38 (by decide) ?_
          refine k_op (y := .int (b01 (inR x3 1 500 ∧ ¬ x1 = x2))) (by rw [b01_t ⟨c29, c34⟩]; rfl) ?_
          refine k_callV (Sc := mW G h ad σ) (Sr := []) (As := [.int (b01 (inR x1 0 6 ∧ inR x2 0 6)), .int (b01 (inR x3 1 500 ∧ ¬ x1 = x2))]) (rest := []) C (ctX4_goesBoth l G h ad σ (inR x1 0 6 ∧ inR x2 0 6) (inR x3 1 500 ∧ ¬ x1 = x2) hS) hW7 clX4 (hW7.get 0 0 rfl rfl) q2453 q2455 qs47 q85 q2456 rfl rfl ⟨by decide, by decide, Eq.trans (b := some 2) (by decide +kernel) rfl⟩ (Nat.le_of_ble_eq_true rfl) (Nat.le_of_ble_eq_true rfl) (Nat.le_refl _) (Nat.le_refl _) hl.1 rfl (Nat.le_of_ble_eq_true rfl) dX4_cart_42 (List.Perm.refl _) (fun _ h => h.elim) (fun v H10 locs10 S1 hQ hz10 hW10 => ?_)
          obtain ⟨rfl, rfl⟩ := hQ
          have hW10 : Ws G A s (mW G h ad (s2 σ 37 0 (c2_ (inR x1 0 6 ∧ inR x2 0 6) (inR x3 1 500 ∧ ¬ x1 = x2)))) H10 locs10 := hW10
          clear hW7
          refine W.eq (g2 := F0 m 45 ls [.int (b01 ((inR x1 0 6 ∧ inR x2 0 6) ∧ (inR x3 1 500 ∧ ¬ x1 = x2)))]) rfl ?_
          refine kb_if_ne (tgt := 50) C dX4_cart_45 (by decide) (fun c45 => ?_) (fun c45 => ?_)
          · exact absurd c45.1.2 c12
          · have hc : ¬ (c2_ (inR x1 0 6 ∧ inR x2 0 6) (inR x3 1 500 ∧ ¬ x1 = x2)) = 0 := c2_n c45
            refine kn_iconst (a := 0) C (by decide) dX4_cart_48 ?_
            exact k_iret C hW10 rfl ⟨by rw [if_neg (show ¬ cCart x1 x2 x3 = 0 from hc)], by rw [if_neg (show ¬ cCart x1 x2 x3 = 0 from hc)]; rfl⟩ (Nat.le_refl _) (Nat.le_refl _) dX4_cart_49
    · refine kn_iconst (a := 1) C (by decide) dX4_cart_15 ?_
      refine lv_goto (tgt := 20) C.hx C.hb dX4_cart_16 (by decide) ?_
      refine k_op (y := .int (b01 (inR x1 0 6 ∧ inR x2 0 6))) (by rw [b01_t ⟨c5, c12⟩]; rfl) ?_
      refine lv_iload_n C.hx C.hb dX4_cart_20 rfl (lv_at hl 3 rfl) ?_
      refine lv_i2l C.hx C.hb dX4_cart_21 rfl ?_
      refine kn_lconst (a := 1) C rfl dX4_cart_22 ?_
      refine lv_ldc2 (own := "BogsignModel") (v := (lN 500)) C.hx C.hb C.hown (C.hts _ q2634) dX4_cart_23 ?_
      refine k_callS (Sc := []) (Sr := mW G h ad σ) (As := [.long (x3).toInt64, .long (lN 1), .long (lN 500)]) (rest := [.int (b01 (inR x1 0 6 ∧ inR x2 0 6)), .ref h]) C (ctX4_isBetween l G ((x3).toInt64) (lN 1) (lN 500)) hW6 q2449 q2450 q85 q2451 rfl ⟨by decide, by decide, Eq.trans (b := some 3) (by decide +kernel) rfl⟩ (Nat.le_of_ble_eq_true rfl) (Nat.le_of_ble_eq_true rfl) (Nat.le_refl _) (Nat.le_refl _) hl.1 rfl (Nat.le_of_ble_eq_true rfl) dX4_cart_26 (k_permR _) (fun _ h => h.elim) (fun v H11 locs11 S1 hQ hz11 hW11 => ?_)
      obtain ⟨rfl, rfl⟩ := hQ
      have hW11 : Ws G A s (mW G h ad σ) H11 locs11 := hW11
      clear hW6
      refine W.eq (g2 := F0 m 29 ls [.int (b01 ((lN 1) ≤ (x3).toInt64 ∧ (x3).toInt64 ≤ (lN 500))), .int (b01 (inR x1 0 6 ∧ inR x2 0 6)), .ref h]) rfl ?_
      refine k_op (y := .int (b01 (inR x3 1 500))) (by rw [b01_cg (inR64 x3 1 500 rfl rfl)]; rfl) ?_
      refine kb_if_eq (tgt := 41) C dX4_cart_29 (by decide) (fun c29 => ?_) (fun c29 => ?_)
      · refine kn_iconst (a := 0) C (by decide) dX4_cart_41 ?_
        refine k_op (y := .int (b01 (inR x3 1 500 ∧ ¬ x1 = x2))) (by rw [b01_f (fun q => c29 q.1)]; rfl) ?_
        refine k_callV (Sc := mW G h ad σ) (Sr := []) (As := [.int (b01 (inR x1 0 6 ∧ inR x2 0 6)), .int (b01 (inR x3 1 500 ∧ ¬ x1 = x2))]) (rest := []) C (ctX4_goesBoth l G h ad σ (inR x1 0 6 ∧ inR x2 0 6) (inR x3 1 500 ∧ ¬ x1 = x2) hS) hW11 clX4 (hW11.get 0 0 rfl rfl) q2453 q2455 qs47 q85 q2456 rfl rfl ⟨by decide, by decide, Eq.trans (b := some 2) (by decide +kernel) rfl⟩ (Nat.le_of_ble_eq_true rfl) (Nat.le_of_ble_eq_true rfl) (Nat.le_refl _) (Nat.le_refl _) hl.1 rfl (Nat.le_of_ble_eq_true rfl) dX4_cart_42 (List.Perm.refl _) (fun _ h => h.elim) (fun v H12 locs12 S1 hQ hz12 hW12 => ?_)
        obtain ⟨rfl, rfl⟩ := hQ
        have hW12 : Ws G A s (mW G h ad (s2 σ 37 0 (c2_ (inR x1 0 6 ∧ inR x2 0 6) (inR x3 1 500 ∧ ¬ x1 = x2)))) H12 locs12 := hW12
        clear hW11
        refine W.eq (g2 := F0 m 45 ls [.int (b01 ((inR x1 0 6 ∧ inR x2 0 6) ∧ (inR x3 1 500 ∧ ¬ x1 = x2)))]) rfl ?_
        refine kb_if_ne (tgt := 50) C dX4_cart_45 (by decide) (fun c45 => ?_) (fun c45 => ?_)
        · exact absurd c45.2.1 c29
        · have hc : ¬ (c2_ (inR x1 0 6 ∧ inR x2 0 6) (inR x3 1 500 ∧ ¬ x1 = x2)) = 0 := c2_n c45
          refine kn_iconst (a := 0) C (by decide) dX4_cart_48 ?_
          exact k_iret C hW12 rfl ⟨by rw [if_neg (show ¬ cCart x1 x2 x3 = 0 from hc)], by rw [if_neg (show ¬ cCart x1 x2 x3 = 0 from hc)]; rfl⟩ (Nat.le_refl _) (Nat.le_refl _) dX4_cart_49
      · refine lv_iload_n C.hx C.hb dX4_cart_32 rfl (lv_at hl 1 rfl) ?_
        refine lv_iload_n C.hx C.hb dX4_cart_33 rfl (lv_at hl 2 rfl) ?_
        refine lv_icmp_eq (tgt := 41) C.hx C.hb dX4_cart_34 (by decide) (fun c34 => ?_) (fun c34 => ?_)
        · refine kn_iconst (a := 0) C (by decide) dX4_cart_41 ?_
          refine k_op (y := .int (b01 (inR x3 1 500 ∧ ¬ x1 = x2))) (by rw [b01_f (fun q => q.2 c34)]; rfl) ?_
          refine k_callV (Sc := mW G h ad σ) (Sr := []) (As := [.int (b01 (inR x1 0 6 ∧ inR x2 0 6)), .int (b01 (inR x3 1 500 ∧ ¬ x1 = x2))]) (rest := []) C (ctX4_goesBoth l G h ad σ (inR x1 0 6 ∧ inR x2 0 6) (inR x3 1 500 ∧ ¬ x1 = x2) hS) hW11 clX4 (hW11.get 0 0 rfl rfl) q2453 q2455 qs47 q85 q2456 rfl rfl ⟨by decide, by decide, Eq.trans (b := some 2) (by decide +kernel) rfl⟩ (Nat.le_of_ble_eq_true rfl) (Nat.le_of_ble_eq_true rfl) (Nat.le_refl _) (Nat.le_refl _) hl.1 rfl (Nat.le_of_ble_eq_true rfl) dX4_cart_42 (List.Perm.refl _) (fun _ h => h.elim) (fun v H13 locs13 S1 hQ hz13 hW13 => ?_)
          obtain ⟨rfl, rfl⟩ := hQ
          have hW13 : Ws G A s (mW G h ad (s2 σ 37 0 (c2_ (inR x1 0 6 ∧ inR x2 0 6) (inR x3 1 500 ∧ ¬ x1 = x2)))) H13 locs13 := hW13
          clear hW11
          refine W.eq (g2 := F0 m 45 ls [.int (b01 ((inR x1 0 6 ∧ inR x2 0 6) ∧ (inR x3 1 500 ∧ ¬ x1 = x2)))]) rfl ?_
          refine kb_if_ne (tgt := 50) C dX4_cart_45 (by decide) (fun c45 => ?_) (fun c45 => ?_)
          · exact absurd c34 c45.2.2
          · have hc : ¬ (c2_ (inR x1 0 6 ∧ inR x2 0 6) (inR x3 1 500 ∧ ¬ x1 = x2)) = 0 := c2_n c45
            refine kn_iconst (a := 0) C (by decide) dX4_cart_48 ?_
            exact k_iret C hW13 rfl ⟨by rw [if_neg (show ¬ cCart x1 x2 x3 = 0 from hc)], by rw [if_neg (show ¬ cCart x1 x2 x3 = 0 from hc)]; rfl⟩ (Nat.le_refl _) (Nat.le_refl _) dX4_cart_49
        · refine kn_iconst (a := 1) C (by decide) dX4_cart_37 ?_
          refine lv_goto (tgt := 42) C.hx C.hb dX4_cart_38 (by decide) ?_
          refine k_op (y := .int (b01 (inR x3 1 500 ∧ ¬ x1 = x2))) (by rw [b01_t ⟨c29, c34⟩]; rfl) ?_
          refine k_callV (Sc := mW G h ad σ) (Sr := []) (As := [.int (b01 (inR x1 0 6 ∧ inR x2 0 6)), .int (b01 (inR x3 1 500 ∧ ¬ x1 = x2))]) (rest := []) C (ctX4_goesBoth l G h ad σ (inR x1 0 6 ∧ inR x2 0 6) (inR x3 1 500 ∧ ¬ x1 = x2) hS) hW11 clX4 (hW11.get 0 0 rfl rfl) q2453 q2455 qs47 q85 q2456 rfl rfl ⟨by decide, by decide, Eq.trans (b := some 2) (by decide +kernel) rfl⟩ (Nat.le_of_ble_eq_true rfl) (Nat.le_of_ble_eq_true rfl) (Nat.le_refl _) (Nat.le_refl _) hl.1 rfl (Nat.le_of_ble_eq_true rfl) dX4_cart_42 (List.Perm.refl _) (fun _ h => h.elim) (fun v H14 locs14 S1 hQ hz14 hW14 => ?_)
          obtain ⟨rfl, rfl⟩ := hQ
          have hW14 : Ws G A s (mW G h ad (s2 σ 37 0 (c2_ (inR x1 0 6 ∧ inR x2 0 6) (inR x3 1 500 ∧ ¬ x1 = x2)))) H14 locs14 := hW14
          clear hW11
          refine W.eq (g2 := F0 m 45 ls [.int (b01 ((inR x1 0 6 ∧ inR x2 0 6) ∧ (inR x3 1 500 ∧ ¬ x1 = x2)))]) rfl ?_
          refine kb_if_ne (tgt := 50) C dX4_cart_45 (by decide) (fun c45 => ?_) (fun c45 => ?_)
          · have hc : (c2_ (inR x1 0 6 ∧ inR x2 0 6) (inR x3 1 500 ∧ ¬ x1 = x2)) = 0 := c2_0 c45
            rw [hc] at hW14
            obtain ⟨hx15, hy15, hz15⟩ := iN_eq (a := 0) (b := 6) (by decide) c45.1.1
            have hl15 : lv_has ls 6 [(0, .ref h), (1, .int (nI (iN x1))), (2, .int x2), (3, .int x3)] := by rw [← hx15]; exact hl
            obtain ⟨hx16, hy16, hz16⟩ := iN_eq (a := 0) (b := 6) (by decide) c45.1.2
            have hl16 : lv_has ls 6 [(0, .ref h), (1, .int (nI (iN x1))), (2, .int (nI (iN x2))), (3, .int x3)] := by rw [← hx16]; exact hl15
            obtain ⟨hx17, hy17, hz17⟩ := iN_eq (a := 1) (b := 500) (by decide) c45.2.1
            have hl17 : lv_has ls 6 [(0, .ref h), (1, .int (nI (iN x1))), (2, .int (nI (iN x2))), (3, .int (nI (iN x3)))] := by rw [← hx17]; exact hl16
            have hq1 := c45.1.1
            have hq2 := c45.1.2
            have hne : iN x1 ≠ iN x2 := fun q => c45.2.2 (Int32.toInt_inj.mp (by unfold iN at q; omega))
            refine lv_iload_n C.hx C.hb dX4_cart_50 rfl (lv_at hl17 1 rfl) ?_
            refine lv_istore (lv' := [(4, .int (nI (iN x1))), (0, .ref h), (1, .int (nI (iN x1))), (2, .int (nI (iN x2))), (3, .int (nI (iN x3)))]) C.hx C.hb dX4_cart_51 hl17 (Nat.le_of_ble_eq_true rfl) rfl (fun ls18 hl18 => ?_)
            clear hl17
            have La : ∀ (k19 : Nat) (d1 mk1 : Nat) (τ : Sg), (cartR (iN x1 < iN x2) (iN x3) d1 mk1 τ = cartF σ (iN x1) (iN x2) (iN x3)) → (Sf τ) → (∀ s, τ 2 s = NONE ∨ τ 2 s < 2 ^ 30) → ((iN x1 < iN x2 ∧ mk1 + d1 = iN x2 ∧ mk1 ≤ 6) ∨ (¬ iN x1 < iN x2 ∧ mk1 = iN x2 + d1 ∧ mk1 ≤ 6)) → d1 < k19 → ∀ (H19 : Heap) (locs19 : List Loc) (ls19 : Array Slot), Ws G A s (mW G h ad τ) H19 locs19 → lv_has ls19 6 [(4, .int (nI mk1)), (0, .ref h), (1, .int (nI (iN x1))), (2, .int (nI (iN x2))), (3, .int (nI (iN x3)))] → W p l e ({ frames := 4, cells := 0, slots := 0, locals := 90 } : Room) s m ([.ref h, .int x1, .int x2, .int x3] : List Value).toArray below meth c H19 locs19 0 0 (MQ below (cQ G A (Q_ctX4_cart G h ad σ x1 x2 x3)) ([.ref h, .int x1, .int x2, .int x3] : List Value).toArray s 0 0 A) (F0 m 53 ls19 []) := by
              intro k19
              induction k19 with
              | zero => intro d1 mk1 τ hLa_0 hLa_1 hLa_2 hLa_3 hm19; exact absurd hm19 (Nat.not_lt_zero _)
              | succ k19 ih19 =>
                intro d1 mk1 τ hLa_0 hLa_1 hLa_2 hLa_3 hm19 H19 locs19 ls19 hW19 hl19
                have hT : Bd τ := hLa_1.1
                have h32t : τ 32 0 ≤ 200 := Nat.lt_succ_iff.mp (hT.lt 32 (by decide) 0)
                refine lv_iload C.hx C.hb dX4_cart_53 (lv_at hl19 0 rfl) ?_
                refine lv_iload_n C.hx C.hb dX4_cart_55 rfl (lv_at hl19 3 rfl) ?_
                refine kn_icmp_eq (tgt := 142) C (by omega) (by omega) dX4_cart_56 (by decide) (fun c56 => ?_) (fun c56 => ?_)
                · refine lv_iload C.hx C.hb dX4_cart_142 (lv_at hl19 0 rfl) ?_
                  have hR9 : cartF σ (iN x1) (iN x2) (iN x3) = (mk1, τ) := by rw [← hLa_0, show d1 = 0 by omega]; rfl
                  exact k_iret C hW19 rfl ⟨by rw [if_pos (show cCart x1 x2 x3 = 0 from hc), hR9], by rw [if_pos (show cCart x1 x2 x3 = 0 from hc), hR9]⟩ (Nat.le_refl _) (Nat.le_refl _) dX4_cart_144
                · refine lv_aload_n C.hx C.hb dX4_cart_59 rfl (lv_at hl19 1 rfl) ?_
                  refine lv_iload_n C.hx C.hb dX4_cart_60 rfl (lv_at hl19 2 rfl) ?_
                  refine lv_iload_n C.hx C.hb dX4_cart_61 rfl (lv_at hl19 3 rfl) ?_
                  refine kn_icmp_ge (tgt := 70) C (by omega) (by omega) dX4_cart_62 (by decide) (fun c62 => ?_) (fun c62 => ?_)
                  · refine lv_iload C.hx C.hb dX4_cart_70 (lv_at hl19 0 rfl) ?_
                    refine kn_iconst (a := 1) C (by decide) dX4_cart_72 ?_
                    refine kn_isub C (by omega) dX4_cart_73 ?_
                    have hud : ¬ iN x1 < iN x2 := by omega
                    have hk6 : (mk1 - 1) < 6 := by omega
                    have htc := takesF_cases τ (mk1 - 1) hk6
                    have hly := lying_le τ (takesF τ (mk1 - 1)) (τ 32 0)
                    have hmul : τ 0 (takesF τ (mk1 - 1)) * iN x3 ≤ 50 * 500 := Nat.mul_le_mul (Nat.le_of_lt_succ (hT.lt 0 (by decide) _)) (by omega)
                    refine k_callV (Sc := mW G h ad τ) (Sr := []) (As := [.int (nI (mk1 - 1))]) (rest := []) C (ctX4_takesBy l G h ad τ (mk1 - 1) hLa_1 hk6 hLa_2) hW19 clX4 (hW19.get 0 0 rfl rfl) q2635 q2637 qs70 q85 q2638 rfl rfl ⟨by decide, by decide, Eq.trans (b := some 1) (by decide +kernel) rfl⟩ (Nat.le_of_ble_eq_true rfl) (Nat.le_of_ble_eq_true rfl) (Nat.le_refl _) (Nat.le_refl _) hl19.1 rfl (Nat.le_of_ble_eq_true rfl) dX4_cart_74 (List.Perm.refl _) (fun _ h => h.elim) (fun v H20 locs20 S1 hQ hz20 hW20 => ?_)
                    obtain ⟨rfl, rfl⟩ := hQ
                    have hW20 : Ws G A s (mW G h ad τ) H20 locs20 := hW20
                    clear hW19
                    refine W.eq (g2 := F0 m 77 ls19 [.int (nI (takesF τ (mk1 - 1)))]) rfl ?_
                    refine lv_istore (lv' := [(5, .int (nI (takesF τ (mk1 - 1)))), (4, .int (nI mk1)), (0, .ref h), (1, .int (nI (iN x1))), (2, .int (nI (iN x2))), (3, .int (nI (iN x3)))]) C.hx C.hb dX4_cart_77 hl19 (Nat.le_of_ble_eq_true rfl) rfl (fun ls21 hl21 => ?_)
                    clear hl19
                    refine lv_iload C.hx C.hb dX4_cart_79 (lv_at hl21 0 rfl) ?_
                    refine lv_iconst (v := nI NONE) C.hx C.hb dX4_cart_81 (by decide) ?_
                    refine kw_icmp_ne (tgt := 88) C (takes_w hk6) (by decide) dX4_cart_82 (by decide) (fun c82 => ?_) (fun c82 => ?_)
                    · have htk : takesF τ (mk1 - 1) < 12 := (htc.resolve_left c82).1
                      have hlp : 0 < lyingN τ (takesF τ (mk1 - 1)) (τ 32 0) := (htc.resolve_left c82).2
                      refine lv_aload_n C.hx C.hb dX4_cart_88 rfl (lv_at hl21 2 rfl) ?_
                      refine k_get (v := .ref (ad 3)) C clX4 (hW20.get 0 0 rfl rfl) 3 (Nat.le_of_ble_eq_true rfl) rfl q2327 rfl rfl dX4_cart_89 ?_
                      refine lv_iload C.hx C.hb dX4_cart_92 (lv_at hl21 0 rfl) ?_
                      refine lv_dup2_11 C.hx C.hb dX4_cart_94 rfl rfl ?_
                      refine k_iald C (f := (fun i => nI (τ 3 i))) rfl (hW20.get 4 0 rfl rfl) (by omega) (by decide) dX4_cart_95 ?_
                      refine lv_iload_n C.hx C.hb dX4_cart_96 rfl (lv_at hl21 5 rfl) ?_
                      refine kn_iadd C  dX4_cart_97 ?_
                      refine k_iast (S' := mW G h ad (s2 τ 3 (takesF τ (mk1 - 1)) ((τ 3 (takesF τ (mk1 - 1))) + (iN x3)))) C hW20 4 0 rfl rfl rfl (by omega) (by decide) dX4_cart_98 (mset3 G h ad _ (takesF τ (mk1 - 1)) ((τ 3 (takesF τ (mk1 - 1))) + (iN x3))) (fun H22 locs22 hW22 => ?_)
                      clear hW20
                      refine lv_aload_n C.hx C.hb dX4_cart_99 rfl (lv_at hl21 2 rfl) ?_
                      refine lv_iload C.hx C.hb dX4_cart_100 (lv_at hl21 0 rfl) ?_
                      refine lv_aload_n C.hx C.hb dX4_cart_102 rfl (lv_at hl21 2 rfl) ?_
                      refine k_get (v := .ref (ad 0)) C clX4 (hW22.get 0 0 rfl rfl) 0 (Nat.le_of_ble_eq_true rfl) rfl q2324 rfl rfl dX4_cart_103 ?_
                      refine lv_iload C.hx C.hb dX4_cart_106 (lv_at hl21 0 rfl) ?_
                      refine k_iald C (f := (fun i => nI ((s2 τ 3 (takesF τ (mk1 - 1)) ((τ 3 (takesF τ (mk1 - 1))) + (iN x3))) 0 i))) rfl (hW22.get 1 0 rfl rfl) (by omega) (by decide) dX4_cart_108 ?_
                      refine k_op (y := .int (nI (τ 0 (takesF τ (mk1 - 1))))) (by simp [s2_rd]) ?_
                      refine kn_i2l C (Nat.lt_of_lt_of_le (hT.lt 0 (by decide) (takesF τ (mk1 - 1))) (by decide)) dX4_cart_109 ?_
                      refine lv_iload_n C.hx C.hb dX4_cart_110 rfl (lv_at hl21 5 rfl) ?_
                      refine kn_i2l C (by omega) dX4_cart_111 ?_
                      refine kn_lmul C  dX4_cart_112 ?_
                      refine lv_aload_n C.hx C.hb dX4_cart_113 rfl (lv_at hl21 2 rfl) ?_
                      refine lv_iload C.hx C.hb dX4_cart_114 (lv_at hl21 0 rfl) ?_
                      refine k_callV (Sc := mW G h ad (s2 τ 3 (takesF τ (mk1 - 1)) ((τ 3 (takesF τ (mk1 - 1))) + (iN x3)))) (Sr := []) (As := [.int (nI (takesF τ (mk1 - 1)))]) (rest := [.long (lN ((τ 0 (takesF τ (mk1 - 1))) * (iN x3))), .int (nI (takesF τ (mk1 - 1))), .ref h]) C (ctX4_lying l G h ad (s2 τ 3 (takesF τ (mk1 - 1)) ((τ 3 (takesF τ (mk1 - 1))) + (iN x3))) (takesF τ (mk1 - 1)) (hLa_1.s2o (by decide) (Or.inl rfl)) htk) hW22 clX4 (hW22.get 0 0 rfl rfl) q2607 q2609 qs66 q85 q2610 rfl rfl ⟨by decide, by decide, Eq.trans (b := some 1) (by decide +kernel) rfl⟩ (Nat.le_of_ble_eq_true rfl) (Nat.le_of_ble_eq_true rfl) (Nat.le_refl _) (Nat.le_refl _) hl21.1 rfl (Nat.le_of_ble_eq_true rfl) dX4_cart_116 (List.Perm.refl _) (fun _ h => h.elim) (fun v H23 locs23 S1 hQ hz23 hW23 => ?_)
                      obtain ⟨rfl, rfl⟩ := hQ
                      have hW23 : Ws G A s (mW G h ad (s2 τ 3 (takesF τ (mk1 - 1)) ((τ 3 (takesF τ (mk1 - 1))) + (iN x3)))) H23 locs23 := hW23
                      clear hW22
                      refine W.eq (g2 := F0 m 119 ls21 [.int (nI (lyingN τ (takesF τ (mk1 - 1)) (τ 32 0))), .long (lN ((τ 0 (takesF τ (mk1 - 1))) * (iN x3))), .int (nI (takesF τ (mk1 - 1))), .ref h]) rfl ?_
                      refine kn_i2l C (by have : τ 32 0 < 201 := hT.lt 32 (by decide) 0; omega) dX4_cart_119 ?_
                      refine kn_ldiv C (by omega) (by have : τ 32 0 < 201 := hT.lt 32 (by decide) 0; omega) (by have : τ 32 0 < 201 := hT.lt 32 (by decide) 0; omega) dX4_cart_120 ?_
                      refine k_callV (Sc := mW G h ad (s2 τ 3 (takesF τ (mk1 - 1)) ((τ 3 (takesF τ (mk1 - 1))) + (iN x3)))) (Sr := []) (As := [.int (nI (takesF τ (mk1 - 1))), .long (lN (((τ 0 (takesF τ (mk1 - 1))) * (iN x3)) / (lyingN τ (takesF τ (mk1 - 1)) (τ 32 0))))]) (rest := []) C (ctX4_sinks l G h ad (s2 τ 3 (takesF τ (mk1 - 1)) ((τ 3 (takesF τ (mk1 - 1))) + (iN x3))) (takesF τ (mk1 - 1)) _ (hLa_1.s2o (by decide) (Or.inl rfl)) htk (Nat.le_trans (Nat.div_le_self _ _) hmul)) hW23 clX4 (hW23.get 0 0 rfl rfl) q2493 q2495 qs57 q85 q2496 rfl rfl ⟨by decide, by decide, Eq.trans (b := some 2) (by decide +kernel) rfl⟩ (Nat.le_of_ble_eq_true rfl) (Nat.le_of_ble_eq_true rfl) (Nat.le_refl _) (Nat.le_refl _) hl21.1 rfl (Nat.le_of_ble_eq_true rfl) dX4_cart_121 (List.Perm.refl _) (fun _ h => h.elim) (fun v H24 locs24 S1 hQ hz24 hW24 => ?_)
                      obtain ⟨rfl, rfl⟩ := hQ
                      have hW24 : Ws G A s (mW G h ad (cart1 τ (iN x3) (takesF τ (mk1 - 1)))) H24 locs24 := hW24
                      clear hW23
                      refine W.eq (g2 := F0 m 124 ls21 []) rfl ?_
                      refine lv_iload C.hx C.hb dX4_cart_124 (lv_at hl21 1 rfl) ?_
                      refine lv_iload_n C.hx C.hb dX4_cart_126 rfl (lv_at hl21 3 rfl) ?_
                      refine lv_iload_n C.hx C.hb dX4_cart_127 rfl (lv_at hl21 4 rfl) ?_
                      refine kn_icmp_ge (tgt := 135) C (by omega) (by omega) dX4_cart_128 (by decide) (fun c128 => ?_) (fun c128 => ?_)
                      · refine lv_iconst (v := nI NONE) C.hx C.hb dX4_cart_135 (by decide) ?_
                        refine kn_iadd C dX4_cart_136 ?_
                        refine k_op (y := .int (nI (mk1 - 1))) (congrArg Value.int (nI_dec (by omega))) ?_
                        refine lv_istore (lv' := [(4, .int (nI (mk1 - 1))), (5, .int (nI (takesF τ (mk1 - 1)))), (0, .ref h), (1, .int (nI (iN x1))), (2, .int (nI (iN x2))), (3, .int (nI (iN x3)))]) C.hx C.hb dX4_cart_137 hl21 (Nat.le_of_ble_eq_true rfl) rfl (fun ls25 hl25 => ?_)
                        clear hl21
                        refine lv_goto (tgt := 53) C.hx C.hb dX4_cart_139 (by decide) ?_
                        exact ih19 (d1 - 1) (mk1 - 1) (cart1 τ (iN x3) (takesF τ (mk1 - 1))) (by rw [← hLa_0]; refine Eq.symm (Eq.trans (cartR_step (by omega) (by rw [if_neg hud]; exact c82)) ?_); rw [if_neg hud, if_neg hud]) (cart1_ok hLa_1 (by omega)) (fun s => by rw [cart1_o (by decide)]; exact hLa_2 s) (by omega) (by omega) _ _ _ hW24 (lv_sub hl25 [0, 2, 3, 4, 5] rfl)
                      · exact absurd (by omega : iN x1 < iN x2) hud
                    · refine lv_iload C.hx C.hb dX4_cart_85 (lv_at hl21 1 rfl) ?_
                      have hR9 : cartF σ (iN x1) (iN x2) (iN x3) = (mk1, τ) := by rw [← hLa_0]; exact cartR_stop (by omega) (by rw [if_neg hud]; exact c82)
                      exact k_iret C hW20 rfl ⟨by rw [if_pos (show cCart x1 x2 x3 = 0 from hc), hR9], by rw [if_pos (show cCart x1 x2 x3 = 0 from hc), hR9]⟩ (Nat.le_refl _) (Nat.le_refl _) dX4_cart_87
                  · refine lv_iload C.hx C.hb dX4_cart_65 (lv_at hl19 0 rfl) ?_
                    refine lv_goto (tgt := 74) C.hx C.hb dX4_cart_67 (by decide) ?_
                    have hud : iN x1 < iN x2 := by omega
                    have hk6 : mk1 < 6 := by omega
                    have htc := takesF_cases τ mk1 hk6
                    have hly := lying_le τ (takesF τ mk1) (τ 32 0)
                    have hmul : τ 0 (takesF τ mk1) * iN x3 ≤ 50 * 500 := Nat.mul_le_mul (Nat.le_of_lt_succ (hT.lt 0 (by decide) _)) (by omega)
                    refine k_callV (Sc := mW G h ad τ) (Sr := []) (As := [.int (nI mk1)]) (rest := []) C (ctX4_takesBy l G h ad τ mk1 hLa_1 hk6 hLa_2) hW19 clX4 (hW19.get 0 0 rfl rfl) q2635 q2637 qs70 q85 q2638 rfl rfl ⟨by decide, by decide, Eq.trans (b := some 1) (by decide +kernel) rfl⟩ (Nat.le_of_ble_eq_true rfl) (Nat.le_of_ble_eq_true rfl) (Nat.le_refl _) (Nat.le_refl _) hl19.1 rfl (Nat.le_of_ble_eq_true rfl) dX4_cart_74 (List.Perm.refl _) (fun _ h => h.elim) (fun v H26 locs26 S1 hQ hz26 hW26 => ?_)
                    obtain ⟨rfl, rfl⟩ := hQ
                    have hW26 : Ws G A s (mW G h ad τ) H26 locs26 := hW26
                    clear hW19
                    refine W.eq (g2 := F0 m 77 ls19 [.int (nI (takesF τ mk1))]) rfl ?_
                    refine lv_istore (lv' := [(5, .int (nI (takesF τ mk1))), (4, .int (nI mk1)), (0, .ref h), (1, .int (nI (iN x1))), (2, .int (nI (iN x2))), (3, .int (nI (iN x3)))]) C.hx C.hb dX4_cart_77 hl19 (Nat.le_of_ble_eq_true rfl) rfl (fun ls27 hl27 => ?_)
                    clear hl19
                    refine lv_iload C.hx C.hb dX4_cart_79 (lv_at hl27 0 rfl) ?_
                    refine lv_iconst (v := nI NONE) C.hx C.hb dX4_cart_81 (by decide) ?_
                    refine kw_icmp_ne (tgt := 88) C (takes_w hk6) (by decide) dX4_cart_82 (by decide) (fun c82 => ?_) (fun c82 => ?_)
                    · have htk : takesF τ mk1 < 12 := (htc.resolve_left c82).1
                      have hlp : 0 < lyingN τ (takesF τ mk1) (τ 32 0) := (htc.resolve_left c82).2
                      refine lv_aload_n C.hx C.hb dX4_cart_88 rfl (lv_at hl27 2 rfl) ?_
                      refine k_get (v := .ref (ad 3)) C clX4 (hW26.get 0 0 rfl rfl) 3 (Nat.le_of_ble_eq_true rfl) rfl q2327 rfl rfl dX4_cart_89 ?_
                      refine lv_iload C.hx C.hb dX4_cart_92 (lv_at hl27 0 rfl) ?_
                      refine lv_dup2_11 C.hx C.hb dX4_cart_94 rfl rfl ?_
                      refine k_iald C (f := (fun i => nI (τ 3 i))) rfl (hW26.get 4 0 rfl rfl) (by omega) (by decide) dX4_cart_95 ?_
                      refine lv_iload_n C.hx C.hb dX4_cart_96 rfl (lv_at hl27 5 rfl) ?_
                      refine kn_iadd C  dX4_cart_97 ?_
                      refine k_iast (S' := mW G h ad (s2 τ 3 (takesF τ mk1) ((τ 3 (takesF τ mk1)) + (iN x3)))) C hW26 4 0 rfl rfl rfl (by omega) (by decide) dX4_cart_98 (mset3 G h ad _ (takesF τ mk1) ((τ 3 (takesF τ mk1)) + (iN x3))) (fun H28 locs28 hW28 => ?_)
                      clear hW26
                      refine lv_aload_n C.hx C.hb dX4_cart_99 rfl (lv_at hl27 2 rfl) ?_
                      refine lv_iload C.hx C.hb dX4_cart_100 (lv_at hl27 0 rfl) ?_
                      refine lv_aload_n C.hx C.hb dX4_cart_102 rfl (lv_at hl27 2 rfl) ?_
                      refine k_get (v := .ref (ad 0)) C clX4 (hW28.get 0 0 rfl rfl) 0 (Nat.le_of_ble_eq_true rfl) rfl q2324 rfl rfl dX4_cart_103 ?_
                      refine lv_iload C.hx C.hb dX4_cart_106 (lv_at hl27 0 rfl) ?_
                      refine k_iald C (f := (fun i => nI ((s2 τ 3 (takesF τ mk1) ((τ 3 (takesF τ mk1)) + (iN x3))) 0 i))) rfl (hW28.get 1 0 rfl rfl) (by omega) (by decide) dX4_cart_108 ?_
                      refine k_op (y := .int (nI (τ 0 (takesF τ mk1)))) (by simp [s2_rd]) ?_
                      refine kn_i2l C (Nat.lt_of_lt_of_le (hT.lt 0 (by decide) (takesF τ mk1)) (by decide)) dX4_cart_109 ?_
                      refine lv_iload_n C.hx C.hb dX4_cart_110 rfl (lv_at hl27 5 rfl) ?_
                      refine kn_i2l C (by omega) dX4_cart_111 ?_
                      refine kn_lmul C  dX4_cart_112 ?_
                      refine lv_aload_n C.hx C.hb dX4_cart_113 rfl (lv_at hl27 2 rfl) ?_
                      refine lv_iload C.hx C.hb dX4_cart_114 (lv_at hl27 0 rfl) ?_
                      refine k_callV (Sc := mW G h ad (s2 τ 3 (takesF τ mk1) ((τ 3 (takesF τ mk1)) + (iN x3)))) (Sr := []) (As := [.int (nI (takesF τ mk1))]) (rest := [.long (lN ((τ 0 (takesF τ mk1)) * (iN x3))), .int (nI (takesF τ mk1)), .ref h]) C (ctX4_lying l G h ad (s2 τ 3 (takesF τ mk1) ((τ 3 (takesF τ mk1)) + (iN x3))) (takesF τ mk1) (hLa_1.s2o (by decide) (Or.inl rfl)) htk) hW28 clX4 (hW28.get 0 0 rfl rfl) q2607 q2609 qs66 q85 q2610 rfl rfl ⟨by decide, by decide, Eq.trans (b := some 1) (by decide +kernel) rfl⟩ (Nat.le_of_ble_eq_true rfl) (Nat.le_of_ble_eq_true rfl) (Nat.le_refl _) (Nat.le_refl _) hl27.1 rfl (Nat.le_of_ble_eq_true rfl) dX4_cart_116 (List.Perm.refl _) (fun _ h => h.elim) (fun v H29 locs29 S1 hQ hz29 hW29 => ?_)
                      obtain ⟨rfl, rfl⟩ := hQ
                      have hW29 : Ws G A s (mW G h ad (s2 τ 3 (takesF τ mk1) ((τ 3 (takesF τ mk1)) + (iN x3)))) H29 locs29 := hW29
                      clear hW28
                      refine W.eq (g2 := F0 m 119 ls27 [.int (nI (lyingN τ (takesF τ mk1) (τ 32 0))), .long (lN ((τ 0 (takesF τ mk1)) * (iN x3))), .int (nI (takesF τ mk1)), .ref h]) rfl ?_
                      refine kn_i2l C (by have : τ 32 0 < 201 := hT.lt 32 (by decide) 0; omega) dX4_cart_119 ?_
                      refine kn_ldiv C (by have : τ 0 (takesF τ mk1) < 51 := hT.lt 0 (by decide) (takesF τ mk1); omega) (by have : τ 32 0 < 201 := hT.lt 32 (by decide) 0; omega) (by have : τ 32 0 < 201 := hT.lt 32 (by decide) 0; omega) dX4_cart_120 ?_
                      refine k_callV (Sc := mW G h ad (s2 τ 3 (takesF τ mk1) ((τ 3 (takesF τ mk1)) + (iN x3)))) (Sr := []) (As := [.int (nI (takesF τ mk1)), .long (lN (((τ 0 (takesF τ mk1)) * (iN x3)) / (lyingN τ (takesF τ mk1) (τ 32 0))))]) (rest := []) C (ctX4_sinks l G h ad (s2 τ 3 (takesF τ mk1) ((τ 3 (takesF τ mk1)) + (iN x3))) (takesF τ mk1) _ (hLa_1.s2o (by decide) (Or.inl rfl)) htk (Nat.le_trans (Nat.div_le_self _ _) hmul)) hW29 clX4 (hW29.get 0 0 rfl rfl) q2493 q2495 qs57 q85 q2496 rfl rfl ⟨by decide, by decide, Eq.trans (b := some 2) (by decide +kernel) rfl⟩ (Nat.le_of_ble_eq_true rfl) (Nat.le_of_ble_eq_true rfl) (Nat.le_refl _) (Nat.le_refl _) hl27.1 rfl (Nat.le_of_ble_eq_true rfl) dX4_cart_121 (List.Perm.refl _) (fun _ h => h.elim) (fun v H30 locs30 S1 hQ hz30 hW30 => ?_)
                      obtain ⟨rfl, rfl⟩ := hQ
                      have hW30 : Ws G A s (mW G h ad (cart1 τ (iN x3) (takesF τ mk1))) H30 locs30 := hW30
                      clear hW29
                      refine W.eq (g2 := F0 m 124 ls27 []) rfl ?_
                      refine lv_iload C.hx C.hb dX4_cart_124 (lv_at hl27 1 rfl) ?_
                      refine lv_iload_n C.hx C.hb dX4_cart_126 rfl (lv_at hl27 3 rfl) ?_
                      refine lv_iload_n C.hx C.hb dX4_cart_127 rfl (lv_at hl27 4 rfl) ?_
                      refine kn_icmp_ge (tgt := 135) C (by omega) (by omega) dX4_cart_128 (by decide) (fun c128 => ?_) (fun c128 => ?_)
                      · exact absurd hud (by omega)
                      · refine kn_iconst (a := 1) C (by decide) dX4_cart_131 ?_
                        refine lv_goto (tgt := 136) C.hx C.hb dX4_cart_132 (by decide) ?_
                        refine kn_iadd C  dX4_cart_136 ?_
                        refine lv_istore (lv' := [(4, .int (nI (mk1 + 1))), (5, .int (nI (takesF τ mk1))), (0, .ref h), (1, .int (nI (iN x1))), (2, .int (nI (iN x2))), (3, .int (nI (iN x3)))]) C.hx C.hb dX4_cart_137 hl27 (Nat.le_of_ble_eq_true rfl) rfl (fun ls31 hl31 => ?_)
                        clear hl27
                        refine lv_goto (tgt := 53) C.hx C.hb dX4_cart_139 (by decide) ?_
                        exact ih19 (d1 - 1) (mk1 + 1) (cart1 τ (iN x3) (takesF τ mk1)) (by rw [← hLa_0]; refine Eq.symm (Eq.trans (cartR_step (by omega) (by rw [if_pos hud]; exact c82)) ?_); rw [if_pos hud, if_pos hud]) (cart1_ok hLa_1 (by omega)) (fun s => by rw [cart1_o (by decide)]; exact hLa_2 s) (by omega) (by omega) _ _ _ hW30 (lv_sub hl31 [0, 2, 3, 4, 5] rfl)
                    · refine lv_iload C.hx C.hb dX4_cart_85 (lv_at hl27 1 rfl) ?_
                      have hR9 : cartF σ (iN x1) (iN x2) (iN x3) = (mk1, τ) := by rw [← hLa_0]; exact cartR_stop (by omega) (by rw [if_pos hud]; exact c82)
                      exact k_iret C hW26 rfl ⟨by rw [if_pos (show cCart x1 x2 x3 = 0 from hc), hR9], by rw [if_pos (show cCart x1 x2 x3 = 0 from hc), hR9]⟩ (Nat.le_refl _) (Nat.le_refl _) dX4_cart_87
            exact La ((dist (iN x1) (iN x2)) + 1) (dist (iN x1) (iN x2)) (iN x1) (s2 σ 37 0 0) rfl (hS.s2o (by decide) (Or.inr (by decide))) hF (by unfold dist; split <;> omega) (Nat.lt_succ_self _) _ _ _ hW14 (lv_sub hl18 [0, 1, 2, 3, 4] rfl)
          · have hc : ¬ (c2_ (inR x1 0 6 ∧ inR x2 0 6) (inR x3 1 500 ∧ ¬ x1 = x2)) = 0 := c2_n c45
            refine kn_iconst (a := 0) C (by decide) dX4_cart_48 ?_
            exact k_iret C hW14 rfl ⟨by rw [if_neg (show ¬ cCart x1 x2 x3 = 0 from hc)], by rw [if_neg (show ¬ cCart x1 x2 x3 = 0 from hc)]; rfl⟩ (Nat.le_refl _) (Nat.le_refl _) dX4_cart_49

def Q_ctX4_round (G : GT) (h : Nat) (ad : Nat → Nat) (σ : Sg) (x1 x2 : Int32) : Option Value → List va_W → Prop := fun v S1 => v = some (.int (nI (if cRound x1 x2 = 0 then roundF σ (iN x1) (iN x2) else 0))) ∧ S1 = mW G h ad (if cRound x1 x2 = 0 then k0 σ 0 else k0 σ (cRound x1 x2))
set_option maxHeartbeats 4000000 in
set_option maxRecDepth 100000 in
theorem ctX4_round (l : Launch) (G : GT) (h : Nat) (ad : Nat → Nat) (σ : Sg) (x1 x2 : Int32) (hS : Sf σ) (hF : ∀ s, σ 2 s = NONE ∨ σ 2 s < 2 ^ 30) : Ct l G yX4_round cX4_round 8 (some .int) 4 90 0 0 [.ref h, .int x1, .int x2] (mW G h ad σ) noR (Q_ctX4_round G h ad σ x1 x2) := by
  refine Ct.of (by decide +kernel) (Nat.le_of_ble_eq_true rfl) ?_
  intro p e s m below meth c A ls C hW hRo hl
  have hl : lv_has ls 8 [(0, .ref h), (1, .int x1), (2, .int x2)] := hl
  have hB : Bd σ := hS.1
  have h32 : σ 32 0 ≤ 200 := Nat.lt_succ_iff.mp (hB.lt 32 (by decide) 0)
  have h34 : σ 34 0 ≤ 480 := Nat.lt_succ_iff.mp (hB.lt 34 (by decide) 0)
  have h35 : σ 35 0 ≤ 64 := Nat.lt_succ_iff.mp (hB.lt 35 (by decide) 0)
  have h36 : σ 36 0 ≤ 60 := Nat.lt_succ_iff.mp (hB.lt 36 (by decide) 0)
  have h30 : σ 30 0 ≤ 5000 := Nat.lt_succ_iff.mp (hB.lt 30 (by decide) 0)
  refine lv_aload_n C.hx C.hb dX4_round_0 rfl (lv_at hl 0 rfl) ?_
  refine lv_iload_n C.hx C.hb dX4_round_1 rfl (lv_at hl 1 rfl) ?_
  refine k_callS (Sc := []) (Sr := mW G h ad σ) (As := [.int x1]) (rest := [.ref h]) C (ctX4_isMark l G x1) hW q2631 q2632 q85 q2633 rfl ⟨by decide, by decide, Eq.trans (b := some 1) (by decide +kernel) rfl⟩ (Nat.le_of_ble_eq_true rfl) (Nat.le_of_ble_eq_true rfl) (Nat.le_refl _) (Nat.le_refl _) hl.1 rfl (Nat.le_of_ble_eq_true rfl) dX4_round_2 (k_permR _) (fun _ h => h.elim) (fun v H1 locs1 S1 hQ hz1 hW1 => ?_)
  obtain ⟨rfl, rfl⟩ := hQ
  have hW1 : Ws G A s (mW G h ad σ) H1 locs1 := hW1
  clear hW
  refine W.eq (g2 := F0 m 5 ls [.int (b01 (inR x1 0 6)), .ref h]) rfl ?_
  refine kb_if_eq (tgt := 19) C dX4_round_5 (by decide) (fun c5 => ?_) (fun c5 => ?_)
  · refine kn_iconst (a := 0) C (by decide) dX4_round_19 ?_
    refine k_op (y := .int (b01 (inR x1 0 6 ∧ inR x2 0 6))) (by rw [b01_f (fun q => c5 q.1)]; rfl) ?_
    refine lv_iload_n C.hx C.hb dX4_round_20 rfl (lv_at hl 1 rfl) ?_
    refine lv_iload_n C.hx C.hb dX4_round_21 rfl (lv_at hl 2 rfl) ?_
    refine lv_icmp_eq (tgt := 29) C.hx C.hb dX4_round_22 (by decide) (fun c22 => ?_) (fun c22 => ?_)
    · refine kn_iconst (a := 0) C (by decide) dX4_round_29 ?_
      refine k_op (y := .int (b01 (¬ x1 = x2))) (by rw [b01_f (fun q => q c22)]; rfl) ?_
      refine k_callV (Sc := mW G h ad σ) (Sr := []) (As := [.int (b01 (inR x1 0 6 ∧ inR x2 0 6)), .int (b01 (¬ x1 = x2))]) (rest := []) C (ctX4_goesBoth l G h ad σ (inR x1 0 6 ∧ inR x2 0 6) (¬ x1 = x2) hS) hW1 clX4 (hW1.get 0 0 rfl rfl) q2453 q2455 qs47 q85 q2456 rfl rfl ⟨by decide, by decide, Eq.trans (b := some 2) (by decide +kernel) rfl⟩ (Nat.le_of_ble_eq_true rfl) (Nat.le_of_ble_eq_true rfl) (Nat.le_refl _) (Nat.le_refl _) hl.1 rfl (Nat.le_of_ble_eq_true rfl) dX4_round_30 (List.Perm.refl _) (fun _ h => h.elim) (fun v H2 locs2 S1 hQ hz2 hW2 => ?_)
      obtain ⟨rfl, rfl⟩ := hQ
      have hW2 : Ws G A s (mW G h ad (s2 σ 37 0 (c2_ (inR x1 0 6 ∧ inR x2 0 6) (¬ x1 = x2)))) H2 locs2 := hW2
      clear hW1
      refine W.eq (g2 := F0 m 33 ls [.int (b01 ((inR x1 0 6 ∧ inR x2 0 6) ∧ (¬ x1 = x2)))]) rfl ?_
      refine kb_if_ne (tgt := 38) C dX4_round_33 (by decide) (fun c33 => ?_) (fun c33 => ?_)
      · exact absurd c33.1.1 c5
      · have hc : ¬ (c2_ (inR x1 0 6 ∧ inR x2 0 6) (¬ x1 = x2)) = 0 := c2_n c33
        refine kn_iconst (a := 0) C (by decide) dX4_round_36 ?_
        exact k_iret C hW2 rfl ⟨by rw [if_neg (show ¬ cRound x1 x2 = 0 from hc)], by rw [if_neg (show ¬ cRound x1 x2 = 0 from hc)]; rfl⟩ (Nat.le_refl _) (Nat.le_refl _) dX4_round_37
    · refine kn_iconst (a := 1) C (by decide) dX4_round_25 ?_
      refine lv_goto (tgt := 30) C.hx C.hb dX4_round_26 (by decide) ?_
      refine k_op (y := .int (b01 (¬ x1 = x2))) (by rw [b01_t c22]; rfl) ?_
      refine k_callV (Sc := mW G h ad σ) (Sr := []) (As := [.int (b01 (inR x1 0 6 ∧ inR x2 0 6)), .int (b01 (¬ x1 = x2))]) (rest := []) C (ctX4_goesBoth l G h ad σ (inR x1 0 6 ∧ inR x2 0 6) (¬ x1 = x2) hS) hW1 clX4 (hW1.get 0 0 rfl rfl) q2453 q2455 qs47 q85 q2456 rfl rfl ⟨by decide, by decide, Eq.trans (b := some 2) (by decide +kernel) rfl⟩ (Nat.le_of_ble_eq_true rfl) (Nat.le_of_ble_eq_true rfl) (Nat.le_refl _) (Nat.le_refl _) hl.1 rfl (Nat.le_of_ble_eq_true rfl) dX4_round_30 (List.Perm.refl _) (fun _ h => h.elim) (fun v H3 locs3 S1 hQ hz3 hW3 => ?_)
      obtain ⟨rfl, rfl⟩ := hQ
      have hW3 : Ws G A s (mW G h ad (s2 σ 37 0 (c2_ (inR x1 0 6 ∧ inR x2 0 6) (¬ x1 = x2)))) H3 locs3 := hW3
      clear hW1
      refine W.eq (g2 := F0 m 33 ls [.int (b01 ((inR x1 0 6 ∧ inR x2 0 6) ∧ (¬ x1 = x2)))]) rfl ?_
      refine kb_if_ne (tgt := 38) C dX4_round_33 (by decide) (fun c33 => ?_) (fun c33 => ?_)
      · exact absurd c33.1.1 c5
      · have hc : ¬ (c2_ (inR x1 0 6 ∧ inR x2 0 6) (¬ x1 = x2)) = 0 := c2_n c33
        refine kn_iconst (a := 0) C (by decide) dX4_round_36 ?_
        exact k_iret C hW3 rfl ⟨by rw [if_neg (show ¬ cRound x1 x2 = 0 from hc)], by rw [if_neg (show ¬ cRound x1 x2 = 0 from hc)]; rfl⟩ (Nat.le_refl _) (Nat.le_refl _) dX4_round_37
  · refine lv_iload_n C.hx C.hb dX4_round_8 rfl (lv_at hl 2 rfl) ?_
    refine k_callS (Sc := []) (Sr := mW G h ad σ) (As := [.int x2]) (rest := [.ref h]) C (ctX4_isMark l G x2) hW1 q2631 q2632 q85 q2633 rfl ⟨by decide, by decide, Eq.trans (b := some 1) (by decide +kernel) rfl⟩ (Nat.le_of_ble_eq_true rfl) (Nat.le_of_ble_eq_true rfl) (Nat.le_refl _) (Nat.le_refl _) hl.1 rfl (Nat.le_of_ble_eq_true rfl) dX4_round_9 (k_permR _) (fun _ h => h.elim) (fun v H4 locs4 S1 hQ hz4 hW4 => ?_)
    obtain ⟨rfl, rfl⟩ := hQ
    have hW4 : Ws G A s (mW G h ad σ) H4 locs4 := hW4
    clear hW1
    refine W.eq (g2 := F0 m 12 ls [.int (b01 (inR x2 0 6)), .ref h]) rfl ?_
    refine kb_if_eq (tgt := 19) C dX4_round_12 (by decide) (fun c12 => ?_) (fun c12 => ?_)
    · refine kn_iconst (a := 0) C (by decide) dX4_round_19 ?_
      refine k_op (y := .int (b01 (inR x1 0 6 ∧ inR x2 0 6))) (by rw [b01_f (fun q => c12 q.2)]; rfl) ?_
      refine lv_iload_n C.hx C.hb dX4_round_20 rfl (lv_at hl 1 rfl) ?_
      refine lv_iload_n C.hx C.hb dX4_round_21 rfl (lv_at hl 2 rfl) ?_
      refine lv_icmp_eq (tgt := 29) C.hx C.hb dX4_round_22 (by decide) (fun c22 => ?_) (fun c22 => ?_)
      · refine kn_iconst (a := 0) C (by decide) dX4_round_29 ?_
        refine k_op (y := .int (b01 (¬ x1 = x2))) (by rw [b01_f (fun q => q c22)]; rfl) ?_
        refine k_callV (Sc := mW G h ad σ) (Sr := []) (As := [.int (b01 (inR x1 0 6 ∧ inR x2 0 6)), .int (b01 (¬ x1 = x2))]) (rest := []) C (ctX4_goesBoth l G h ad σ (inR x1 0 6 ∧ inR x2 0 6) (¬ x1 = x2) hS) hW4 clX4 (hW4.get 0 0 rfl rfl) q2453 q2455 qs47 q85 q2456 rfl rfl ⟨by decide, by decide, Eq.trans (b := some 2) (by decide +kernel) rfl⟩ (Nat.le_of_ble_eq_true rfl) (Nat.le_of_ble_eq_true rfl) (Nat.le_refl _) (Nat.le_refl _) hl.1 rfl (Nat.le_of_ble_eq_true rfl) dX4_round_30 (List.Perm.refl _) (fun _ h => h.elim) (fun v H5 locs5 S1 hQ hz5 hW5 => ?_)
        obtain ⟨rfl, rfl⟩ := hQ
        have hW5 : Ws G A s (mW G h ad (s2 σ 37 0 (c2_ (inR x1 0 6 ∧ inR x2 0 6) (¬ x1 = x2)))) H5 locs5 := hW5
        clear hW4
        refine W.eq (g2 := F0 m 33 ls [.int (b01 ((inR x1 0 6 ∧ inR x2 0 6) ∧ (¬ x1 = x2)))]) rfl ?_
        refine kb_if_ne (tgt := 38) C dX4_round_33 (by decide) (fun c33 => ?_) (fun c33 => ?_)
        · exact absurd c33.1.2 c12
        · have hc : ¬ (c2_ (inR x1 0 6 ∧ inR x2 0 6) (¬ x1 = x2)) = 0 := c2_n c33
          refine kn_iconst (a := 0) C (by decide) dX4_round_36 ?_
          exact k_iret C hW5 rfl ⟨by rw [if_neg (show ¬ cRound x1 x2 = 0 from hc)], by rw [if_neg (show ¬ cRound x1 x2 = 0 from hc)]; rfl⟩ (Nat.le_refl _) (Nat.le_refl _) dX4_round_37
      · refine kn_iconst (a := 1) C (by decide) dX4_round_25 ?_
        refine lv_goto (tgt := 30) C.hx C.hb dX4_round_26 (by decide) ?_
        refine k_op (y := .int (b01 (¬ x1 = x2))) (by rw [b01_t c22]; rfl) ?_
        refine k_callV (Sc := mW G h ad σ) (Sr := []) (As := [.int (b01 (inR x1 0 6 ∧ inR x2 0 6)), .int (b01 (¬ x1 = x2))]) (rest := []) C (ctX4_goesBoth l G h ad σ (inR x1 0 6 ∧ inR x2 0 6) (¬ x1 = x2) hS) hW4 clX4 (hW4.get 0 0 rfl rfl) q2453 q2455 qs47 q85 q2456 rfl rfl ⟨by decide, by decide, Eq.trans (b := some 2) (by decide +kernel) rfl⟩ (Nat.le_of_ble_eq_true rfl) (Nat.le_of_ble_eq_true rfl) (Nat.le_refl _) (Nat.le_refl _) hl.1 rfl (Nat.le_of_ble_eq_true rfl) dX4_round_30 (List.Perm.refl _) (fun _ h => h.elim) (fun v H6 locs6 S1 hQ hz6 hW6 => ?_)
        obtain ⟨rfl, rfl⟩ := hQ
        have hW6 : Ws G A s (mW G h ad (s2 σ 37 0 (c2_ (inR x1 0 6 ∧ inR x2 0 6) (¬ x1 = x2)))) H6 locs6 := hW6
        clear hW4
        refine W.eq (g2 := F0 m 33 ls [.int (b01 ((inR x1 0 6 ∧ inR x2 0 6) ∧ (¬ x1 = x2)))]) rfl ?_
        refine kb_if_ne (tgt := 38) C dX4_round_33 (by decide) (fun c33 => ?_) (fun c33 => ?_)
        · exact absurd c33.1.2 c12
        · have hc : ¬ (c2_ (inR x1 0 6 ∧ inR x2 0 6) (¬ x1 = x2)) = 0 := c2_n c33
          refine kn_iconst (a := 0) C (by decide) dX4_round_36 ?_
          exact k_iret C hW6 rfl ⟨by rw [if_neg (show ¬ cRound x1 x2 = 0 from hc)], by rw [if_neg (show ¬ cRound x1 x2 = 0 from hc)]; rfl⟩ (Nat.le_refl _) (Nat.le_refl _) dX4_round_37
    · refine kn_iconst (a := 1) C (by decide) dX4_round_15 ?_
      refine lv_goto (tgt := 20) C.hx C.hb dX4_round_16 (by decide) ?_
      refine k_op (y := .int (b01 (inR x1 0 6 ∧ inR x2 0 6))) (by rw [b01_t ⟨c5, c12⟩]; rfl) ?_
      refine lv_iload_n C.hx C.hb dX4_round_20 rfl (lv_at hl 1 rfl) ?_
      refine lv_iload_n C.hx C.hb dX4_round_21 rfl (lv_at hl 2 rfl) ?_
      refine lv_icmp_eq (tgt := 29) C.hx C.hb dX4_round_22 (by decide) (fun c22 => ?_) (fun c22 => ?_)
      · refine kn_iconst (a := 0) C (by decide) dX4_round_29 ?_
        refine k_op (y := .int (b01 (¬ x1 = x2))) (by rw [b01_f (fun q => q c22)]; rfl) ?_
        refine k_callV (Sc := mW G h ad σ) (Sr := []) (As := [.int (b01 (inR x1 0 6 ∧ inR x2 0 6)), .int (b01 (¬ x1 = x2))]) (rest := []) C (ctX4_goesBoth l G h ad σ (inR x1 0 6 ∧ inR x2 0 6) (¬ x1 = x2) hS) hW4 clX4 (hW4.get 0 0 rfl rfl) q2453 q2455 qs47 q85 q2456 rfl rfl ⟨by decide, by decide, Eq.trans (b := some 2) (by decide +kernel) rfl⟩ (Nat.le_of_ble_eq_true rfl) (Nat.le_of_ble_eq_true rfl) (Nat.le_refl _) (Nat.le_refl _) hl.1 rfl (Nat.le_of_ble_eq_true rfl) dX4_round_30 (List.Perm.refl _) (fun _ h => h.elim) (fun v H7 locs7 S1 hQ hz7 hW7 => ?_)
        obtain ⟨rfl, rfl⟩ := hQ
        have hW7 : Ws G A s (mW G h ad (s2 σ 37 0 (c2_ (inR x1 0 6 ∧ inR x2 0 6) (¬ x1 = x2)))) H7 locs7 := hW7
        clear hW4
        refine W.eq (g2 := F0 m 33 ls [.int (b01 ((inR x1 0 6 ∧ inR x2 0 6) ∧ (¬ x1 = x2)))]) rfl ?_
        refine kb_if_ne (tgt := 38) C dX4_round_33 (by decide) (fun c33 => ?_) (fun c33 => ?_)
        · exact absurd c22 c33.2
        · have hc : ¬ (c2_ (inR x1 0 6 ∧ inR x2 0 6) (¬ x1 = x2)) = 0 := c2_n c33
          refine kn_iconst (a := 0) C (by decide) dX4_round_36 ?_
          exact k_iret C hW7 rfl ⟨by rw [if_neg (show ¬ cRound x1 x2 = 0 from hc)], by rw [if_neg (show ¬ cRound x1 x2 = 0 from hc)]; rfl⟩ (Nat.le_refl _) (Nat.le_refl _) dX4_round_37
      · refine kn_iconst (a := 1) C (by decide) dX4_round_25 ?_
        refine lv_goto (tgt := 30) C.hx C.hb dX4_round_26 (by decide) ?_
        refine k_op (y := .int (b01 (¬ x1 = x2))) (by rw [b01_t c22]; rfl) ?_
        refine k_callV (Sc := mW G h ad σ) (Sr := []) (As := [.int (b01 (inR x1 0 6 ∧ inR x2 0 6)), .int (b01 (¬ x1 = x2))]) (rest := []) C (ctX4_goesBoth l G h ad σ (inR x1 0 6 ∧ inR x2 0 6) (¬ x1 = x2) hS) hW4 clX4 (hW4.get 0 0 rfl rfl) q2453 q2455 qs47 q85 q2456 rfl rfl ⟨by decide, by decide, Eq.trans (b := some 2) (by decide +kernel) rfl⟩ (Nat.le_of_ble_eq_true rfl) (Nat.le_of_ble_eq_true rfl) (Nat.le_refl _) (Nat.le_refl _) hl.1 rfl (Nat.le_of_ble_eq_true rfl) dX4_round_30 (List.Perm.refl _) (fun _ h => h.elim) (fun v H8 locs8 S1 hQ hz8 hW8 => ?_)
        obtain ⟨rfl, rfl⟩ := hQ
        have hW8 : Ws G A s (mW G h ad (s2 σ 37 0 (c2_ (inR x1 0 6 ∧ inR x2 0 6) (¬ x1 = x2)))) H8 locs8 := hW8
        clear hW4
        refine W.eq (g2 := F0 m 33 ls [.int (b01 ((inR x1 0 6 ∧ inR x2 0 6) ∧ (¬ x1 = x2)))]) rfl ?_
        refine kb_if_ne (tgt := 38) C dX4_round_33 (by decide) (fun c33 => ?_) (fun c33 => ?_)
        · have hc : (c2_ (inR x1 0 6 ∧ inR x2 0 6) (¬ x1 = x2)) = 0 := c2_0 c33
          rw [hc] at hW8
          obtain ⟨hx9, hy9, hz9⟩ := iN_eq (a := 0) (b := 6) (by decide) c33.1.1
          have hl9 : lv_has ls 8 [(0, .ref h), (1, .int (nI (iN x1))), (2, .int x2)] := by rw [← hx9]; exact hl
          obtain ⟨hx10, hy10, hz10⟩ := iN_eq (a := 0) (b := 6) (by decide) c33.1.2
          have hl10 : lv_has ls 8 [(0, .ref h), (1, .int (nI (iN x1))), (2, .int (nI (iN x2)))] := by rw [← hx10]; exact hl9
          have hq1 := c33.1.1
          have hq2 := c33.1.2
          have hne : iN x1 ≠ iN x2 := fun q => c33.2 (Int32.toInt_inj.mp (by unfold iN at q; omega))
          refine lv_iload_n C.hx C.hb dX4_round_38 rfl (lv_at hl10 1 rfl) ?_
          refine lv_iload_n C.hx C.hb dX4_round_39 rfl (lv_at hl10 2 rfl) ?_
          refine kn_icmp_ge (tgt := 47) C (by omega) (by omega) dX4_round_40 (by decide) (fun c40 => ?_) (fun c40 => ?_)
          · refine lv_iload_n C.hx C.hb dX4_round_47 rfl (lv_at hl10 2 rfl) ?_
            refine lv_istore_n (lv' := [(3, .int (nI (iN x2))), (0, .ref h), (1, .int (nI (iN x1))), (2, .int (nI (iN x2)))]) C.hx C.hb dX4_round_48 rfl hl10 (Nat.le_of_ble_eq_true rfl) rfl (fun ls11 hl11 => ?_)
            clear hl10
            refine lv_iload_n C.hx C.hb dX4_round_49 rfl (lv_at hl11 2 rfl) ?_
            refine lv_iload_n C.hx C.hb dX4_round_50 rfl (lv_at hl11 3 rfl) ?_
            refine kn_icmp_ge (tgt := 58) C (by omega) (by omega) dX4_round_51 (by decide) (fun c51 => ?_) (fun c51 => ?_)
            · refine lv_iload_n C.hx C.hb dX4_round_58 rfl (lv_at hl11 2 rfl) ?_
              refine lv_istore (lv' := [(4, .int (nI (iN x1))), (3, .int (nI (iN x2))), (0, .ref h), (1, .int (nI (iN x1))), (2, .int (nI (iN x2)))]) C.hx C.hb dX4_round_59 hl11 (Nat.le_of_ble_eq_true rfl) rfl (fun ls12 hl12 => ?_)
              clear hl11
              refine kn_iconst (a := 0) C (by decide) dX4_round_61 ?_
              refine lv_istore (lv' := [(5, .int (nI 0)), (4, .int (nI (iN x1))), (3, .int (nI (iN x2))), (0, .ref h), (1, .int (nI (iN x1))), (2, .int (nI (iN x2)))]) C.hx C.hb dX4_round_62 hl12 (Nat.le_of_ble_eq_true rfl) rfl (fun ls13 hl13 => ?_)
              clear hl12
              refine lv_iload_n C.hx C.hb dX4_round_64 rfl (lv_at hl13 2 rfl) ?_
              refine lv_istore (lv' := [(6, .int (nI (iN x2))), (5, .int (nI 0)), (4, .int (nI (iN x1))), (3, .int (nI (iN x2))), (0, .ref h), (1, .int (nI (iN x1))), (2, .int (nI (iN x2)))]) C.hx C.hb dX4_round_65 hl13 (Nat.le_of_ble_eq_true rfl) rfl (fun ls14 hl14 => ?_)
              clear hl13
              have La : ∀ (k15 : Nat) (d1 k1 t1 : Nat), (roundR (s2 σ 37 0 0) d1 k1 t1 = roundF σ (iN x1) (iN x2)) → (k1 + d1 = max (iN x1) (iN x2)) → d1 < k15 → ∀ (H15 : Heap) (locs15 : List Loc) (ls15 : Array Slot), Ws G A s (mW G h ad (s2 σ 37 0 0)) H15 locs15 → lv_has ls15 8 [(4, .int (nI (max (iN x1) (iN x2)))), (5, .int (nI t1)), (6, .int (nI k1)), (0, .ref h)] → W p l e ({ frames := 4, cells := 0, slots := 0, locals := 90 } : Room) s m ([.ref h, .int x1, .int x2] : List Value).toArray below meth c H15 locs15 0 0 (MQ below (cQ G A (Q_ctX4_round G h ad σ x1 x2)) ([.ref h, .int x1, .int x2] : List Value).toArray s 0 0 A) (F0 m 67 ls15 []) := by
                intro k15
                induction k15 with
                | zero => intro d1 k1 t1 hLa_0 hLa_1 hm15; exact absurd hm15 (Nat.not_lt_zero _)
                | succ k15 ih15 =>
                  intro d1 k1 t1 hLa_0 hLa_1 hm15 H15 locs15 ls15 hW15 hl15
                  have hmx : max (iN x1) (iN x2) ≤ 6 := by omega
                  refine lv_iload C.hx C.hb dX4_round_67 (lv_at hl15 2 rfl) ?_
                  refine lv_iload C.hx C.hb dX4_round_69 (lv_at hl15 0 rfl) ?_
                  refine kn_icmp_ge (tgt := 112) C (by omega) (by omega) dX4_round_71 (by decide) (fun c71 => ?_) (fun c71 => ?_)
                  · refine lv_iload C.hx C.hb dX4_round_112 (lv_at hl15 1 rfl) ?_
                    have hR9 : roundF σ (iN x1) (iN x2) = t1 := by rw [← hLa_0, show d1 = 0 by omega]; rfl
                    exact k_iret C hW15 rfl ⟨by rw [if_pos (show cRound x1 x2 = 0 from hc), hR9], by rw [if_pos (show cRound x1 x2 = 0 from hc)]⟩ (Nat.le_refl _) (Nat.le_refl _) dX4_round_114
                  · refine lv_aload_n C.hx C.hb dX4_round_74 rfl (lv_at hl15 3 rfl) ?_
                    refine lv_iload C.hx C.hb dX4_round_75 (lv_at hl15 2 rfl) ?_
                    have hk6 : k1 < 6 := by omega
                    have htc := takesF_cases (s2 σ 37 0 0) k1 hk6
                    have htc : takesF σ k1 = NONE ∨ (takesF σ k1 < 12 ∧ 0 < lyingN σ (takesF σ k1) (σ 32 0)) := htc
                    refine k_callV (Sc := mW G h ad (s2 σ 37 0 0)) (Sr := []) (As := [.int (nI k1)]) (rest := []) C (ctX4_takesBy l G h ad (s2 σ 37 0 0) k1 (hS.s2o (by decide) (Or.inr (by decide))) hk6 hF) hW15 clX4 (hW15.get 0 0 rfl rfl) q2635 q2637 qs70 q85 q2638 rfl rfl ⟨by decide, by decide, Eq.trans (b := some 1) (by decide +kernel) rfl⟩ (Nat.le_of_ble_eq_true rfl) (Nat.le_of_ble_eq_true rfl) (Nat.le_refl _) (Nat.le_refl _) hl15.1 rfl (Nat.le_of_ble_eq_true rfl) dX4_round_77 (List.Perm.refl _) (fun _ h => h.elim) (fun v H16 locs16 S1 hQ hz16 hW16 => ?_)
                    obtain ⟨rfl, rfl⟩ := hQ
                    have hW16 : Ws G A s (mW G h ad (s2 σ 37 0 0)) H16 locs16 := hW16
                    clear hW15
                    refine W.eq (g2 := F0 m 80 ls15 [.int (nI (takesF σ k1))]) rfl ?_
                    refine lv_istore (lv' := [(7, .int (nI (takesF σ k1))), (4, .int (nI (max (iN x1) (iN x2)))), (5, .int (nI t1)), (6, .int (nI k1)), (0, .ref h)]) C.hx C.hb dX4_round_80 hl15 (Nat.le_of_ble_eq_true rfl) rfl (fun ls17 hl17 => ?_)
                    clear hl15
                    refine lv_iload C.hx C.hb dX4_round_82 (lv_at hl17 0 rfl) ?_
                    refine lv_iconst (v := nI NONE) C.hx C.hb dX4_round_84 (by decide) ?_
                    refine kw_icmp_ne (tgt := 90) C (takes_w hk6) (by decide) dX4_round_85 (by decide) (fun c85 => ?_) (fun c85 => ?_)
                    · have htk : takesF σ k1 < 12 := (htc.resolve_left c85).1
                      refine lv_iload C.hx C.hb dX4_round_90 (lv_at hl17 0 rfl) ?_
                      refine kn_bipush (a := 6) C (by decide) dX4_round_92 ?_
                      refine kn_icmp_lt (tgt := 106) C (by omega) (by decide) dX4_round_94 (by decide) (fun c94 => ?_) (fun c94 => ?_)
                      · refine kn_iinc (lv' := [(6, .int (nI (k1 + 1))), (7, .int (nI (takesF σ k1))), (4, .int (nI (max (iN x1) (iN x2)))), (5, .int (nI t1)), (0, .ref h)]) (k := 3) C dX4_round_106 hl17 rfl (Nat.le_of_ble_eq_true rfl) rfl (fun ls18 hl18 => ?_)
                        clear hl17
                        refine lv_goto (tgt := 67) C.hx C.hb dX4_round_109 (by decide) ?_
                        exact ih15 (d1 - 1) (k1 + 1) t1 (by rw [← hLa_0]; refine Eq.symm (Eq.trans (roundR_step (σ := s2 σ 37 0 0) (by omega) c85) ?_); exact congrArg (roundR (s2 σ 37 0 0) (d1 - 1) (k1 + 1)) (if_neg (show ¬ 6 ≤ takesF σ k1 from by omega))) (by omega) (by omega) _ _ _ hW16 (lv_sub hl18 [2, 3, 0, 4] rfl)
                      · refine lv_iload C.hx C.hb dX4_round_97 (lv_at hl17 2 rfl) ?_
                        refine kn_iconst (a := 1) C (by decide) dX4_round_99 ?_
                        refine lv_iload C.hx C.hb dX4_round_100 (lv_at hl17 3 rfl) ?_
                        refine lv_ishl C.hx C.hb dX4_round_102 ?_
                        refine k_op (y := .int (nI (2 ^ k1))) (congrArg Value.int (nI_sh1 k1 (by omega))) ?_
                        refine lv_ior C.hx C.hb dX4_round_103 ?_
                        refine k_op (y := .int (nI (t1 ||| 2 ^ k1))) (congrArg Value.int (nI_or _ _)) ?_
                        refine lv_istore (lv' := [(5, .int (nI (t1 ||| 2 ^ k1))), (7, .int (nI (takesF σ k1))), (4, .int (nI (max (iN x1) (iN x2)))), (6, .int (nI k1)), (0, .ref h)]) C.hx C.hb dX4_round_104 hl17 (Nat.le_of_ble_eq_true rfl) rfl (fun ls19 hl19 => ?_)
                        clear hl17
                        refine kn_iinc (lv' := [(6, .int (nI (k1 + 1))), (5, .int (nI (t1 ||| 2 ^ k1))), (7, .int (nI (takesF σ k1))), (4, .int (nI (max (iN x1) (iN x2)))), (0, .ref h)]) (k := 3) C dX4_round_106 hl19 rfl (Nat.le_of_ble_eq_true rfl) rfl (fun ls20 hl20 => ?_)
                        clear hl19
                        refine lv_goto (tgt := 67) C.hx C.hb dX4_round_109 (by decide) ?_
                        exact ih15 (d1 - 1) (k1 + 1) (t1 ||| 2 ^ k1) (by rw [← hLa_0]; refine Eq.symm (Eq.trans (roundR_step (σ := s2 σ 37 0 0) (by omega) c85) ?_); exact congrArg (roundR (s2 σ 37 0 0) (d1 - 1) (k1 + 1)) (if_pos (show 6 ≤ takesF σ k1 from by omega))) (by omega) (by omega) _ _ _ hW16 (lv_sub hl20 [3, 1, 0, 4] rfl)
                    · refine lv_iconst (v := nI NONE) C.hx C.hb dX4_round_88 (by decide) ?_
                      have hR9 : roundF σ (iN x1) (iN x2) = NONE := by rw [← hLa_0]; exact roundR_stop (σ := s2 σ 37 0 0) (by omega) c85
                      exact k_iret C hW16 rfl ⟨by rw [if_pos (show cRound x1 x2 = 0 from hc), hR9], by rw [if_pos (show cRound x1 x2 = 0 from hc)]⟩ (Nat.le_refl _) (Nat.le_refl _) dX4_round_89
              have e21 : (max (iN x1) (iN x2)) = (iN x1) := by first | rfl | omega
              have e22 : (min (iN x1) (iN x2)) = (iN x2) := by first | rfl | omega
              exact La ((dist (iN x1) (iN x2)) + 1) (dist (iN x1) (iN x2)) (min (iN x1) (iN x2)) 0 rfl (by unfold dist; split <;> omega) (Nat.lt_succ_self _) _ _ _ hW8 (by rw [e21, e22]; exact (lv_sub hl14 [2, 1, 0, 4] rfl))
            · exact absurd c40 c51
          · refine lv_iload_n C.hx C.hb dX4_round_43 rfl (lv_at hl10 1 rfl) ?_
            refine lv_goto (tgt := 48) C.hx C.hb dX4_round_44 (by decide) ?_
            refine lv_istore_n (lv' := [(3, .int (nI (iN x1))), (0, .ref h), (1, .int (nI (iN x1))), (2, .int (nI (iN x2)))]) C.hx C.hb dX4_round_48 rfl hl10 (Nat.le_of_ble_eq_true rfl) rfl (fun ls23 hl23 => ?_)
            clear hl10
            refine lv_iload_n C.hx C.hb dX4_round_49 rfl (lv_at hl23 2 rfl) ?_
            refine lv_iload_n C.hx C.hb dX4_round_50 rfl (lv_at hl23 3 rfl) ?_
            refine kn_icmp_ge (tgt := 58) C (by omega) (by omega) dX4_round_51 (by decide) (fun c51 => ?_) (fun c51 => ?_)
            · exact absurd c51 c40
            · refine lv_iload_n C.hx C.hb dX4_round_54 rfl (lv_at hl23 3 rfl) ?_
              refine lv_goto (tgt := 59) C.hx C.hb dX4_round_55 (by decide) ?_
              refine lv_istore (lv' := [(4, .int (nI (iN x2))), (3, .int (nI (iN x1))), (0, .ref h), (1, .int (nI (iN x1))), (2, .int (nI (iN x2)))]) C.hx C.hb dX4_round_59 hl23 (Nat.le_of_ble_eq_true rfl) rfl (fun ls24 hl24 => ?_)
              clear hl23
              refine kn_iconst (a := 0) C (by decide) dX4_round_61 ?_
              refine lv_istore (lv' := [(5, .int (nI 0)), (4, .int (nI (iN x2))), (3, .int (nI (iN x1))), (0, .ref h), (1, .int (nI (iN x1))), (2, .int (nI (iN x2)))]) C.hx C.hb dX4_round_62 hl24 (Nat.le_of_ble_eq_true rfl) rfl (fun ls25 hl25 => ?_)
              clear hl24
              refine lv_iload_n C.hx C.hb dX4_round_64 rfl (lv_at hl25 2 rfl) ?_
              refine lv_istore (lv' := [(6, .int (nI (iN x1))), (5, .int (nI 0)), (4, .int (nI (iN x2))), (3, .int (nI (iN x1))), (0, .ref h), (1, .int (nI (iN x1))), (2, .int (nI (iN x2)))]) C.hx C.hb dX4_round_65 hl25 (Nat.le_of_ble_eq_true rfl) rfl (fun ls26 hl26 => ?_)
              clear hl25
              have La : ∀ (k27 : Nat) (d1 k1 t1 : Nat), (roundR (s2 σ 37 0 0) d1 k1 t1 = roundF σ (iN x1) (iN x2)) → (k1 + d1 = max (iN x1) (iN x2)) → d1 < k27 → ∀ (H27 : Heap) (locs27 : List Loc) (ls27 : Array Slot), Ws G A s (mW G h ad (s2 σ 37 0 0)) H27 locs27 → lv_has ls27 8 [(4, .int (nI (max (iN x1) (iN x2)))), (5, .int (nI t1)), (6, .int (nI k1)), (0, .ref h)] → W p l e ({ frames := 4, cells := 0, slots := 0, locals := 90 } : Room) s m ([.ref h, .int x1, .int x2] : List Value).toArray below meth c H27 locs27 0 0 (MQ below (cQ G A (Q_ctX4_round G h ad σ x1 x2)) ([.ref h, .int x1, .int x2] : List Value).toArray s 0 0 A) (F0 m 67 ls27 []) := by
                intro k27
                induction k27 with
                | zero => intro d1 k1 t1 hLa_0 hLa_1 hm27; exact absurd hm27 (Nat.not_lt_zero _)
                | succ k27 ih27 =>
                  intro d1 k1 t1 hLa_0 hLa_1 hm27 H27 locs27 ls27 hW27 hl27
                  have hmx : max (iN x1) (iN x2) ≤ 6 := by omega
                  refine lv_iload C.hx C.hb dX4_round_67 (lv_at hl27 2 rfl) ?_
                  refine lv_iload C.hx C.hb dX4_round_69 (lv_at hl27 0 rfl) ?_
                  refine kn_icmp_ge (tgt := 112) C (by omega) (by omega) dX4_round_71 (by decide) (fun c71 => ?_) (fun c71 => ?_)
                  · refine lv_iload C.hx C.hb dX4_round_112 (lv_at hl27 1 rfl) ?_
                    have hR9 : roundF σ (iN x1) (iN x2) = t1 := by rw [← hLa_0, show d1 = 0 by omega]; rfl
                    exact k_iret C hW27 rfl ⟨by rw [if_pos (show cRound x1 x2 = 0 from hc), hR9], by rw [if_pos (show cRound x1 x2 = 0 from hc)]⟩ (Nat.le_refl _) (Nat.le_refl _) dX4_round_114
                  · refine lv_aload_n C.hx C.hb dX4_round_74 rfl (lv_at hl27 3 rfl) ?_
                    refine lv_iload C.hx C.hb dX4_round_75 (lv_at hl27 2 rfl) ?_
                    have hk6 : k1 < 6 := by omega
                    have htc := takesF_cases (s2 σ 37 0 0) k1 hk6
                    have htc : takesF σ k1 = NONE ∨ (takesF σ k1 < 12 ∧ 0 < lyingN σ (takesF σ k1) (σ 32 0)) := htc
                    refine k_callV (Sc := mW G h ad (s2 σ 37 0 0)) (Sr := []) (As := [.int (nI k1)]) (rest := []) C (ctX4_takesBy l G h ad (s2 σ 37 0 0) k1 (hS.s2o (by decide) (Or.inr (by decide))) hk6 hF) hW27 clX4 (hW27.get 0 0 rfl rfl) q2635 q2637 qs70 q85 q2638 rfl rfl ⟨by decide, by decide, Eq.trans (b := some 1) (by decide +kernel) rfl⟩ (Nat.le_of_ble_eq_true rfl) (Nat.le_of_ble_eq_true rfl) (Nat.le_refl _) (Nat.le_refl _) hl27.1 rfl (Nat.le_of_ble_eq_true rfl) dX4_round_77 (List.Perm.refl _) (fun _ h => h.elim) (fun v H28 locs28 S1 hQ hz28 hW28 => ?_)
                    obtain ⟨rfl, rfl⟩ := hQ
                    have hW28 : Ws G A s (mW G h ad (s2 σ 37 0 0)) H28 locs28 := hW28
                    clear hW27
                    refine W.eq (g2 := F0 m 80 ls27 [.int (nI (takesF σ k1))]) rfl ?_
                    refine lv_istore (lv' := [(7, .int (nI (takesF σ k1))), (4, .int (nI (max (iN x1) (iN x2)))), (5, .int (nI t1)), (6, .int (nI k1)), (0, .ref h)]) C.hx C.hb dX4_round_80 hl27 (Nat.le_of_ble_eq_true rfl) rfl (fun ls29 hl29 => ?_)
                    clear hl27
                    refine lv_iload C.hx C.hb dX4_round_82 (lv_at hl29 0 rfl) ?_
                    refine lv_iconst (v := nI NONE) C.hx C.hb dX4_round_84 (by decide) ?_
                    refine kw_icmp_ne (tgt := 90) C (takes_w hk6) (by decide) dX4_round_85 (by decide) (fun c85 => ?_) (fun c85 => ?_)
                    · have htk : takesF σ k1 < 12 := (htc.resolve_left c85).1
                      refine lv_iload C.hx C.hb dX4_round_90 (lv_at hl29 0 rfl) ?_
                      refine kn_bipush (a := 6) C (by decide) dX4_round_92 ?_
                      refine kn_icmp_lt (tgt := 106) C (by omega) (by decide) dX4_round_94 (by decide) (fun c94 => ?_) (fun c94 => ?_)
                      · refine kn_iinc (lv' := [(6, .int (nI (k1 + 1))), (7, .int (nI (takesF σ k1))), (4, .int (nI (max (iN x1) (iN x2)))), (5, .int (nI t1)), (0, .ref h)]) (k := 3) C dX4_round_106 hl29 rfl (Nat.le_of_ble_eq_true rfl) rfl (fun ls30 hl30 => ?_)
                        clear hl29
                        refine lv_goto (tgt := 67) C.hx C.hb dX4_round_109 (by decide) ?_
                        exact ih27 (d1 - 1) (k1 + 1) t1 (by rw [← hLa_0]; refine Eq.symm (Eq.trans (roundR_step (σ := s2 σ 37 0 0) (by omega) c85) ?_); exact congrArg (roundR (s2 σ 37 0 0) (d1 - 1) (k1 + 1)) (if_neg (show ¬ 6 ≤ takesF σ k1 from by omega))) (by omega) (by omega) _ _ _ hW28 (lv_sub hl30 [2, 3, 0, 4] rfl)
                      · refine lv_iload C.hx C.hb dX4_round_97 (lv_at hl29 2 rfl) ?_
                        refine kn_iconst (a := 1) C (by decide) dX4_round_99 ?_
                        refine lv_iload C.hx C.hb dX4_round_100 (lv_at hl29 3 rfl) ?_
                        refine lv_ishl C.hx C.hb dX4_round_102 ?_
                        refine k_op (y := .int (nI (2 ^ k1))) (congrArg Value.int (nI_sh1 k1 (by omega))) ?_
                        refine lv_ior C.hx C.hb dX4_round_103 ?_
                        refine k_op (y := .int (nI (t1 ||| 2 ^ k1))) (congrArg Value.int (nI_or _ _)) ?_
                        refine lv_istore (lv' := [(5, .int (nI (t1 ||| 2 ^ k1))), (7, .int (nI (takesF σ k1))), (4, .int (nI (max (iN x1) (iN x2)))), (6, .int (nI k1)), (0, .ref h)]) C.hx C.hb dX4_round_104 hl29 (Nat.le_of_ble_eq_true rfl) rfl (fun ls31 hl31 => ?_)
                        clear hl29
                        refine kn_iinc (lv' := [(6, .int (nI (k1 + 1))), (5, .int (nI (t1 ||| 2 ^ k1))), (7, .int (nI (takesF σ k1))), (4, .int (nI (max (iN x1) (iN x2)))), (0, .ref h)]) (k := 3) C dX4_round_106 hl31 rfl (Nat.le_of_ble_eq_true rfl) rfl (fun ls32 hl32 => ?_)
                        clear hl31
                        refine lv_goto (tgt := 67) C.hx C.hb dX4_round_109 (by decide) ?_
                        exact ih27 (d1 - 1) (k1 + 1) (t1 ||| 2 ^ k1) (by rw [← hLa_0]; refine Eq.symm (Eq.trans (roundR_step (σ := s2 σ 37 0 0) (by omega) c85) ?_); exact congrArg (roundR (s2 σ 37 0 0) (d1 - 1) (k1 + 1)) (if_pos (show 6 ≤ takesF σ k1 from by omega))) (by omega) (by omega) _ _ _ hW28 (lv_sub hl32 [3, 1, 0, 4] rfl)
                    · refine lv_iconst (v := nI NONE) C.hx C.hb dX4_round_88 (by decide) ?_
                      have hR9 : roundF σ (iN x1) (iN x2) = NONE := by rw [← hLa_0]; exact roundR_stop (σ := s2 σ 37 0 0) (by omega) c85
                      exact k_iret C hW28 rfl ⟨by rw [if_pos (show cRound x1 x2 = 0 from hc), hR9], by rw [if_pos (show cRound x1 x2 = 0 from hc)]⟩ (Nat.le_refl _) (Nat.le_refl _) dX4_round_89
              have e33 : (max (iN x1) (iN x2)) = (iN x2) := by first | rfl | omega
              have e34 : (min (iN x1) (iN x2)) = (iN x1) := by first | rfl | omega
              exact La ((dist (iN x1) (iN x2)) + 1) (dist (iN x1) (iN x2)) (min (iN x1) (iN x2)) 0 rfl (by unfold dist; split <;> omega) (Nat.lt_succ_self _) _ _ _ hW8 (by rw [e33, e34]; exact (lv_sub hl26 [2, 1, 0, 4] rfl))
        · have hc : ¬ (c2_ (inR x1 0 6 ∧ inR x2 0 6) (¬ x1 = x2)) = 0 := c2_n c33
          refine kn_iconst (a := 0) C (by decide) dX4_round_36 ?_
          exact k_iret C hW8 rfl ⟨by rw [if_neg (show ¬ cRound x1 x2 = 0 from hc)], by rw [if_neg (show ¬ cRound x1 x2 = 0 from hc)]; rfl⟩ (Nat.le_refl _) (Nat.le_refl _) dX4_round_37
