def Q_ctX4_season (G : GT) (h : Nat) (ad : Nat → Nat) (σ : Sg)  : Option Value → List va_W → Prop := fun v S1 => v = some (.int (nI (seasonN (σ 30 0)))) ∧ S1 = mW G h ad (k0 σ 0)
set_option maxHeartbeats 4000000 in
set_option maxRecDepth 100000 in
theorem ctX4_season (l : Launch) (G : GT) (h : Nat) (ad : Nat → Nat) (σ : Sg)  (hS : Sf σ) : Ct l G yX4_season cX4_season 1 (some .int) 1 20 0 0 [.ref h] (mW G h ad σ) noR (Q_ctX4_season G h ad σ) := by
  refine Ct.of (by decide +kernel) (Nat.le_of_ble_eq_true rfl) ?_
  intro p e s m below meth c A ls C hW hRo hl
  have hl : lv_has ls 1 [(0, .ref h)] := hl
  have hB : Bd σ := hS.1
  have h32 : σ 32 0 ≤ 200 := Nat.lt_succ_iff.mp (hB.lt 32 (by decide) 0)
  have h34 : σ 34 0 ≤ 480 := Nat.lt_succ_iff.mp (hB.lt 34 (by decide) 0)
  have h35 : σ 35 0 ≤ 64 := Nat.lt_succ_iff.mp (hB.lt 35 (by decide) 0)
  have h36 : σ 36 0 ≤ 60 := Nat.lt_succ_iff.mp (hB.lt 36 (by decide) 0)
  have h30 : σ 30 0 ≤ 5000 := Nat.lt_succ_iff.mp (hB.lt 30 (by decide) 0)
  refine lv_aload_n C.hx C.hb dX4_season_0 rfl (lv_at hl 0 rfl) ?_
  refine kn_iconst (a := 0) C (by decide) dX4_season_1 ?_
  refine k_put (S' := mW G h ad (s2 σ 37 0 0)) C clX4 hW 0 0 rfl rfl 37 (Nat.le_of_ble_eq_true rfl) rfl q2361 rfl (fun _ h => h) (Or.inl rfl) (fty := .int) (v := .int (nI 0)) (by decide +kernel) rfl rfl (Nat.le_of_ble_eq_true rfl) dX4_season_2 (mput37 G h ad _ _) (fun H1 locs1 hW1 => ?_)
  clear hW
  refine lv_aload_n C.hx C.hb dX4_season_5 rfl (lv_at hl 0 rfl) ?_
  refine k_get (v := .int (nI (σ 30 0))) C clX4 (hW1.get 0 0 rfl rfl) 30 (Nat.le_of_ble_eq_true rfl) rfl q2354 rfl rfl dX4_season_6 ?_
  refine k_callS (Sc := []) (Sr := mW G h ad (s2 σ 37 0 0)) (As := [.int (nI (σ 30 0))]) (rest := []) C (ctX4_seasonOf l G (σ 30 0) (by omega)) hW1 q2498 q2499 q85 q2500 rfl ⟨by decide, by decide, Eq.trans (b := some 1) (by decide +kernel) rfl⟩ (Nat.le_of_ble_eq_true rfl) (Nat.le_of_ble_eq_true rfl) (Nat.le_refl _) (Nat.le_refl _) hl.1 rfl (Nat.le_of_ble_eq_true rfl) dX4_season_9 (k_permR _) (fun _ h => h.elim) (fun v H2 locs2 S1 hQ hz2 hW2 => ?_)
  obtain ⟨rfl, rfl⟩ := hQ
  have hW2 : Ws G A s (mW G h ad (s2 σ 37 0 0)) H2 locs2 := hW2
  clear hW1
  refine W.eq (g2 := F0 m 12 ls [.int (nI (seasonN (σ 30 0)))]) rfl ?_
  exact k_iret C hW2 rfl ⟨rfl, rfl⟩ (Nat.le_refl _) (Nat.le_refl _) dX4_season_12

def Q_ctX4_setSoftness (G : GT) (h : Nat) (ad : Nat → Nat) (σ : Sg) (x1 x2 : Int32) : Option Value → List va_W → Prop := fun v S1 => v = some (.int (nI (if cSoft x1 x2 = 0 then σ 0 (iN x1) else 0))) ∧ S1 = mW G h ad (if cSoft x1 x2 = 0 then s2 (k0 σ 0) 0 (iN x1) (iN x2) else k0 σ (cSoft x1 x2))
set_option maxHeartbeats 4000000 in
set_option maxRecDepth 100000 in
theorem ctX4_setSoftness (l : Launch) (G : GT) (h : Nat) (ad : Nat → Nat) (σ : Sg) (x1 x2 : Int32) (hS : Sf σ) : Ct l G yX4_setSoftness cX4_setSoftness 4 (some .int) 2 45 0 0 [.ref h, .int x1, .int x2] (mW G h ad σ) noR (Q_ctX4_setSoftness G h ad σ x1 x2) := by
  refine Ct.of (by decide +kernel) (Nat.le_of_ble_eq_true rfl) ?_
  intro p e s m below meth c A ls C hW hRo hl
  have hl : lv_has ls 4 [(0, .ref h), (1, .int x1), (2, .int x2)] := hl
  have hB : Bd σ := hS.1
  have h32 : σ 32 0 ≤ 200 := Nat.lt_succ_iff.mp (hB.lt 32 (by decide) 0)
  have h34 : σ 34 0 ≤ 480 := Nat.lt_succ_iff.mp (hB.lt 34 (by decide) 0)
  have h35 : σ 35 0 ≤ 64 := Nat.lt_succ_iff.mp (hB.lt 35 (by decide) 0)
  have h36 : σ 36 0 ≤ 60 := Nat.lt_succ_iff.mp (hB.lt 36 (by decide) 0)
  have h30 : σ 30 0 ≤ 5000 := Nat.lt_succ_iff.mp (hB.lt 30 (by decide) 0)
  refine lv_aload_n C.hx C.hb dX4_setSoftness_0 rfl (lv_at hl 0 rfl) ?_
  refine lv_iload_n C.hx C.hb dX4_setSoftness_1 rfl (lv_at hl 1 rfl) ?_
  refine k_callS (Sc := []) (Sr := mW G h ad σ) (As := [.int x1]) (rest := [.ref h]) C (ctX4_isStretch l G x1) hW q2509 q2510 q85 q2511 rfl ⟨by decide, by decide, Eq.trans (b := some 1) (by decide +kernel) rfl⟩ (Nat.le_of_ble_eq_true rfl) (Nat.le_of_ble_eq_true rfl) (Nat.le_refl _) (Nat.le_refl _) hl.1 rfl (Nat.le_of_ble_eq_true rfl) dX4_setSoftness_2 (k_permR _) (fun _ h => h.elim) (fun v H1 locs1 S1 hQ hz1 hW1 => ?_)
  obtain ⟨rfl, rfl⟩ := hQ
  have hW1 : Ws G A s (mW G h ad σ) H1 locs1 := hW1
  clear hW
  refine W.eq (g2 := F0 m 5 ls [.int (b01 (inR x1 0 11)), .ref h]) rfl ?_
  refine lv_iload_n C.hx C.hb dX4_setSoftness_5 rfl (lv_at hl 2 rfl) ?_
  refine lv_i2l C.hx C.hb dX4_setSoftness_6 rfl ?_
  refine kn_lconst (a := 0) C rfl dX4_setSoftness_7 ?_
  refine lv_ldc2 (own := "BogsignModel") (v := (lN 50)) C.hx C.hb C.hown (C.hts _ q2513) dX4_setSoftness_8 ?_
  refine k_callS (Sc := []) (Sr := mW G h ad σ) (As := [.long (x2).toInt64, .long (lN 0), .long (lN 50)]) (rest := [.int (b01 (inR x1 0 11)), .ref h]) C (ctX4_isBetween l G ((x2).toInt64) (lN 0) (lN 50)) hW1 q2449 q2450 q85 q2451 rfl ⟨by decide, by decide, Eq.trans (b := some 3) (by decide +kernel) rfl⟩ (Nat.le_of_ble_eq_true rfl) (Nat.le_of_ble_eq_true rfl) (Nat.le_refl _) (Nat.le_refl _) hl.1 rfl (Nat.le_of_ble_eq_true rfl) dX4_setSoftness_11 (k_permR _) (fun _ h => h.elim) (fun v H2 locs2 S1 hQ hz2 hW2 => ?_)
  obtain ⟨rfl, rfl⟩ := hQ
  have hW2 : Ws G A s (mW G h ad σ) H2 locs2 := hW2
  clear hW1
  refine W.eq (g2 := F0 m 14 ls [.int (b01 ((lN 0) ≤ (x2).toInt64 ∧ (x2).toInt64 ≤ (lN 50))), .int (b01 (inR x1 0 11)), .ref h]) rfl ?_
  refine k_op (y := .int (b01 (inR x2 0 50))) (by rw [b01_cg (inR64 x2 0 50 rfl rfl)]; rfl) ?_
  refine k_callV (Sc := mW G h ad σ) (Sr := []) (As := [.int (b01 (inR x1 0 11)), .int (b01 (inR x2 0 50))]) (rest := []) C (ctX4_goesBoth l G h ad σ (inR x1 0 11) (inR x2 0 50) hS) hW2 clX4 (hW2.get 0 0 rfl rfl) q2453 q2455 qs47 q85 q2456 rfl rfl ⟨by decide, by decide, Eq.trans (b := some 2) (by decide +kernel) rfl⟩ (Nat.le_of_ble_eq_true rfl) (Nat.le_of_ble_eq_true rfl) (Nat.le_refl _) (Nat.le_refl _) hl.1 rfl (Nat.le_of_ble_eq_true rfl) dX4_setSoftness_14 (List.Perm.refl _) (fun _ h => h.elim) (fun v H3 locs3 S1 hQ hz3 hW3 => ?_)
  obtain ⟨rfl, rfl⟩ := hQ
  have hW3 : Ws G A s (mW G h ad (s2 σ 37 0 (c2_ (inR x1 0 11) (inR x2 0 50)))) H3 locs3 := hW3
  clear hW2
  refine W.eq (g2 := F0 m 17 ls [.int (b01 ((inR x1 0 11) ∧ (inR x2 0 50)))]) rfl ?_
  refine kb_if_ne (tgt := 22) C dX4_setSoftness_17 (by decide) (fun c17 => ?_) (fun c17 => ?_)
  · have hc : (c2_ (inR x1 0 11) (inR x2 0 50)) = 0 := c2_0 c17
    rw [hc] at hW3
    obtain ⟨hx4, hy4, hz4⟩ := iN_eq (a := 0) (b := 11) (by decide) c17.1
    have hl4 : lv_has ls 4 [(0, .ref h), (1, .int (nI (iN x1))), (2, .int x2)] := by rw [← hx4]; exact hl
    obtain ⟨hx5, hy5, hz5⟩ := iN_eq (a := 0) (b := 50) (by decide) c17.2
    have hl5 : lv_has ls 4 [(0, .ref h), (1, .int (nI (iN x1))), (2, .int (nI (iN x2)))] := by rw [← hx5]; exact hl4
    refine lv_aload_n C.hx C.hb dX4_setSoftness_22 rfl (lv_at hl5 0 rfl) ?_
    refine k_get (v := .ref (ad 0)) C clX4 (hW3.get 0 0 rfl rfl) 0 (Nat.le_of_ble_eq_true rfl) rfl q2324 rfl rfl dX4_setSoftness_23 ?_
    refine lv_iload_n C.hx C.hb dX4_setSoftness_26 rfl (lv_at hl5 1 rfl) ?_
    refine k_iald C (f := (fun i => nI ((s2 σ 37 0 0) 0 i))) rfl (hW3.get 1 0 rfl rfl) (by omega) (by decide) dX4_setSoftness_27 ?_
    refine k_op (y := .int (nI (σ 0 (iN x1)))) (by simp [s2_rd]) ?_
    refine lv_istore_n (lv' := [(3, .int (nI (σ 0 (iN x1)))), (0, .ref h), (1, .int (nI (iN x1))), (2, .int (nI (iN x2)))]) C.hx C.hb dX4_setSoftness_28 rfl hl5 (Nat.le_of_ble_eq_true rfl) rfl (fun ls6 hl6 => ?_)
    clear hl5
    refine lv_aload_n C.hx C.hb dX4_setSoftness_29 rfl (lv_at hl6 1 rfl) ?_
    refine k_get (v := .ref (ad 0)) C clX4 (hW3.get 0 0 rfl rfl) 0 (Nat.le_of_ble_eq_true rfl) rfl q2324 rfl rfl dX4_setSoftness_30 ?_
    refine lv_iload_n C.hx C.hb dX4_setSoftness_33 rfl (lv_at hl6 2 rfl) ?_
    refine lv_iload_n C.hx C.hb dX4_setSoftness_34 rfl (lv_at hl6 3 rfl) ?_
    refine k_iast (S' := mW G h ad (s2 (s2 σ 37 0 0) 0 (iN x1) (iN x2))) C hW3 1 0 rfl rfl rfl (by omega) (by decide) dX4_setSoftness_35 (mset0 G h ad _ (iN x1) (iN x2)) (fun H7 locs7 hW7 => ?_)
    clear hW3
    refine lv_iload_n C.hx C.hb dX4_setSoftness_36 rfl (lv_at hl6 0 rfl) ?_
    exact k_iret C hW7 rfl ⟨by rw [if_pos (show cSoft x1 x2 = 0 from hc)], by rw [if_pos (show cSoft x1 x2 = 0 from hc)]⟩ (Nat.le_refl _) (Nat.le_refl _) dX4_setSoftness_37
  · have hc : ¬ (c2_ (inR x1 0 11) (inR x2 0 50)) = 0 := c2_n c17
    refine kn_iconst (a := 0) C (by decide) dX4_setSoftness_20 ?_
    exact k_iret C hW3 rfl ⟨by rw [if_neg (show ¬ cSoft x1 x2 = 0 from hc)], by rw [if_neg (show ¬ cSoft x1 x2 = 0 from hc)]; rfl⟩ (Nat.le_refl _) (Nat.le_refl _) dX4_setSoftness_21

def Q_ctX4_setDays (G : GT) (h : Nat) (ad : Nat → Nat) (σ : Sg) (x1 x2 : Int32) : Option Value → List va_W → Prop := fun v S1 => v = some (.int (nI (if cDays x1 x2 = 0 then σ 1 (iN x1) else 0))) ∧ S1 = mW G h ad (if cDays x1 x2 = 0 then s2 (k0 σ 0) 1 (iN x1) (iN x2) else k0 σ (cDays x1 x2))
set_option maxHeartbeats 4000000 in
set_option maxRecDepth 100000 in
theorem ctX4_setDays (l : Launch) (G : GT) (h : Nat) (ad : Nat → Nat) (σ : Sg) (x1 x2 : Int32) (hS : Sf σ) : Ct l G yX4_setDays cX4_setDays 4 (some .int) 2 45 0 0 [.ref h, .int x1, .int x2] (mW G h ad σ) noR (Q_ctX4_setDays G h ad σ x1 x2) := by
  refine Ct.of (by decide +kernel) (Nat.le_of_ble_eq_true rfl) ?_
  intro p e s m below meth c A ls C hW hRo hl
  have hl : lv_has ls 4 [(0, .ref h), (1, .int x1), (2, .int x2)] := hl
  have hB : Bd σ := hS.1
  have h32 : σ 32 0 ≤ 200 := Nat.lt_succ_iff.mp (hB.lt 32 (by decide) 0)
  have h34 : σ 34 0 ≤ 480 := Nat.lt_succ_iff.mp (hB.lt 34 (by decide) 0)
  have h35 : σ 35 0 ≤ 64 := Nat.lt_succ_iff.mp (hB.lt 35 (by decide) 0)
  have h36 : σ 36 0 ≤ 60 := Nat.lt_succ_iff.mp (hB.lt 36 (by decide) 0)
  have h30 : σ 30 0 ≤ 5000 := Nat.lt_succ_iff.mp (hB.lt 30 (by decide) 0)
  refine lv_aload_n C.hx C.hb dX4_setDays_0 rfl (lv_at hl 0 rfl) ?_
  refine lv_iload_n C.hx C.hb dX4_setDays_1 rfl (lv_at hl 1 rfl) ?_
  refine k_callS (Sc := []) (Sr := mW G h ad σ) (As := [.int x1]) (rest := [.ref h]) C (ctX4_isRider l G x1) hW q2518 q2519 q85 q2520 rfl ⟨by decide, by decide, Eq.trans (b := some 1) (by decide +kernel) rfl⟩ (Nat.le_of_ble_eq_true rfl) (Nat.le_of_ble_eq_true rfl) (Nat.le_refl _) (Nat.le_refl _) hl.1 rfl (Nat.le_of_ble_eq_true rfl) dX4_setDays_2 (k_permR _) (fun _ h => h.elim) (fun v H1 locs1 S1 hQ hz1 hW1 => ?_)
  obtain ⟨rfl, rfl⟩ := hQ
  have hW1 : Ws G A s (mW G h ad σ) H1 locs1 := hW1
  clear hW
  refine W.eq (g2 := F0 m 5 ls [.int (b01 (inR x1 0 3)), .ref h]) rfl ?_
  refine lv_iload_n C.hx C.hb dX4_setDays_5 rfl (lv_at hl 2 rfl) ?_
  refine lv_i2l C.hx C.hb dX4_setDays_6 rfl ?_
  refine kn_lconst (a := 1) C rfl dX4_setDays_7 ?_
  refine lv_ldc2 (own := "BogsignModel") (v := (lN 20)) C.hx C.hb C.hown (C.hts _ q2522) dX4_setDays_8 ?_
  refine k_callS (Sc := []) (Sr := mW G h ad σ) (As := [.long (x2).toInt64, .long (lN 1), .long (lN 20)]) (rest := [.int (b01 (inR x1 0 3)), .ref h]) C (ctX4_isBetween l G ((x2).toInt64) (lN 1) (lN 20)) hW1 q2449 q2450 q85 q2451 rfl ⟨by decide, by decide, Eq.trans (b := some 3) (by decide +kernel) rfl⟩ (Nat.le_of_ble_eq_true rfl) (Nat.le_of_ble_eq_true rfl) (Nat.le_refl _) (Nat.le_refl _) hl.1 rfl (Nat.le_of_ble_eq_true rfl) dX4_setDays_11 (k_permR _) (fun _ h => h.elim) (fun v H2 locs2 S1 hQ hz2 hW2 => ?_)
  obtain ⟨rfl, rfl⟩ := hQ
  have hW2 : Ws G A s (mW G h ad σ) H2 locs2 := hW2
  clear hW1
  refine W.eq (g2 := F0 m 14 ls [.int (b01 ((lN 1) ≤ (x2).toInt64 ∧ (x2).toInt64 ≤ (lN 20))), .int (b01 (inR x1 0 3)), .ref h]) rfl ?_
  refine k_op (y := .int (b01 (inR x2 1 20))) (by rw [b01_cg (inR64 x2 1 20 rfl rfl)]; rfl) ?_
  refine k_callV (Sc := mW G h ad σ) (Sr := []) (As := [.int (b01 (inR x1 0 3)), .int (b01 (inR x2 1 20))]) (rest := []) C (ctX4_goesBoth l G h ad σ (inR x1 0 3) (inR x2 1 20) hS) hW2 clX4 (hW2.get 0 0 rfl rfl) q2453 q2455 qs47 q85 q2456 rfl rfl ⟨by decide, by decide, Eq.trans (b := some 2) (by decide +kernel) rfl⟩ (Nat.le_of_ble_eq_true rfl) (Nat.le_of_ble_eq_true rfl) (Nat.le_refl _) (Nat.le_refl _) hl.1 rfl (Nat.le_of_ble_eq_true rfl) dX4_setDays_14 (List.Perm.refl _) (fun _ h => h.elim) (fun v H3 locs3 S1 hQ hz3 hW3 => ?_)
  obtain ⟨rfl, rfl⟩ := hQ
  have hW3 : Ws G A s (mW G h ad (s2 σ 37 0 (c2_ (inR x1 0 3) (inR x2 1 20)))) H3 locs3 := hW3
  clear hW2
  refine W.eq (g2 := F0 m 17 ls [.int (b01 ((inR x1 0 3) ∧ (inR x2 1 20)))]) rfl ?_
  refine kb_if_ne (tgt := 22) C dX4_setDays_17 (by decide) (fun c17 => ?_) (fun c17 => ?_)
  · have hc : (c2_ (inR x1 0 3) (inR x2 1 20)) = 0 := c2_0 c17
    rw [hc] at hW3
    obtain ⟨hx4, hy4, hz4⟩ := iN_eq (a := 0) (b := 3) (by decide) c17.1
    have hl4 : lv_has ls 4 [(0, .ref h), (1, .int (nI (iN x1))), (2, .int x2)] := by rw [← hx4]; exact hl
    obtain ⟨hx5, hy5, hz5⟩ := iN_eq (a := 1) (b := 20) (by decide) c17.2
    have hl5 : lv_has ls 4 [(0, .ref h), (1, .int (nI (iN x1))), (2, .int (nI (iN x2)))] := by rw [← hx5]; exact hl4
    refine lv_aload_n C.hx C.hb dX4_setDays_22 rfl (lv_at hl5 0 rfl) ?_
    refine k_get (v := .ref (ad 1)) C clX4 (hW3.get 0 0 rfl rfl) 1 (Nat.le_of_ble_eq_true rfl) rfl q2325 rfl rfl dX4_setDays_23 ?_
    refine lv_iload_n C.hx C.hb dX4_setDays_26 rfl (lv_at hl5 1 rfl) ?_
    refine k_iald C (f := (fun i => nI ((s2 σ 37 0 0) 1 i))) rfl (hW3.get 2 0 rfl rfl) (by omega) (by decide) dX4_setDays_27 ?_
    refine k_op (y := .int (nI (σ 1 (iN x1)))) (by simp [s2_rd]) ?_
    refine lv_istore_n (lv' := [(3, .int (nI (σ 1 (iN x1)))), (0, .ref h), (1, .int (nI (iN x1))), (2, .int (nI (iN x2)))]) C.hx C.hb dX4_setDays_28 rfl hl5 (Nat.le_of_ble_eq_true rfl) rfl (fun ls6 hl6 => ?_)
    clear hl5
    refine lv_aload_n C.hx C.hb dX4_setDays_29 rfl (lv_at hl6 1 rfl) ?_
    refine k_get (v := .ref (ad 1)) C clX4 (hW3.get 0 0 rfl rfl) 1 (Nat.le_of_ble_eq_true rfl) rfl q2325 rfl rfl dX4_setDays_30 ?_
    refine lv_iload_n C.hx C.hb dX4_setDays_33 rfl (lv_at hl6 2 rfl) ?_
    refine lv_iload_n C.hx C.hb dX4_setDays_34 rfl (lv_at hl6 3 rfl) ?_
    refine k_iast (S' := mW G h ad (s2 (s2 σ 37 0 0) 1 (iN x1) (iN x2))) C hW3 2 0 rfl rfl rfl (by omega) (by decide) dX4_setDays_35 (mset1 G h ad _ (iN x1) (iN x2)) (fun H7 locs7 hW7 => ?_)
    clear hW3
    refine lv_iload_n C.hx C.hb dX4_setDays_36 rfl (lv_at hl6 0 rfl) ?_
    exact k_iret C hW7 rfl ⟨by rw [if_pos (show cDays x1 x2 = 0 from hc)], by rw [if_pos (show cDays x1 x2 = 0 from hc)]⟩ (Nat.le_refl _) (Nat.le_refl _) dX4_setDays_37
  · have hc : ¬ (c2_ (inR x1 0 3) (inR x2 1 20)) = 0 := c2_n c17
    refine kn_iconst (a := 0) C (by decide) dX4_setDays_20 ?_
    exact k_iret C hW3 rfl ⟨by rw [if_neg (show ¬ cDays x1 x2 = 0 from hc)], by rw [if_neg (show ¬ cDays x1 x2 = 0 from hc)]; rfl⟩ (Nat.le_refl _) (Nat.le_refl _) dX4_setDays_21

def Q_ctX4_setLimit (G : GT) (h : Nat) (ad : Nat → Nat) (σ : Sg) (x1 : Int32) : Option Value → List va_W → Prop := fun v S1 => v = some (.int (nI (if cLim x1 = 0 then σ 31 0 else 0))) ∧ S1 = mW G h ad (if cLim x1 = 0 then s2 (k0 σ 0) 31 0 (iN x1) else k0 σ (cLim x1))
set_option maxHeartbeats 4000000 in
set_option maxRecDepth 100000 in
theorem ctX4_setLimit (l : Launch) (G : GT) (h : Nat) (ad : Nat → Nat) (σ : Sg) (x1 : Int32) (hS : Sf σ) : Ct l G yX4_setLimit cX4_setLimit 3 (some .int) 1 25 0 0 [.ref h, .int x1] (mW G h ad σ) noR (Q_ctX4_setLimit G h ad σ x1) := by
  refine Ct.of (by decide +kernel) (Nat.le_of_ble_eq_true rfl) ?_
  intro p e s m below meth c A ls C hW hRo hl
  have hl : lv_has ls 3 [(0, .ref h), (1, .int x1)] := hl
  have hB : Bd σ := hS.1
  have h32 : σ 32 0 ≤ 200 := Nat.lt_succ_iff.mp (hB.lt 32 (by decide) 0)
  have h34 : σ 34 0 ≤ 480 := Nat.lt_succ_iff.mp (hB.lt 34 (by decide) 0)
  have h35 : σ 35 0 ≤ 64 := Nat.lt_succ_iff.mp (hB.lt 35 (by decide) 0)
  have h36 : σ 36 0 ≤ 60 := Nat.lt_succ_iff.mp (hB.lt 36 (by decide) 0)
  have h30 : σ 30 0 ≤ 5000 := Nat.lt_succ_iff.mp (hB.lt 30 (by decide) 0)
  refine lv_aload_n C.hx C.hb dX4_setLimit_0 rfl (lv_at hl 0 rfl) ?_
  refine lv_iload_n C.hx C.hb dX4_setLimit_1 rfl (lv_at hl 1 rfl) ?_
  refine lv_i2l C.hx C.hb dX4_setLimit_2 rfl ?_
  refine kn_lconst (a := 0) C rfl dX4_setLimit_3 ?_
  refine lv_ldc2 (own := "BogsignModel") (v := (lN 1000)) C.hx C.hb C.hown (C.hts _ q2497) dX4_setLimit_4 ?_
  refine k_callS (Sc := []) (Sr := mW G h ad σ) (As := [.long (x1).toInt64, .long (lN 0), .long (lN 1000)]) (rest := [.ref h]) C (ctX4_isBetween l G ((x1).toInt64) (lN 0) (lN 1000)) hW q2449 q2450 q85 q2451 rfl ⟨by decide, by decide, Eq.trans (b := some 3) (by decide +kernel) rfl⟩ (Nat.le_of_ble_eq_true rfl) (Nat.le_of_ble_eq_true rfl) (Nat.le_refl _) (Nat.le_refl _) hl.1 rfl (Nat.le_of_ble_eq_true rfl) dX4_setLimit_7 (k_permR _) (fun _ h => h.elim) (fun v H1 locs1 S1 hQ hz1 hW1 => ?_)
  obtain ⟨rfl, rfl⟩ := hQ
  have hW1 : Ws G A s (mW G h ad σ) H1 locs1 := hW1
  clear hW
  refine W.eq (g2 := F0 m 10 ls [.int (b01 ((lN 0) ≤ (x1).toInt64 ∧ (x1).toInt64 ≤ (lN 1000))), .ref h]) rfl ?_
  refine k_op (y := .int (b01 (inR x1 0 1000))) (by rw [b01_cg (inR64 x1 0 1000 rfl rfl)]; rfl) ?_
  refine k_callV (Sc := mW G h ad σ) (Sr := []) (As := [.int (b01 (inR x1 0 1000))]) (rest := []) C (ctX4_goes l G h ad σ (inR x1 0 1000) hS) hW1 clX4 (hW1.get 0 0 rfl rfl) q2527 q2529 qs58 q85 q2530 rfl rfl ⟨by decide, by decide, Eq.trans (b := some 1) (by decide +kernel) rfl⟩ (Nat.le_of_ble_eq_true rfl) (Nat.le_of_ble_eq_true rfl) (Nat.le_refl _) (Nat.le_refl _) hl.1 rfl (Nat.le_of_ble_eq_true rfl) dX4_setLimit_10 (List.Perm.refl _) (fun _ h => h.elim) (fun v H2 locs2 S1 hQ hz2 hW2 => ?_)
  obtain ⟨rfl, rfl⟩ := hQ
  have hW2 : Ws G A s (mW G h ad (s2 σ 37 0 (if (inR x1 0 1000) then 0 else 1))) H2 locs2 := hW2
  clear hW1
  refine W.eq (g2 := F0 m 13 ls [.int (b01 ((inR x1 0 1000)))]) rfl ?_
  refine kb_if_ne (tgt := 18) C dX4_setLimit_13 (by decide) (fun c13 => ?_) (fun c13 => ?_)
  · have hc : (if (inR x1 0 1000) then 0 else 1) = 0 := c1_0 c13
    rw [hc] at hW2
    obtain ⟨hx3, hy3, hz3⟩ := iN_eq (a := 0) (b := 1000) (by decide) c13
    have hl3 : lv_has ls 3 [(0, .ref h), (1, .int (nI (iN x1)))] := by rw [← hx3]; exact hl
    refine lv_aload_n C.hx C.hb dX4_setLimit_18 rfl (lv_at hl3 0 rfl) ?_
    refine k_get (v := .int (nI (σ 31 0))) C clX4 (hW2.get 0 0 rfl rfl) 31 (Nat.le_of_ble_eq_true rfl) rfl q2355 rfl rfl dX4_setLimit_19 ?_
    refine lv_istore_n (lv' := [(2, .int (nI (σ 31 0))), (0, .ref h), (1, .int (nI (iN x1)))]) C.hx C.hb dX4_setLimit_22 rfl hl3 (Nat.le_of_ble_eq_true rfl) rfl (fun ls4 hl4 => ?_)
    clear hl3
    refine lv_aload_n C.hx C.hb dX4_setLimit_23 rfl (lv_at hl4 1 rfl) ?_
    refine lv_iload_n C.hx C.hb dX4_setLimit_24 rfl (lv_at hl4 2 rfl) ?_
    refine k_put (S' := mW G h ad (s2 (s2 σ 37 0 0) 31 0 (iN x1))) C clX4 hW2 0 0 rfl rfl 31 (Nat.le_of_ble_eq_true rfl) rfl q2355 rfl (fun _ h => h) (Or.inl rfl) (fty := .int) (v := .int (nI (iN x1))) (by decide +kernel) rfl rfl (Nat.le_of_ble_eq_true rfl) dX4_setLimit_25 (mput31 G h ad _ _) (fun H5 locs5 hW5 => ?_)
    clear hW2
    refine lv_iload_n C.hx C.hb dX4_setLimit_28 rfl (lv_at hl4 0 rfl) ?_
    exact k_iret C hW5 rfl ⟨by rw [if_pos (show cLim x1 = 0 from hc)], by rw [if_pos (show cLim x1 = 0 from hc)]⟩ (Nat.le_refl _) (Nat.le_refl _) dX4_setLimit_29
  · have hc : ¬ (if (inR x1 0 1000) then 0 else 1) = 0 := c1_n c13
    refine kn_iconst (a := 0) C (by decide) dX4_setLimit_16 ?_
    exact k_iret C hW2 rfl ⟨by rw [if_neg (show ¬ cLim x1 = 0 from hc)], by rw [if_neg (show ¬ cLim x1 = 0 from hc)]; rfl⟩ (Nat.le_refl _) (Nat.le_refl _) dX4_setLimit_17

def Q_ctX4_pass (G : GT) (h : Nat) (ad : Nat → Nat) (σ : Sg) (x1 : Int32) : Option Value → List va_W → Prop := fun v S1 => v = some (.int (nI (if cPass σ x1 = 0 then (passF σ (iN x1)) 30 0 else 0))) ∧ S1 = mW G h ad (if cPass σ x1 = 0 then passF σ (iN x1) else k0 σ (cPass σ x1))
set_option maxHeartbeats 4000000 in
set_option maxRecDepth 100000 in
theorem ctX4_pass (l : Launch) (G : GT) (h : Nat) (ad : Nat → Nat) (σ : Sg) (x1 : Int32) (hS : Sf σ) (hPO : inR x1 1 100 → (σ 30 0 : Int) + x1.toInt ≤ 5000 → PassOk σ (iN x1)) : Ct l G yX4_pass cX4_pass 3 (some .int) 5 117 0 0 [.ref h, .int x1] (mW G h ad σ) noR (Q_ctX4_pass G h ad σ x1) := by
  refine Ct.of (by decide +kernel) (Nat.le_of_ble_eq_true rfl) ?_
  intro p e s m below meth c A ls C hW hRo hl
  have hl : lv_has ls 3 [(0, .ref h), (1, .int x1)] := hl
  have hB : Bd σ := hS.1
  have h32 : σ 32 0 ≤ 200 := Nat.lt_succ_iff.mp (hB.lt 32 (by decide) 0)
  have h34 : σ 34 0 ≤ 480 := Nat.lt_succ_iff.mp (hB.lt 34 (by decide) 0)
  have h35 : σ 35 0 ≤ 64 := Nat.lt_succ_iff.mp (hB.lt 35 (by decide) 0)
  have h36 : σ 36 0 ≤ 60 := Nat.lt_succ_iff.mp (hB.lt 36 (by decide) 0)
  have h30 : σ 30 0 ≤ 5000 := Nat.lt_succ_iff.mp (hB.lt 30 (by decide) 0)
  refine lv_aload_n C.hx C.hb dX4_pass_0 rfl (lv_at hl 0 rfl) ?_
  refine lv_iload_n C.hx C.hb dX4_pass_1 rfl (lv_at hl 1 rfl) ?_
  refine lv_i2l C.hx C.hb dX4_pass_2 rfl ?_
  refine kn_lconst (a := 1) C rfl dX4_pass_3 ?_
  refine lv_ldc2 (own := "BogsignModel") (v := (lN 100)) C.hx C.hb C.hown (C.hts _ q2448) dX4_pass_4 ?_
  refine k_callS (Sc := []) (Sr := mW G h ad σ) (As := [.long (x1).toInt64, .long (lN 1), .long (lN 100)]) (rest := [.ref h]) C (ctX4_isBetween l G ((x1).toInt64) (lN 1) (lN 100)) hW q2449 q2450 q85 q2451 rfl ⟨by decide, by decide, Eq.trans (b := some 3) (by decide +kernel) rfl⟩ (Nat.le_of_ble_eq_true rfl) (Nat.le_of_ble_eq_true rfl) (Nat.le_refl _) (Nat.le_refl _) hl.1 rfl (Nat.le_of_ble_eq_true rfl) dX4_pass_7 (k_permR _) (fun _ h => h.elim) (fun v H1 locs1 S1 hQ hz1 hW1 => ?_)
  obtain ⟨rfl, rfl⟩ := hQ
  have hW1 : Ws G A s (mW G h ad σ) H1 locs1 := hW1
  clear hW
  refine W.eq (g2 := F0 m 10 ls [.int (b01 ((lN 1) ≤ (x1).toInt64 ∧ (x1).toInt64 ≤ (lN 100))), .ref h]) rfl ?_
  refine k_op (y := .int (b01 (inR x1 1 100))) (by rw [b01_cg (inR64 x1 1 100 rfl rfl)]; rfl) ?_
  refine lv_aload_n C.hx C.hb dX4_pass_10 rfl (lv_at hl 0 rfl) ?_
  refine k_get (v := .int (nI (σ 30 0))) C clX4 (hW1.get 0 0 rfl rfl) 30 (Nat.le_of_ble_eq_true rfl) rfl q2354 rfl rfl dX4_pass_11 ?_
  refine kn_i2l C (Nat.lt_of_lt_of_le (hB.lt 30 (by decide) 0) (by decide)) dX4_pass_14 ?_
  refine lv_iload_n C.hx C.hb dX4_pass_15 rfl (lv_at hl 1 rfl) ?_
  refine lv_i2l C.hx C.hb dX4_pass_16 rfl ?_
  refine lv_ladd C.hx C.hb dX4_pass_17 ?_
  refine lv_ldc2 (own := "BogsignModel") (v := (lN 5000)) C.hx C.hb C.hown (C.hts _ q2452) dX4_pass_18 ?_
  refine W.lcmp C.hx C.hb dX4_pass_21 ?_
  refine lv_if_gt (tgt := 29) C.hx C.hb dX4_pass_22 (by decide) (fun c22 => ?_) (fun c22 => ?_)
  · refine kn_iconst (a := 0) C (by decide) dX4_pass_29 ?_
    refine k_op (y := .int (b01 ((σ 30 0 : Int) + x1.toInt ≤ (5000 : Nat)))) (by rw [b01_f (fun q => lg_nle (lg_gt0.mp c22) ((le_addI x1 (by omega) (by decide)).mpr q))]; rfl) ?_
    refine k_callV (Sc := mW G h ad σ) (Sr := []) (As := [.int (b01 (inR x1 1 100)), .int (b01 ((σ 30 0 : Int) + x1.toInt ≤ (5000 : Nat)))]) (rest := []) C (ctX4_goesBoth l G h ad σ (inR x1 1 100) ((σ 30 0 : Int) + x1.toInt ≤ (5000 : Nat)) hS) hW1 clX4 (hW1.get 0 0 rfl rfl) q2453 q2455 qs47 q85 q2456 rfl rfl ⟨by decide, by decide, Eq.trans (b := some 2) (by decide +kernel) rfl⟩ (Nat.le_of_ble_eq_true rfl) (Nat.le_of_ble_eq_true rfl) (Nat.le_refl _) (Nat.le_refl _) hl.1 rfl (Nat.le_of_ble_eq_true rfl) dX4_pass_30 (List.Perm.refl _) (fun _ h => h.elim) (fun v H2 locs2 S1 hQ hz2 hW2 => ?_)
    obtain ⟨rfl, rfl⟩ := hQ
    have hW2 : Ws G A s (mW G h ad (s2 σ 37 0 (c2_ (inR x1 1 100) ((σ 30 0 : Int) + x1.toInt ≤ (5000 : Nat))))) H2 locs2 := hW2
    clear hW1
    refine W.eq (g2 := F0 m 33 ls [.int (b01 ((inR x1 1 100) ∧ ((σ 30 0 : Int) + x1.toInt ≤ (5000 : Nat))))]) rfl ?_
    refine kb_if_ne (tgt := 38) C dX4_pass_33 (by decide) (fun c33 => ?_) (fun c33 => ?_)
    · have hc : (c2_ (inR x1 1 100) ((σ 30 0 : Int) + x1.toInt ≤ (5000 : Nat))) = 0 := c2_0 c33
      rw [hc] at hW2
      obtain ⟨hx3, hy3, hz3⟩ := iN_eq (a := 1) (b := 100) (by decide) c33.1
      have hl3 : lv_has ls 3 [(0, .ref h), (1, .int (nI (iN x1)))] := by rw [← hx3]; exact hl
      have hP := hPO c33.1 c33.2
      refine kn_iconst (a := 0) C (by decide) dX4_pass_38 ?_
      refine lv_istore_n (lv' := [(2, .int (nI 0)), (0, .ref h), (1, .int (nI (iN x1)))]) C.hx C.hb dX4_pass_39 rfl hl3 (Nat.le_of_ble_eq_true rfl) rfl (fun ls4 hl4 => ?_)
      clear hl3
      have La : ∀ (k5 : Nat) (k1 : Nat) (τ : Sg), (k1 ≤ iN x1) → (τ = lp (fun _ => dayF) k1 (s2 σ 37 0 0)) → iN x1 - k1 < k5 → ∀ (H5 : Heap) (locs5 : List Loc) (ls5 : Array Slot), Ws G A s (mW G h ad τ) H5 locs5 → lv_has ls5 3 [(2, .int (nI k1)), (0, .ref h), (1, .int (nI (iN x1)))] → W p l e ({ frames := 5, cells := 0, slots := 0, locals := 117 } : Room) s m ([.ref h, .int x1] : List Value).toArray below meth c H5 locs5 0 0 (MQ below (cQ G A (Q_ctX4_pass G h ad σ x1)) ([.ref h, .int x1] : List Value).toArray s 0 0 A) (F0 m 40 ls5 []) := by
        intro k5
        induction k5 with
        | zero => intro k1 τ hLa_0 hLa_1 hm5; exact absurd hm5 (Nat.not_lt_zero _)
        | succ k5 ih5 =>
          intro k1 τ hLa_0 hLa_1 hm5 H5 locs5 ls5 hW5 hl5
          have t30 : τ 30 0 = σ 30 0 + k1 := by rw [hLa_1, days_30]; rfl
          refine lv_iload_n C.hx C.hb dX4_pass_40 rfl (lv_at hl5 0 rfl) ?_
          refine lv_iload_n C.hx C.hb dX4_pass_41 rfl (lv_at hl5 2 rfl) ?_
          refine kn_icmp_ge (tgt := 55) C (by omega) (by omega) dX4_pass_42 (by decide) (fun c42 => ?_) (fun c42 => ?_)
          · refine lv_aload_n C.hx C.hb dX4_pass_55 rfl (lv_at hl5 1 rfl) ?_
            refine k_get (v := .int (nI (τ 30 0))) C clX4 (hW5.get 0 0 rfl rfl) 30 (Nat.le_of_ble_eq_true rfl) rfl q2354 rfl rfl dX4_pass_56 ?_
            exact k_iret C hW5 rfl ⟨by rw [if_pos (show cPass σ x1 = 0 from hc), show (passF σ (iN x1)) = τ by rw [hLa_1, show k1 = iN x1 by omega]; rfl], by rw [if_pos (show cPass σ x1 = 0 from hc), show (passF σ (iN x1)) = τ by rw [hLa_1, show k1 = iN x1 by omega]; rfl]⟩ (Nat.le_refl _) (Nat.le_refl _) dX4_pass_59
          · refine lv_aload_n C.hx C.hb dX4_pass_45 rfl (lv_at hl5 1 rfl) ?_
            refine k_callV (Sc := mW G h ad τ) (Sr := []) (As := []) (rest := []) C (ctX4_dayGoes l G h ad τ (by rw [hLa_1]; exact (hP k1 (by omega)).1) (by rw [hLa_1]; exact (hP k1 (by omega)).2)) hW5 clX4 (hW5.get 0 0 rfl rfl) q2457 q2459 qs48 q85 q2460 rfl rfl ⟨by decide, by decide, Eq.trans (b := some 0) (by decide +kernel) rfl⟩ (Nat.le_of_ble_eq_true rfl) (Nat.le_of_ble_eq_true rfl) (Nat.le_refl _) (Nat.le_refl _) hl5.1 rfl (Nat.le_of_ble_eq_true rfl) dX4_pass_46 (List.Perm.refl _) (fun _ h => h.elim) (fun v H6 locs6 S1 hQ hz6 hW6 => ?_)
            obtain ⟨rfl, rfl⟩ := hQ
            have hW6 : Ws G A s (mW G h ad (dayF τ)) H6 locs6 := hW6
            clear hW5
            refine W.eq (g2 := F0 m 49 ls5 []) rfl ?_
            refine kn_iinc (lv' := [(2, .int (nI (k1 + 1))), (0, .ref h), (1, .int (nI (iN x1)))]) (k := 0) C dX4_pass_49 hl5 rfl (Nat.le_of_ble_eq_true rfl) rfl (fun ls7 hl7 => ?_)
            clear hl5
            refine lv_goto (tgt := 40) C.hx C.hb dX4_pass_52 (by decide) ?_
            exact ih5 (k1 + 1) (dayF τ) (by omega) (by show _ = dayF (lp (fun _ => dayF) k1 _); rw [← hLa_1]) (by omega) _ _ _ hW6 (lv_sub hl7 [0, 1, 2] rfl)
      exact La (iN x1 - 0 + 1) 0 (s2 σ 37 0 0) (Nat.zero_le _) rfl (Nat.lt_succ_self _) _ _ _ hW2 (lv_sub hl4 [0, 1, 2] rfl)
    · have hc : ¬ (c2_ (inR x1 1 100) ((σ 30 0 : Int) + x1.toInt ≤ (5000 : Nat))) = 0 := c2_n c33
      refine kn_iconst (a := 0) C (by decide) dX4_pass_36 ?_
      exact k_iret C hW2 rfl ⟨by rw [if_neg (show ¬ cPass σ x1 = 0 from hc)], by rw [if_neg (show ¬ cPass σ x1 = 0 from hc)]; rfl⟩ (Nat.le_refl _) (Nat.le_refl _) dX4_pass_37
  · refine kn_iconst (a := 1) C (by decide) dX4_pass_25 ?_
    refine lv_goto (tgt := 30) C.hx C.hb dX4_pass_26 (by decide) ?_
    refine k_op (y := .int (b01 ((σ 30 0 : Int) + x1.toInt ≤ (5000 : Nat)))) (by rw [b01_t ((le_addI x1 (by omega) (by decide)).mp (lg_le (fun q => c22 (lg_gt0.mpr q))))]; rfl) ?_
    refine k_callV (Sc := mW G h ad σ) (Sr := []) (As := [.int (b01 (inR x1 1 100)), .int (b01 ((σ 30 0 : Int) + x1.toInt ≤ (5000 : Nat)))]) (rest := []) C (ctX4_goesBoth l G h ad σ (inR x1 1 100) ((σ 30 0 : Int) + x1.toInt ≤ (5000 : Nat)) hS) hW1 clX4 (hW1.get 0 0 rfl rfl) q2453 q2455 qs47 q85 q2456 rfl rfl ⟨by decide, by decide, Eq.trans (b := some 2) (by decide +kernel) rfl⟩ (Nat.le_of_ble_eq_true rfl) (Nat.le_of_ble_eq_true rfl) (Nat.le_refl _) (Nat.le_refl _) hl.1 rfl (Nat.le_of_ble_eq_true rfl) dX4_pass_30 (List.Perm.refl _) (fun _ h => h.elim) (fun v H8 locs8 S1 hQ hz8 hW8 => ?_)
    obtain ⟨rfl, rfl⟩ := hQ
    have hW8 : Ws G A s (mW G h ad (s2 σ 37 0 (c2_ (inR x1 1 100) ((σ 30 0 : Int) + x1.toInt ≤ (5000 : Nat))))) H8 locs8 := hW8
    clear hW1
    refine W.eq (g2 := F0 m 33 ls [.int (b01 ((inR x1 1 100) ∧ ((σ 30 0 : Int) + x1.toInt ≤ (5000 : Nat))))]) rfl ?_
    refine kb_if_ne (tgt := 38) C dX4_pass_33 (by decide) (fun c33 => ?_) (fun c33 => ?_)
    · have hc : (c2_ (inR x1 1 100) ((σ 30 0 : Int) + x1.toInt ≤ (5000 : Nat))) = 0 := c2_0 c33
      rw [hc] at hW8
      obtain ⟨hx9, hy9, hz9⟩ := iN_eq (a := 1) (b := 100) (by decide) c33.1
      have hl9 : lv_has ls 3 [(0, .ref h), (1, .int (nI (iN x1)))] := by rw [← hx9]; exact hl
      have hP := hPO c33.1 c33.2
      refine kn_iconst (a := 0) C (by decide) dX4_pass_38 ?_
      refine lv_istore_n (lv' := [(2, .int (nI 0)), (0, .ref h), (1, .int (nI (iN x1)))]) C.hx C.hb dX4_pass_39 rfl hl9 (Nat.le_of_ble_eq_true rfl) rfl (fun ls10 hl10 => ?_)
      clear hl9
      have La : ∀ (k11 : Nat) (k1 : Nat) (τ : Sg), (k1 ≤ iN x1) → (τ = lp (fun _ => dayF) k1 (s2 σ 37 0 0)) → iN x1 - k1 < k11 → ∀ (H11 : Heap) (locs11 : List Loc) (ls11 : Array Slot), Ws G A s (mW G h ad τ) H11 locs11 → lv_has ls11 3 [(2, .int (nI k1)), (0, .ref h), (1, .int (nI (iN x1)))] → W p l e ({ frames := 5, cells := 0, slots := 0, locals := 117 } : Room) s m ([.ref h, .int x1] : List Value).toArray below meth c H11 locs11 0 0 (MQ below (cQ G A (Q_ctX4_pass G h ad σ x1)) ([.ref h, .int x1] : List Value).toArray s 0 0 A) (F0 m 40 ls11 []) := by
        intro k11
        induction k11 with
        | zero => intro k1 τ hLa_0 hLa_1 hm11; exact absurd hm11 (Nat.not_lt_zero _)
        | succ k11 ih11 =>
          intro k1 τ hLa_0 hLa_1 hm11 H11 locs11 ls11 hW11 hl11
          have t30 : τ 30 0 = σ 30 0 + k1 := by rw [hLa_1, days_30]; rfl
          refine lv_iload_n C.hx C.hb dX4_pass_40 rfl (lv_at hl11 0 rfl) ?_
          refine lv_iload_n C.hx C.hb dX4_pass_41 rfl (lv_at hl11 2 rfl) ?_
          refine kn_icmp_ge (tgt := 55) C (by omega) (by omega) dX4_pass_42 (by decide) (fun c42 => ?_) (fun c42 => ?_)
          · refine lv_aload_n C.hx C.hb dX4_pass_55 rfl (lv_at hl11 1 rfl) ?_
            refine k_get (v := .int (nI (τ 30 0))) C clX4 (hW11.get 0 0 rfl rfl) 30 (Nat.le_of_ble_eq_true rfl) rfl q2354 rfl rfl dX4_pass_56 ?_
            exact k_iret C hW11 rfl ⟨by rw [if_pos (show cPass σ x1 = 0 from hc), show (passF σ (iN x1)) = τ by rw [hLa_1, show k1 = iN x1 by omega]; rfl], by rw [if_pos (show cPass σ x1 = 0 from hc), show (passF σ (iN x1)) = τ by rw [hLa_1, show k1 = iN x1 by omega]; rfl]⟩ (Nat.le_refl _) (Nat.le_refl _) dX4_pass_59
          · refine lv_aload_n C.hx C.hb dX4_pass_45 rfl (lv_at hl11 1 rfl) ?_
            refine k_callV (Sc := mW G h ad τ) (Sr := []) (As := []) (rest := []) C (ctX4_dayGoes l G h ad τ (by rw [hLa_1]; exact (hP k1 (by omega)).1) (by rw [hLa_1]; exact (hP k1 (by omega)).2)) hW11 clX4 (hW11.get 0 0 rfl rfl) q2457 q2459 qs48 q85 q2460 rfl rfl ⟨by decide, by decide, Eq.trans (b := some 0) (by decide +kernel) rfl⟩ (Nat.le_of_ble_eq_true rfl) (Nat.le_of_ble_eq_true rfl) (Nat.le_refl _) (Nat.le_refl _) hl11.1 rfl (Nat.le_of_ble_eq_true rfl) dX4_pass_46 (List.Perm.refl _) (fun _ h => h.elim) (fun v H12 locs12 S1 hQ hz12 hW12 => ?_)
            obtain ⟨rfl, rfl⟩ := hQ
            have hW12 : Ws G A s (mW G h ad (dayF τ)) H12 locs12 := hW12
            clear hW11
            refine W.eq (g2 := F0 m 49 ls11 []) rfl ?_
            refine kn_iinc (lv' := [(2, .int (nI (k1 + 1))), (0, .ref h), (1, .int (nI (iN x1)))]) (k := 0) C dX4_pass_49 hl11 rfl (Nat.le_of_ble_eq_true rfl) rfl (fun ls13 hl13 => ?_)
            clear hl11
            refine lv_goto (tgt := 40) C.hx C.hb dX4_pass_52 (by decide) ?_
            exact ih11 (k1 + 1) (dayF τ) (by omega) (by show _ = dayF (lp (fun _ => dayF) k1 _); rw [← hLa_1]) (by omega) _ _ _ hW12 (lv_sub hl13 [0, 1, 2] rfl)
      exact La (iN x1 - 0 + 1) 0 (s2 σ 37 0 0) (Nat.zero_le _) rfl (Nat.lt_succ_self _) _ _ _ hW8 (lv_sub hl10 [0, 1, 2] rfl)
    · have hc : ¬ (c2_ (inR x1 1 100) ((σ 30 0 : Int) + x1.toInt ≤ (5000 : Nat))) = 0 := c2_n c33
      refine kn_iconst (a := 0) C (by decide) dX4_pass_36 ?_
      exact k_iret C hW8 rfl ⟨by rw [if_neg (show ¬ cPass σ x1 = 0 from hc)], by rw [if_neg (show ¬ cPass σ x1 = 0 from hc)]; rfl⟩ (Nat.le_refl _) (Nat.le_refl _) dX4_pass_37

def Q_ctX4_cut (G : GT) (h : Nat) (ad : Nat → Nat) (σ : Sg) (x1 : Int32) : Option Value → List va_W → Prop := fun v S1 => v = some (.int (nI (if cCut σ x1 = 0 then σ 30 0 + 14 else 0))) ∧ S1 = mW G h ad (if cCut σ x1 = 0 then comesF (s2 (k0 σ 0) 33 0 (σ 33 0 + iN x1)) (σ 30 0 + 14) 0 (iN x1) else k0 σ (cCut σ x1))
set_option maxHeartbeats 4000000 in
set_option maxRecDepth 100000 in
theorem ctX4_cut (l : Launch) (G : GT) (h : Nat) (ad : Nat → Nat) (σ : Sg) (x1 : Int32) (hS : Sf σ) (he : σ 34 0 < 480) : Ct l G yX4_cut cX4_cut 3 (some .int) 1 25 0 0 [.ref h, .int x1] (mW G h ad σ) noR (Q_ctX4_cut G h ad σ x1) := by
  refine Ct.of (by decide +kernel) (Nat.le_of_ble_eq_true rfl) ?_
  intro p e s m below meth c A ls C hW hRo hl
  have hl : lv_has ls 3 [(0, .ref h), (1, .int x1)] := hl
  have hB : Bd σ := hS.1
  have h32 : σ 32 0 ≤ 200 := Nat.lt_succ_iff.mp (hB.lt 32 (by decide) 0)
  have h34 : σ 34 0 ≤ 480 := Nat.lt_succ_iff.mp (hB.lt 34 (by decide) 0)
  have h35 : σ 35 0 ≤ 64 := Nat.lt_succ_iff.mp (hB.lt 35 (by decide) 0)
  have h36 : σ 36 0 ≤ 60 := Nat.lt_succ_iff.mp (hB.lt 36 (by decide) 0)
  have h30 : σ 30 0 ≤ 5000 := Nat.lt_succ_iff.mp (hB.lt 30 (by decide) 0)
  have h33 : σ 33 0 < 201 := hB.lt 33 (by decide) 0
  refine lv_aload_n C.hx C.hb dX4_cut_0 rfl (lv_at hl 0 rfl) ?_
  refine lv_iload_n C.hx C.hb dX4_cut_1 rfl (lv_at hl 1 rfl) ?_
  refine lv_i2l C.hx C.hb dX4_cut_2 rfl ?_
  refine kn_lconst (a := 1) C rfl dX4_cut_3 ?_
  refine lv_ldc2 (own := "BogsignModel") (v := (lN 20)) C.hx C.hb C.hown (C.hts _ q2522) dX4_cut_4 ?_
  refine k_callS (Sc := []) (Sr := mW G h ad σ) (As := [.long (x1).toInt64, .long (lN 1), .long (lN 20)]) (rest := [.ref h]) C (ctX4_isBetween l G ((x1).toInt64) (lN 1) (lN 20)) hW q2449 q2450 q85 q2451 rfl ⟨by decide, by decide, Eq.trans (b := some 3) (by decide +kernel) rfl⟩ (Nat.le_of_ble_eq_true rfl) (Nat.le_of_ble_eq_true rfl) (Nat.le_refl _) (Nat.le_refl _) hl.1 rfl (Nat.le_of_ble_eq_true rfl) dX4_cut_7 (k_permR _) (fun _ h => h.elim) (fun v H1 locs1 S1 hQ hz1 hW1 => ?_)
  obtain ⟨rfl, rfl⟩ := hQ
  have hW1 : Ws G A s (mW G h ad σ) H1 locs1 := hW1
  clear hW
  refine W.eq (g2 := F0 m 10 ls [.int (b01 ((lN 1) ≤ (x1).toInt64 ∧ (x1).toInt64 ≤ (lN 20))), .ref h]) rfl ?_
  refine k_op (y := .int (b01 (inR x1 1 20))) (by rw [b01_cg (inR64 x1 1 20 rfl rfl)]; rfl) ?_
  refine lv_aload_n C.hx C.hb dX4_cut_10 rfl (lv_at hl 0 rfl) ?_
  refine k_get (v := .int (nI (σ 33 0))) C clX4 (hW1.get 0 0 rfl rfl) 33 (Nat.le_of_ble_eq_true rfl) rfl q2357 rfl rfl dX4_cut_11 ?_
  refine kn_i2l C (Nat.lt_of_lt_of_le (hB.lt 33 (by decide) 0) (by decide)) dX4_cut_14 ?_
  refine lv_iload_n C.hx C.hb dX4_cut_15 rfl (lv_at hl 1 rfl) ?_
  refine lv_i2l C.hx C.hb dX4_cut_16 rfl ?_
  refine lv_ladd C.hx C.hb dX4_cut_17 ?_
  refine lv_ldc2 (own := "BogsignModel") (v := (lN 200)) C.hx C.hb C.hown (C.hts _ q2535) dX4_cut_18 ?_
  refine W.lcmp C.hx C.hb dX4_cut_21 ?_
  refine lv_if_gt (tgt := 29) C.hx C.hb dX4_cut_22 (by decide) (fun c22 => ?_) (fun c22 => ?_)
  · refine kn_iconst (a := 0) C (by decide) dX4_cut_29 ?_
    refine k_op (y := .int (b01 ((σ 33 0 : Int) + x1.toInt ≤ (200 : Nat)))) (by rw [b01_f (fun q => lg_nle (lg_gt0.mp c22) ((le_addI x1 (by omega) (by decide)).mpr q))]; rfl) ?_
    refine k_callV (Sc := mW G h ad σ) (Sr := []) (As := [.int (b01 (inR x1 1 20)), .int (b01 ((σ 33 0 : Int) + x1.toInt ≤ (200 : Nat)))]) (rest := []) C (ctX4_goesBoth l G h ad σ (inR x1 1 20) ((σ 33 0 : Int) + x1.toInt ≤ (200 : Nat)) hS) hW1 clX4 (hW1.get 0 0 rfl rfl) q2453 q2455 qs47 q85 q2456 rfl rfl ⟨by decide, by decide, Eq.trans (b := some 2) (by decide +kernel) rfl⟩ (Nat.le_of_ble_eq_true rfl) (Nat.le_of_ble_eq_true rfl) (Nat.le_refl _) (Nat.le_refl _) hl.1 rfl (Nat.le_of_ble_eq_true rfl) dX4_cut_30 (List.Perm.refl _) (fun _ h => h.elim) (fun v H2 locs2 S1 hQ hz2 hW2 => ?_)
    obtain ⟨rfl, rfl⟩ := hQ
    have hW2 : Ws G A s (mW G h ad (s2 σ 37 0 (c2_ (inR x1 1 20) ((σ 33 0 : Int) + x1.toInt ≤ (200 : Nat))))) H2 locs2 := hW2
    clear hW1
    refine W.eq (g2 := F0 m 33 ls [.int (b01 ((inR x1 1 20) ∧ ((σ 33 0 : Int) + x1.toInt ≤ (200 : Nat))))]) rfl ?_
    refine kb_if_ne (tgt := 38) C dX4_cut_33 (by decide) (fun c33 => ?_) (fun c33 => ?_)
    · have hc : (c2_ (inR x1 1 20) ((σ 33 0 : Int) + x1.toInt ≤ (200 : Nat))) = 0 := c2_0 c33
      rw [hc] at hW2
      obtain ⟨hx3, hy3, hz3⟩ := iN_eq (a := 1) (b := 20) (by decide) c33.1
      have hl3 : lv_has ls 3 [(0, .ref h), (1, .int (nI (iN x1)))] := by rw [← hx3]; exact hl
      have hq : σ 33 0 + iN x1 ≤ 200 := by have := c33.2; unfold iN; have := c33.1; omega
      refine lv_aload_n C.hx C.hb dX4_cut_38 rfl (lv_at hl3 0 rfl) ?_
      refine lv_dup C.hx C.hb dX4_cut_39 rfl ?_
      refine k_get (v := .int (nI (σ 33 0))) C clX4 (hW2.get 0 0 rfl rfl) 33 (Nat.le_of_ble_eq_true rfl) rfl q2357 rfl rfl dX4_cut_40 ?_
      refine lv_iload_n C.hx C.hb dX4_cut_43 rfl (lv_at hl3 1 rfl) ?_
      refine kn_iadd C  dX4_cut_44 ?_
      refine k_put (S' := mW G h ad (s2 (s2 σ 37 0 0) 33 0 ((σ 33 0) + (iN x1)))) C clX4 hW2 0 0 rfl rfl 33 (Nat.le_of_ble_eq_true rfl) rfl q2357 rfl (fun _ h => h) (Or.inl rfl) (fty := .int) (v := .int (nI ((σ 33 0) + (iN x1)))) (by decide +kernel) rfl rfl (Nat.le_of_ble_eq_true rfl) dX4_cut_45 (mput33 G h ad _ _) (fun H4 locs4 hW4 => ?_)
      clear hW2
      refine lv_aload_n C.hx C.hb dX4_cut_48 rfl (lv_at hl3 0 rfl) ?_
      refine lv_aload_n C.hx C.hb dX4_cut_49 rfl (lv_at hl3 0 rfl) ?_
      refine k_get (v := .int (nI (σ 30 0))) C clX4 (hW4.get 0 0 rfl rfl) 30 (Nat.le_of_ble_eq_true rfl) rfl q2354 rfl rfl dX4_cut_50 ?_
      refine kn_bipush (a := 14) C (by decide) dX4_cut_53 ?_
      refine kn_iadd C  dX4_cut_55 ?_
      refine kn_iconst (a := 0) C (by decide) dX4_cut_56 ?_
      refine lv_iload_n C.hx C.hb dX4_cut_57 rfl (lv_at hl3 1 rfl) ?_
      refine k_callV (Sc := mW G h ad (s2 (s2 σ 37 0 0) 33 0 ((σ 33 0) + (iN x1)))) (Sr := []) (As := [.int (nI ((σ 30 0) + 14)), .int (nI 0), .int (nI (iN x1))]) (rest := []) C (ctX4_comes l G h ad (s2 (s2 σ 37 0 0) 33 0 ((σ 33 0) + (iN x1))) (σ 30 0 + 14) 0 (iN x1) ((hS.s2o (by decide) (Or.inr (by decide))).s2o (f := 33) (by decide) (Or.inr (by show _ < 201; omega))) he) hW4 clX4 (hW4.get 0 0 rfl rfl) q2477 q2479 qs53 q85 q2480 rfl rfl ⟨by decide, by decide, Eq.trans (b := some 3) (by decide +kernel) rfl⟩ (Nat.le_of_ble_eq_true rfl) (Nat.le_of_ble_eq_true rfl) (Nat.le_refl _) (Nat.le_refl _) hl3.1 rfl (Nat.le_of_ble_eq_true rfl) dX4_cut_58 (List.Perm.refl _) (fun _ h => h.elim) (fun v H5 locs5 S1 hQ hz5 hW5 => ?_)
      obtain ⟨rfl, rfl⟩ := hQ
      have hW5 : Ws G A s (mW G h ad (comesF (s2 (s2 σ 37 0 0) 33 0 ((σ 33 0) + (iN x1))) (σ 30 0 + 14) 0 (iN x1))) H5 locs5 := hW5
      clear hW4
      refine W.eq (g2 := F0 m 61 ls [.int (nI (σ 34 0))]) rfl ?_
      refine lv_istore_n (lv' := [(2, .int (nI (σ 34 0))), (0, .ref h), (1, .int (nI (iN x1)))]) C.hx C.hb dX4_cut_61 rfl hl3 (Nat.le_of_ble_eq_true rfl) rfl (fun ls6 hl6 => ?_)
      clear hl3
      refine lv_aload_n C.hx C.hb dX4_cut_62 rfl (lv_at hl6 1 rfl) ?_
      refine k_get (v := .int (nI ((comesF (s2 (s2 σ 37 0 0) 33 0 ((σ 33 0) + (iN x1))) (σ 30 0 + 14) 0 (iN x1)) 30 0))) C clX4 (hW5.get 0 0 rfl rfl) 30 (Nat.le_of_ble_eq_true rfl) rfl q2354 rfl rfl dX4_cut_63 ?_
      refine kn_bipush (a := 14) C (by decide) dX4_cut_66 ?_
      refine kn_iadd C  dX4_cut_68 ?_
      exact k_iret C hW5 rfl ⟨by rw [if_pos (show cCut σ x1 = 0 from hc)]; rfl, by rw [if_pos (show cCut σ x1 = 0 from hc)]⟩ (Nat.le_refl _) (Nat.le_refl _) dX4_cut_69
    · have hc : ¬ (c2_ (inR x1 1 20) ((σ 33 0 : Int) + x1.toInt ≤ (200 : Nat))) = 0 := c2_n c33
      refine kn_iconst (a := 0) C (by decide) dX4_cut_36 ?_
      exact k_iret C hW2 rfl ⟨by rw [if_neg (show ¬ cCut σ x1 = 0 from hc)], by rw [if_neg (show ¬ cCut σ x1 = 0 from hc)]; rfl⟩ (Nat.le_refl _) (Nat.le_refl _) dX4_cut_37
  · refine kn_iconst (a := 1) C (by decide) dX4_cut_25 ?_
    refine lv_goto (tgt := 30) C.hx C.hb dX4_cut_26 (by decide) ?_
    refine k_op (y := .int (b01 ((σ 33 0 : Int) + x1.toInt ≤ (200 : Nat)))) (by rw [b01_t ((le_addI x1 (by omega) (by decide)).mp (lg_le (fun q => c22 (lg_gt0.mpr q))))]; rfl) ?_
    refine k_callV (Sc := mW G h ad σ) (Sr := []) (As := [.int (b01 (inR x1 1 20)), .int (b01 ((σ 33 0 : Int) + x1.toInt ≤ (200 : Nat)))]) (rest := []) C (ctX4_goesBoth l G h ad σ (inR x1 1 20) ((σ 33 0 : Int) + x1.toInt ≤ (200 : Nat)) hS) hW1 clX4 (hW1.get 0 0 rfl rfl) q2453 q2455 qs47 q85 q2456 rfl rfl ⟨by decide, by decide, Eq.trans (b := some 2) (by decide +kernel) rfl⟩ (Nat.le_of_ble_eq_true rfl) (Nat.le_of_ble_eq_true rfl) (Nat.le_refl _) (Nat.le_refl _) hl.1 rfl (Nat.le_of_ble_eq_true rfl) dX4_cut_30 (List.Perm.refl _) (fun _ h => h.elim) (fun v H7 locs7 S1 hQ hz7 hW7 => ?_)
    obtain ⟨rfl, rfl⟩ := hQ
    have hW7 : Ws G A s (mW G h ad (s2 σ 37 0 (c2_ (inR x1 1 20) ((σ 33 0 : Int) + x1.toInt ≤ (200 : Nat))))) H7 locs7 := hW7
    clear hW1
    refine W.eq (g2 := F0 m 33 ls [.int (b01 ((inR x1 1 20) ∧ ((σ 33 0 : Int) + x1.toInt ≤ (200 : Nat))))]) rfl ?_
    refine kb_if_ne (tgt := 38) C dX4_cut_33 (by decide) (fun c33 => ?_) (fun c33 => ?_)
    · have hc : (c2_ (inR x1 1 20) ((σ 33 0 : Int) + x1.toInt ≤ (200 : Nat))) = 0 := c2_0 c33
      rw [hc] at hW7
      obtain ⟨hx8, hy8, hz8⟩ := iN_eq (a := 1) (b := 20) (by decide) c33.1
      have hl8 : lv_has ls 3 [(0, .ref h), (1, .int (nI (iN x1)))] := by rw [← hx8]; exact hl
      have hq : σ 33 0 + iN x1 ≤ 200 := by have := c33.2; unfold iN; have := c33.1; omega
      refine lv_aload_n C.hx C.hb dX4_cut_38 rfl (lv_at hl8 0 rfl) ?_
      refine lv_dup C.hx C.hb dX4_cut_39 rfl ?_
      refine k_get (v := .int (nI (σ 33 0))) C clX4 (hW7.get 0 0 rfl rfl) 33 (Nat.le_of_ble_eq_true rfl) rfl q2357 rfl rfl dX4_cut_40 ?_
      refine lv_iload_n C.hx C.hb dX4_cut_43 rfl (lv_at hl8 1 rfl) ?_
      refine kn_iadd C  dX4_cut_44 ?_
      refine k_put (S' := mW G h ad (s2 (s2 σ 37 0 0) 33 0 ((σ 33 0) + (iN x1)))) C clX4 hW7 0 0 rfl rfl 33 (Nat.le_of_ble_eq_true rfl) rfl q2357 rfl (fun _ h => h) (Or.inl rfl) (fty := .int) (v := .int (nI ((σ 33 0) + (iN x1)))) (by decide +kernel) rfl rfl (Nat.le_of_ble_eq_true rfl) dX4_cut_45 (mput33 G h ad _ _) (fun H9 locs9 hW9 => ?_)
      clear hW7
      refine lv_aload_n C.hx C.hb dX4_cut_48 rfl (lv_at hl8 0 rfl) ?_
      refine lv_aload_n C.hx C.hb dX4_cut_49 rfl (lv_at hl8 0 rfl) ?_
      refine k_get (v := .int (nI (σ 30 0))) C clX4 (hW9.get 0 0 rfl rfl) 30 (Nat.le_of_ble_eq_true rfl) rfl q2354 rfl rfl dX4_cut_50 ?_
      refine kn_bipush (a := 14) C (by decide) dX4_cut_53 ?_
      refine kn_iadd C  dX4_cut_55 ?_
      refine kn_iconst (a := 0) C (by decide) dX4_cut_56 ?_
      refine lv_iload_n C.hx C.hb dX4_cut_57 rfl (lv_at hl8 1 rfl) ?_
      refine k_callV (Sc := mW G h ad (s2 (s2 σ 37 0 0) 33 0 ((σ 33 0) + (iN x1)))) (Sr := []) (As := [.int (nI ((σ 30 0) + 14)), .int (nI 0), .int (nI (iN x1))]) (rest := []) C (ctX4_comes l G h ad (s2 (s2 σ 37 0 0) 33 0 ((σ 33 0) + (iN x1))) (σ 30 0 + 14) 0 (iN x1) ((hS.s2o (by decide) (Or.inr (by decide))).s2o (f := 33) (by decide) (Or.inr (by show _ < 201; omega))) he) hW9 clX4 (hW9.get 0 0 rfl rfl) q2477 q2479 qs53 q85 q2480 rfl rfl ⟨by decide, by decide, Eq.trans (b := some 3) (by decide +kernel) rfl⟩ (Nat.le_of_ble_eq_true rfl) (Nat.le_of_ble_eq_true rfl) (Nat.le_refl _) (Nat.le_refl _) hl8.1 rfl (Nat.le_of_ble_eq_true rfl) dX4_cut_58 (List.Perm.refl _) (fun _ h => h.elim) (fun v H10 locs10 S1 hQ hz10 hW10 => ?_)
      obtain ⟨rfl, rfl⟩ := hQ
      have hW10 : Ws G A s (mW G h ad (comesF (s2 (s2 σ 37 0 0) 33 0 ((σ 33 0) + (iN x1))) (σ 30 0 + 14) 0 (iN x1))) H10 locs10 := hW10
      clear hW9
      refine W.eq (g2 := F0 m 61 ls [.int (nI (σ 34 0))]) rfl ?_
      refine lv_istore_n (lv' := [(2, .int (nI (σ 34 0))), (0, .ref h), (1, .int (nI (iN x1)))]) C.hx C.hb dX4_cut_61 rfl hl8 (Nat.le_of_ble_eq_true rfl) rfl (fun ls11 hl11 => ?_)
      clear hl8
      refine lv_aload_n C.hx C.hb dX4_cut_62 rfl (lv_at hl11 1 rfl) ?_
      refine k_get (v := .int (nI ((comesF (s2 (s2 σ 37 0 0) 33 0 ((σ 33 0) + (iN x1))) (σ 30 0 + 14) 0 (iN x1)) 30 0))) C clX4 (hW10.get 0 0 rfl rfl) 30 (Nat.le_of_ble_eq_true rfl) rfl q2354 rfl rfl dX4_cut_63 ?_
      refine kn_bipush (a := 14) C (by decide) dX4_cut_66 ?_
      refine kn_iadd C  dX4_cut_68 ?_
      exact k_iret C hW10 rfl ⟨by rw [if_pos (show cCut σ x1 = 0 from hc)]; rfl, by rw [if_pos (show cCut σ x1 = 0 from hc)]⟩ (Nat.le_refl _) (Nat.le_refl _) dX4_cut_69
    · have hc : ¬ (c2_ (inR x1 1 20) ((σ 33 0 : Int) + x1.toInt ≤ (200 : Nat))) = 0 := c2_n c33
      refine kn_iconst (a := 0) C (by decide) dX4_cut_36 ?_
      exact k_iret C hW7 rfl ⟨by rw [if_neg (show ¬ cCut σ x1 = 0 from hc)], by rw [if_neg (show ¬ cCut σ x1 = 0 from hc)]; rfl⟩ (Nat.le_refl _) (Nat.le_refl _) dX4_cut_37
