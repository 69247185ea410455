def Q_ctX4_owedInAll (G : GT) (h : Nat) (ad : Nat → Nat) (σ : Sg)  : Option Value → List va_W → Prop := fun v S1 => v = some (.int (nI (owedN σ (σ 35 0)))) ∧ S1 = mW G h ad σ
set_option maxHeartbeats 4000000 in
set_option maxRecDepth 100000 in
theorem ctX4_owedInAll (l : Launch) (G : GT) (h : Nat) (ad : Nat → Nat) (σ : Sg)  (hS : Sf σ) : Ct l G yX4_owedInAll cX4_owedInAll 3 (some .int) 0 0 0 0 [.ref h] (mW G h ad σ) noR (Q_ctX4_owedInAll G h ad σ) := by
  refine Ct.of (by decide +kernel) (Nat.le_of_ble_eq_true rfl) ?_
  intro p e s m below meth c A ls C hW hRo hl
  have hl : lv_has ls 3 [(0, .ref h)] := hl
  have hB : Bd σ := hS.1
  have h32 : σ 32 0 ≤ 200 := Nat.lt_succ_iff.mp (hB.lt 32 (by decide) 0)
  have h34 : σ 34 0 ≤ 480 := Nat.lt_succ_iff.mp (hB.lt 34 (by decide) 0)
  have h35 : σ 35 0 ≤ 64 := Nat.lt_succ_iff.mp (hB.lt 35 (by decide) 0)
  have h36 : σ 36 0 ≤ 60 := Nat.lt_succ_iff.mp (hB.lt 36 (by decide) 0)
  have h30 : σ 30 0 ≤ 5000 := Nat.lt_succ_iff.mp (hB.lt 30 (by decide) 0)
  refine kn_iconst (a := 0) C (by decide) dX4_owedInAll_0 ?_
  refine lv_istore_n (lv' := [(1, .int (nI 0)), (0, .ref h)]) C.hx C.hb dX4_owedInAll_1 rfl hl (Nat.le_of_ble_eq_true rfl) rfl (fun ls1 hl1 => ?_)
  clear hl
  refine kn_iconst (a := 0) C (by decide) dX4_owedInAll_2 ?_
  refine lv_istore_n (lv' := [(2, .int (nI 0)), (1, .int (nI 0)), (0, .ref h)]) C.hx C.hb dX4_owedInAll_3 rfl hl1 (Nat.le_of_ble_eq_true rfl) rfl (fun ls2 hl2 => ?_)
  clear hl1
  have L4 : ∀ (k3 : Nat) (b : Nat), (b ≤ σ 35 0) → σ 35 0 - b < k3 → ∀ (H3 : Heap) (locs3 : List Loc) (ls3 : Array Slot), Ws G A s (mW G h ad σ) H3 locs3 → lv_has ls3 3 [(1, .int (nI (owedN σ b))), (2, .int (nI b)), (0, .ref h)] → W p l e ({ frames := 0, cells := 0, slots := 0, locals := 0 } : Room) s m ([.ref h] : List Value).toArray below meth c H3 locs3 0 0 (MQ below (cQ G A (Q_ctX4_owedInAll G h ad σ)) ([.ref h] : List Value).toArray s 0 0 A) (F0 m 4 ls3 []) := by
    intro k3
    induction k3 with
    | zero => intro b hL4_0 hm3; exact absurd hm3 (Nat.not_lt_zero _)
    | succ k3 ih3 =>
      intro b hL4_0 hm3 H3 locs3 ls3 hW3 hl3
      refine lv_iload_n C.hx C.hb dX4_owedInAll_4 rfl (lv_at hl3 1 rfl) ?_
      refine lv_aload_n C.hx C.hb dX4_owedInAll_5 rfl (lv_at hl3 2 rfl) ?_
      refine k_get (v := .int (nI (σ 35 0))) C clX4 (hW3.get 0 0 rfl rfl) 35 (Nat.le_of_ble_eq_true rfl) rfl q2359 rfl rfl dX4_owedInAll_6 ?_
      refine kn_icmp_ge (tgt := 27) C (by omega) (Nat.lt_of_lt_of_le (hB.lt 35 (by decide) 0) (by decide)) dX4_owedInAll_9 (by decide) (fun c9 => ?_) (fun c9 => ?_)
      · refine lv_iload_n C.hx C.hb dX4_owedInAll_27 rfl (lv_at hl3 0 rfl) ?_
        exact k_iret C hW3 rfl ⟨by rw [show b = σ 35 0 by omega], rfl⟩ (Nat.le_refl _) (Nat.le_refl _) dX4_owedInAll_28
      · refine lv_iload_n C.hx C.hb dX4_owedInAll_12 rfl (lv_at hl3 0 rfl) ?_
        refine lv_aload_n C.hx C.hb dX4_owedInAll_13 rfl (lv_at hl3 2 rfl) ?_
        refine k_get (v := .ref (ad 16)) C clX4 (hW3.get 0 0 rfl rfl) 16 (Nat.le_of_ble_eq_true rfl) rfl q2340 rfl rfl dX4_owedInAll_14 ?_
        refine lv_iload_n C.hx C.hb dX4_owedInAll_17 rfl (lv_at hl3 1 rfl) ?_
        refine k_iald C (f := (fun i => nI (σ 16 i))) rfl (hW3.get 17 0 rfl rfl) (by omega) (by decide) dX4_owedInAll_18 ?_
        refine kn_iadd C  dX4_owedInAll_19 ?_
        refine lv_istore_n (lv' := [(1, .int (nI ((owedN σ b) + (σ 16 b)))), (2, .int (nI b)), (0, .ref h)]) C.hx C.hb dX4_owedInAll_20 rfl hl3 (Nat.le_of_ble_eq_true rfl) rfl (fun ls4 hl4 => ?_)
        clear hl3
        refine kn_iinc (lv' := [(2, .int (nI (b + 1))), (1, .int (nI ((owedN σ b) + (σ 16 b)))), (0, .ref h)]) (k := 1) C dX4_owedInAll_21 hl4 rfl (Nat.le_of_ble_eq_true rfl) rfl (fun ls5 hl5 => ?_)
        clear hl4
        refine lv_goto (tgt := 4) C.hx C.hb dX4_owedInAll_24 (by decide) ?_
        have e6 : (owedN σ (b + 1)) = ((owedN σ b) + (σ 16 b)) := by simp [owedN, lp, c9]
        exact ih3 (b + 1) (by omega) (by omega) _ _ _ hW3 (by rw [e6]; exact (lv_sub hl5 [1, 0, 2] rfl))
  have e7 : (owedN σ 0) = 0 := by simp [owedN, lp]
  exact L4 (σ 35 0 - 0 + 1) 0 (Nat.zero_le _) (Nat.lt_succ_self _) _ _ _ hW (by rw [e7]; exact (lv_sub hl2 [1, 0, 2] rfl))

def Q_ctX4_lay (G : GT) (h : Nat) (ad : Nat → Nat) (σ : Sg) (x1 x2 : Int32) : Option Value → List va_W → Prop := fun v S1 => v = some (.int (nI (if cLay σ x1 x2 = 0 then σ 30 0 + 1 + iN x1 % 6 else 0))) ∧ S1 = mW G h ad (if cLay σ x1 x2 = 0 then sendsF (k0 σ 0) (iN x1) (iN x2) else k0 σ (cLay σ x1 x2))
set_option maxHeartbeats 4000000 in
set_option maxRecDepth 100000 in
theorem ctX4_lay (l : Launch) (G : GT) (h : Nat) (ad : Nat → Nat) (σ : Sg) (x1 x2 : Int32) (hS : Sf σ) (he : σ 34 0 < 480) : Ct l G yX4_lay cX4_lay 3 (some .int) 2 49 0 0 [.ref h, .int x1, .int x2] (mW G h ad σ) noR (Q_ctX4_lay G h ad σ x1 x2) := by
  refine Ct.of (by decide +kernel) (Nat.le_of_ble_eq_true rfl) ?_
  intro p e s m below meth c A ls C hW hRo hl
  have hl : lv_has ls 3 [(0, .ref h), (1, .int x1), (2, .int x2)] := hl
  have hB : Bd σ := hS.1
  have h32 : σ 32 0 ≤ 200 := Nat.lt_succ_iff.mp (hB.lt 32 (by decide) 0)
  have h34 : σ 34 0 ≤ 480 := Nat.lt_succ_iff.mp (hB.lt 34 (by decide) 0)
  have h35 : σ 35 0 ≤ 64 := Nat.lt_succ_iff.mp (hB.lt 35 (by decide) 0)
  have h36 : σ 36 0 ≤ 60 := Nat.lt_succ_iff.mp (hB.lt 36 (by decide) 0)
  have h30 : σ 30 0 ≤ 5000 := Nat.lt_succ_iff.mp (hB.lt 30 (by decide) 0)
  have hcn := count_le σ 0 (σ 32 0)
  refine lv_aload_n C.hx C.hb dX4_lay_0 rfl (lv_at hl 0 rfl) ?_
  refine lv_iload_n C.hx C.hb dX4_lay_1 rfl (lv_at hl 1 rfl) ?_
  refine k_callS (Sc := []) (Sr := mW G h ad σ) (As := [.int x1]) (rest := [.ref h]) C (ctX4_isStretch l G x1) hW q2509 q2510 q85 q2511 rfl ⟨by decide, by decide, Eq.trans (b := some 1) (by decide +kernel) rfl⟩ (Nat.le_of_ble_eq_true rfl) (Nat.le_of_ble_eq_true rfl) (Nat.le_refl _) (Nat.le_refl _) hl.1 rfl (Nat.le_of_ble_eq_true rfl) dX4_lay_2 (k_permR _) (fun _ h => h.elim) (fun v H1 locs1 S1 hQ hz1 hW1 => ?_)
  obtain ⟨rfl, rfl⟩ := hQ
  have hW1 : Ws G A s (mW G h ad σ) H1 locs1 := hW1
  clear hW
  refine W.eq (g2 := F0 m 5 ls [.int (b01 (inR x1 0 11)), .ref h]) rfl ?_
  refine lv_iload_n C.hx C.hb dX4_lay_5 rfl (lv_at hl 2 rfl) ?_
  refine lv_i2l C.hx C.hb dX4_lay_6 rfl ?_
  refine kn_lconst (a := 1) C rfl dX4_lay_7 ?_
  refine lv_ldc2 (own := "BogsignModel") (v := (lN 20)) C.hx C.hb C.hown (C.hts _ q2522) dX4_lay_8 ?_
  refine k_callS (Sc := []) (Sr := mW G h ad σ) (As := [.long (x2).toInt64, .long (lN 1), .long (lN 20)]) (rest := [.int (b01 (inR x1 0 11)), .ref h]) C (ctX4_isBetween l G ((x2).toInt64) (lN 1) (lN 20)) hW1 q2449 q2450 q85 q2451 rfl ⟨by decide, by decide, Eq.trans (b := some 3) (by decide +kernel) rfl⟩ (Nat.le_of_ble_eq_true rfl) (Nat.le_of_ble_eq_true rfl) (Nat.le_refl _) (Nat.le_refl _) hl.1 rfl (Nat.le_of_ble_eq_true rfl) dX4_lay_11 (k_permR _) (fun _ h => h.elim) (fun v H2 locs2 S1 hQ hz2 hW2 => ?_)
  obtain ⟨rfl, rfl⟩ := hQ
  have hW2 : Ws G A s (mW G h ad σ) H2 locs2 := hW2
  clear hW1
  refine W.eq (g2 := F0 m 14 ls [.int (b01 ((lN 1) ≤ (x2).toInt64 ∧ (x2).toInt64 ≤ (lN 20))), .int (b01 (inR x1 0 11)), .ref h]) rfl ?_
  refine k_op (y := .int (b01 (inR x2 1 20))) (by rw [b01_cg (inR64 x2 1 20 rfl rfl)]; rfl) ?_
  refine lv_aload_n C.hx C.hb dX4_lay_14 rfl (lv_at hl 0 rfl) ?_
  refine kn_iconst (a := 0) C (by decide) dX4_lay_15 ?_
  refine k_callV (Sc := mW G h ad σ) (Sr := []) (As := [.int (nI 0)]) (rest := [.int (b01 (inR x2 1 20)), .int (b01 (inR x1 0 11)), .ref h]) C (ctX4_count l G h ad σ 0 hS (by decide)) hW2 clX4 (hW2.get 0 0 rfl rfl) q2469 q2471 qs51 q85 q2472 rfl rfl ⟨by decide, by decide, Eq.trans (b := some 1) (by decide +kernel) rfl⟩ (Nat.le_of_ble_eq_true rfl) (Nat.le_of_ble_eq_true rfl) (Nat.le_refl _) (Nat.le_refl _) hl.1 rfl (Nat.le_of_ble_eq_true rfl) dX4_lay_16 (List.Perm.refl _) (fun _ h => h.elim) (fun v H3 locs3 S1 hQ hz3 hW3 => ?_)
  obtain ⟨rfl, rfl⟩ := hQ
  have hW3 : Ws G A s (mW G h ad σ) H3 locs3 := hW3
  clear hW2
  refine W.eq (g2 := F0 m 19 ls [.int (nI (countN σ 0 (σ 32 0))), .int (b01 (inR x2 1 20)), .int (b01 (inR x1 0 11)), .ref h]) rfl ?_
  refine lv_iload_n C.hx C.hb dX4_lay_19 rfl (lv_at hl 2 rfl) ?_
  refine lv_icmp_lt (tgt := 27) C.hx C.hb dX4_lay_20 (by decide) (fun c20 => ?_) (fun c20 => ?_)
  · refine kn_iconst (a := 0) C (by decide) dX4_lay_27 ?_
    refine k_op (y := .int (b01 (x2.toInt ≤ (countN σ 0 (σ 32 0) : Nat)))) (by rw [b01_f (fun q => absurd ((lt_iff x2 (by omega)).mp c20) (by omega))]; rfl) ?_
    refine k_callV (Sc := mW G h ad σ) (Sr := []) (As := [.int (b01 (inR x1 0 11)), .int (b01 (inR x2 1 20)), .int (b01 (x2.toInt ≤ (countN σ 0 (σ 32 0) : Nat)))]) (rest := []) C (ctX4_goesAll l G h ad σ (inR x1 0 11) (inR x2 1 20) (x2.toInt ≤ (countN σ 0 (σ 32 0) : Nat)) hS) hW3 clX4 (hW3.get 0 0 rfl rfl) q2540 q2542 qs59 q85 q2543 rfl rfl ⟨by decide, by decide, Eq.trans (b := some 3) (by decide +kernel) rfl⟩ (Nat.le_of_ble_eq_true rfl) (Nat.le_of_ble_eq_true rfl) (Nat.le_refl _) (Nat.le_refl _) hl.1 rfl (Nat.le_of_ble_eq_true rfl) dX4_lay_28 (List.Perm.refl _) (fun _ h => h.elim) (fun v H4 locs4 S1 hQ hz4 hW4 => ?_)
    obtain ⟨rfl, rfl⟩ := hQ
    have hW4 : Ws G A s (mW G h ad (s2 σ 37 0 (c3_ (inR x1 0 11) (inR x2 1 20) (x2.toInt ≤ (countN σ 0 (σ 32 0) : Nat))))) H4 locs4 := hW4
    clear hW3
    refine W.eq (g2 := F0 m 31 ls [.int (b01 ((inR x1 0 11) ∧ (inR x2 1 20) ∧ (x2.toInt ≤ (countN σ 0 (σ 32 0) : Nat))))]) rfl ?_
    refine kb_if_eq (tgt := 43) C dX4_lay_31 (by decide) (fun c31 => ?_) (fun c31 => ?_)
    · have hc : ¬ (c3_ (inR x1 0 11) (inR x2 1 20) (x2.toInt ≤ (countN σ 0 (σ 32 0) : Nat))) = 0 := c3_n c31
      refine kn_iconst (a := 0) C (by decide) dX4_lay_43 ?_
      exact k_iret C hW4 rfl ⟨by rw [if_neg (show ¬ cLay σ x1 x2 = 0 from hc)], by rw [if_neg (show ¬ cLay σ x1 x2 = 0 from hc)]; rfl⟩ (Nat.le_refl _) (Nat.le_refl _) dX4_lay_44
    · have hc : (c3_ (inR x1 0 11) (inR x2 1 20) (x2.toInt ≤ (countN σ 0 (σ 32 0) : Nat))) = 0 := c3_0 c31
      rw [hc] at hW4
      obtain ⟨hx5, hy5, hz5⟩ := iN_eq (a := 0) (b := 11) (by decide) c31.1
      have hl5 : lv_has ls 3 [(0, .ref h), (1, .int (nI (iN x1))), (2, .int x2)] := by rw [← hx5]; exact hl
      obtain ⟨hx6, hy6, hz6⟩ := iN_eq (a := 1) (b := 20) (by decide) c31.2.1
      have hl6 : lv_has ls 3 [(0, .ref h), (1, .int (nI (iN x1))), (2, .int (nI (iN x2)))] := by rw [← hx6]; exact hl5
      refine lv_aload_n C.hx C.hb dX4_lay_34 rfl (lv_at hl6 0 rfl) ?_
      refine lv_iload_n C.hx C.hb dX4_lay_35 rfl (lv_at hl6 1 rfl) ?_
      refine lv_iload_n C.hx C.hb dX4_lay_36 rfl (lv_at hl6 2 rfl) ?_
      refine k_callV (Sc := mW G h ad (s2 σ 37 0 0)) (Sr := []) (As := [.int (nI (iN x1)), .int (nI (iN x2))]) (rest := []) C (ctX4_sends l G h ad (s2 σ 37 0 0) (iN x1) (iN x2) (hS.s2o (by decide) (Or.inr (by decide))) (by omega) (by omega) he) hW4 clX4 (hW4.get 0 0 rfl rfl) q2473 q2475 qs52 q85 q2476 rfl rfl ⟨by decide, by decide, Eq.trans (b := some 2) (by decide +kernel) rfl⟩ (Nat.le_of_ble_eq_true rfl) (Nat.le_of_ble_eq_true rfl) (Nat.le_refl _) (Nat.le_refl _) hl6.1 rfl (Nat.le_of_ble_eq_true rfl) dX4_lay_37 (List.Perm.refl _) (fun _ h => h.elim) (fun v H7 locs7 S1 hQ hz7 hW7 => ?_)
      obtain ⟨rfl, rfl⟩ := hQ
      have hW7 : Ws G A s (mW G h ad (sendsF (s2 σ 37 0 0) (iN x1) (iN x2))) H7 locs7 := hW7
      clear hW4
      refine W.eq (g2 := F0 m 40 ls [.int (nI (σ 30 0 + 1 + iN x1 % 6))]) rfl ?_
      refine lv_goto (tgt := 44) C.hx C.hb dX4_lay_40 (by decide) ?_
      exact k_iret C hW7 rfl ⟨by rw [if_pos (show cLay σ x1 x2 = 0 from hc)], by rw [if_pos (show cLay σ x1 x2 = 0 from hc)]⟩ (Nat.le_refl _) (Nat.le_refl _) dX4_lay_44
  · refine kn_iconst (a := 1) C (by decide) dX4_lay_23 ?_
    refine lv_goto (tgt := 28) C.hx C.hb dX4_lay_24 (by decide) ?_
    refine k_op (y := .int (b01 (x2.toInt ≤ (countN σ 0 (σ 32 0) : Nat)))) (by rw [b01_t (by have h9 : ¬ ((countN σ 0 (σ 32 0) : Nat) : Int) < x2.toInt := fun q => c20 ((lt_iff x2 (by omega)).mpr q); omega)]; rfl) ?_
    refine k_callV (Sc := mW G h ad σ) (Sr := []) (As := [.int (b01 (inR x1 0 11)), .int (b01 (inR x2 1 20)), .int (b01 (x2.toInt ≤ (countN σ 0 (σ 32 0) : Nat)))]) (rest := []) C (ctX4_goesAll l G h ad σ (inR x1 0 11) (inR x2 1 20) (x2.toInt ≤ (countN σ 0 (σ 32 0) : Nat)) hS) hW3 clX4 (hW3.get 0 0 rfl rfl) q2540 q2542 qs59 q85 q2543 rfl rfl ⟨by decide, by decide, Eq.trans (b := some 3) (by decide +kernel) rfl⟩ (Nat.le_of_ble_eq_true rfl) (Nat.le_of_ble_eq_true rfl) (Nat.le_refl _) (Nat.le_refl _) hl.1 rfl (Nat.le_of_ble_eq_true rfl) dX4_lay_28 (List.Perm.refl _) (fun _ h => h.elim) (fun v H8 locs8 S1 hQ hz8 hW8 => ?_)
    obtain ⟨rfl, rfl⟩ := hQ
    have hW8 : Ws G A s (mW G h ad (s2 σ 37 0 (c3_ (inR x1 0 11) (inR x2 1 20) (x2.toInt ≤ (countN σ 0 (σ 32 0) : Nat))))) H8 locs8 := hW8
    clear hW3
    refine W.eq (g2 := F0 m 31 ls [.int (b01 ((inR x1 0 11) ∧ (inR x2 1 20) ∧ (x2.toInt ≤ (countN σ 0 (σ 32 0) : Nat))))]) rfl ?_
    refine kb_if_eq (tgt := 43) C dX4_lay_31 (by decide) (fun c31 => ?_) (fun c31 => ?_)
    · have hc : ¬ (c3_ (inR x1 0 11) (inR x2 1 20) (x2.toInt ≤ (countN σ 0 (σ 32 0) : Nat))) = 0 := c3_n c31
      refine kn_iconst (a := 0) C (by decide) dX4_lay_43 ?_
      exact k_iret C hW8 rfl ⟨by rw [if_neg (show ¬ cLay σ x1 x2 = 0 from hc)], by rw [if_neg (show ¬ cLay σ x1 x2 = 0 from hc)]; rfl⟩ (Nat.le_refl _) (Nat.le_refl _) dX4_lay_44
    · have hc : (c3_ (inR x1 0 11) (inR x2 1 20) (x2.toInt ≤ (countN σ 0 (σ 32 0) : Nat))) = 0 := c3_0 c31
      rw [hc] at hW8
      obtain ⟨hx9, hy9, hz9⟩ := iN_eq (a := 0) (b := 11) (by decide) c31.1
      have hl9 : lv_has ls 3 [(0, .ref h), (1, .int (nI (iN x1))), (2, .int x2)] := by rw [← hx9]; exact hl
      obtain ⟨hx10, hy10, hz10⟩ := iN_eq (a := 1) (b := 20) (by decide) c31.2.1
      have hl10 : lv_has ls 3 [(0, .ref h), (1, .int (nI (iN x1))), (2, .int (nI (iN x2)))] := by rw [← hx10]; exact hl9
      refine lv_aload_n C.hx C.hb dX4_lay_34 rfl (lv_at hl10 0 rfl) ?_
      refine lv_iload_n C.hx C.hb dX4_lay_35 rfl (lv_at hl10 1 rfl) ?_
      refine lv_iload_n C.hx C.hb dX4_lay_36 rfl (lv_at hl10 2 rfl) ?_
      refine k_callV (Sc := mW G h ad (s2 σ 37 0 0)) (Sr := []) (As := [.int (nI (iN x1)), .int (nI (iN x2))]) (rest := []) C (ctX4_sends l G h ad (s2 σ 37 0 0) (iN x1) (iN x2) (hS.s2o (by decide) (Or.inr (by decide))) (by omega) (by omega) he) hW8 clX4 (hW8.get 0 0 rfl rfl) q2473 q2475 qs52 q85 q2476 rfl rfl ⟨by decide, by decide, Eq.trans (b := some 2) (by decide +kernel) rfl⟩ (Nat.le_of_ble_eq_true rfl) (Nat.le_of_ble_eq_true rfl) (Nat.le_refl _) (Nat.le_refl _) hl10.1 rfl (Nat.le_of_ble_eq_true rfl) dX4_lay_37 (List.Perm.refl _) (fun _ h => h.elim) (fun v H11 locs11 S1 hQ hz11 hW11 => ?_)
      obtain ⟨rfl, rfl⟩ := hQ
      have hW11 : Ws G A s (mW G h ad (sendsF (s2 σ 37 0 0) (iN x1) (iN x2))) H11 locs11 := hW11
      clear hW8
      refine W.eq (g2 := F0 m 40 ls [.int (nI (σ 30 0 + 1 + iN x1 % 6))]) rfl ?_
      refine lv_goto (tgt := 44) C.hx C.hb dX4_lay_40 (by decide) ?_
      exact k_iret C hW11 rfl ⟨by rw [if_pos (show cLay σ x1 x2 = 0 from hc)], by rw [if_pos (show cLay σ x1 x2 = 0 from hc)]⟩ (Nat.le_refl _) (Nat.le_refl _) dX4_lay_44

def Q_ctX4_stock (G : GT) (h : Nat) (ad : Nat → Nat) (σ : Sg) (x1 : Int32) : Option Value → List va_W → Prop := fun v S1 => v = some (.int (nI (if cStock x1 = 0 then stockF σ (iN x1) else 0))) ∧ S1 = mW G h ad (if cStock x1 = 0 then k0 σ 0 else k0 σ (cStock x1))
set_option maxHeartbeats 4000000 in
set_option maxRecDepth 100000 in
theorem ctX4_stock (l : Launch) (G : GT) (h : Nat) (ad : Nat → Nat) (σ : Sg) (x1 : Int32) (hS : Sf σ) (ho : σ 32 0 ≤ σ 33 0) : Ct l G yX4_stock cX4_stock 2 (some .int) 1 25 0 0 [.ref h, .int x1] (mW G h ad σ) noR (Q_ctX4_stock G h ad σ x1) := by
  refine Ct.of (by decide +kernel) (Nat.le_of_ble_eq_true rfl) ?_
  intro p e s m below meth c A ls C hW hRo hl
  have hl : lv_has ls 2 [(0, .ref h), (1, .int x1)] := hl
  have hB : Bd σ := hS.1
  have h32 : σ 32 0 ≤ 200 := Nat.lt_succ_iff.mp (hB.lt 32 (by decide) 0)
  have h34 : σ 34 0 ≤ 480 := Nat.lt_succ_iff.mp (hB.lt 34 (by decide) 0)
  have h35 : σ 35 0 ≤ 64 := Nat.lt_succ_iff.mp (hB.lt 35 (by decide) 0)
  have h36 : σ 36 0 ≤ 60 := Nat.lt_succ_iff.mp (hB.lt 36 (by decide) 0)
  have h30 : σ 30 0 ≤ 5000 := Nat.lt_succ_iff.mp (hB.lt 30 (by decide) 0)
  have h33 : σ 33 0 < 201 := hB.lt 33 (by decide) 0
  refine lv_aload_n C.hx C.hb dX4_stock_0 rfl (lv_at hl 0 rfl) ?_
  refine lv_iload_n C.hx C.hb dX4_stock_1 rfl (lv_at hl 1 rfl) ?_
  refine lv_i2l C.hx C.hb dX4_stock_2 rfl ?_
  refine kn_lconst (a := 0) C rfl dX4_stock_3 ?_
  refine lv_ldc2 (own := "BogsignModel") (v := (lN 7)) C.hx C.hb C.hown (C.hts _ q2548) dX4_stock_4 ?_
  refine k_callS (Sc := []) (Sr := mW G h ad σ) (As := [.long (x1).toInt64, .long (lN 0), .long (lN 7)]) (rest := [.ref h]) C (ctX4_isBetween l G ((x1).toInt64) (lN 0) (lN 7)) hW q2449 q2450 q85 q2451 rfl ⟨by decide, by decide, Eq.trans (b := some 3) (by decide +kernel) rfl⟩ (Nat.le_of_ble_eq_true rfl) (Nat.le_of_ble_eq_true rfl) (Nat.le_refl _) (Nat.le_refl _) hl.1 rfl (Nat.le_of_ble_eq_true rfl) dX4_stock_7 (k_permR _) (fun _ h => h.elim) (fun v H1 locs1 S1 hQ hz1 hW1 => ?_)
  obtain ⟨rfl, rfl⟩ := hQ
  have hW1 : Ws G A s (mW G h ad σ) H1 locs1 := hW1
  clear hW
  refine W.eq (g2 := F0 m 10 ls [.int (b01 ((lN 0) ≤ (x1).toInt64 ∧ (x1).toInt64 ≤ (lN 7))), .ref h]) rfl ?_
  refine k_op (y := .int (b01 (inR x1 0 7))) (by rw [b01_cg (inR64 x1 0 7 rfl rfl)]; rfl) ?_
  refine k_callV (Sc := mW G h ad σ) (Sr := []) (As := [.int (b01 (inR x1 0 7))]) (rest := []) C (ctX4_goes l G h ad σ (inR x1 0 7) hS) hW1 clX4 (hW1.get 0 0 rfl rfl) q2527 q2529 qs58 q85 q2530 rfl rfl ⟨by decide, by decide, Eq.trans (b := some 1) (by decide +kernel) rfl⟩ (Nat.le_of_ble_eq_true rfl) (Nat.le_of_ble_eq_true rfl) (Nat.le_refl _) (Nat.le_refl _) hl.1 rfl (Nat.le_of_ble_eq_true rfl) dX4_stock_10 (List.Perm.refl _) (fun _ h => h.elim) (fun v H2 locs2 S1 hQ hz2 hW2 => ?_)
  obtain ⟨rfl, rfl⟩ := hQ
  have hW2 : Ws G A s (mW G h ad (s2 σ 37 0 (if (inR x1 0 7) then 0 else 1))) H2 locs2 := hW2
  clear hW1
  refine W.eq (g2 := F0 m 13 ls [.int (b01 ((inR x1 0 7)))]) rfl ?_
  refine kb_if_ne (tgt := 18) C dX4_stock_13 (by decide) (fun c13 => ?_) (fun c13 => ?_)
  · have hc : (if (inR x1 0 7) then 0 else 1) = 0 := c1_0 c13
    rw [hc] at hW2
    obtain ⟨hx3, hy3, hz3⟩ := iN_eq (a := 0) (b := 7) (by decide) c13
    have hl3 : lv_has ls 2 [(0, .ref h), (1, .int (nI (iN x1)))] := by rw [← hx3]; exact hl
    refine lv_iload_n C.hx C.hb dX4_stock_18 rfl (lv_at hl3 1 rfl) ?_
    refine kn_iconst (a := 4) C (by decide) dX4_stock_19 ?_
    refine kn_icmp_gt (tgt := 31) C (by omega) (by decide) dX4_stock_20 (by decide) (fun c20 => ?_) (fun c20 => ?_)
    · refine lv_iload_n C.hx C.hb dX4_stock_31 rfl (lv_at hl3 1 rfl) ?_
      refine kn_iconst (a := 5) C (by decide) dX4_stock_32 ?_
      refine kn_icmp_ne (tgt := 43) C (by omega) (by decide) dX4_stock_33 (by decide) (fun c33 => ?_) (fun c33 => ?_)
      · refine lv_iload_n C.hx C.hb dX4_stock_43 rfl (lv_at hl3 1 rfl) ?_
        refine kn_bipush (a := 6) C (by decide) dX4_stock_44 ?_
        refine kn_icmp_ne (tgt := 61) C (by omega) (by decide) dX4_stock_46 (by decide) (fun c46 => ?_) (fun c46 => ?_)
        · refine lv_aload_n C.hx C.hb dX4_stock_61 rfl (lv_at hl3 0 rfl) ?_
          refine k_get (v := .int (nI (σ 32 0))) C clX4 (hW2.get 0 0 rfl rfl) 32 (Nat.le_of_ble_eq_true rfl) rfl q2356 rfl rfl dX4_stock_62 ?_
          exact k_iret C hW2 rfl ⟨by rw [if_pos (show cStock x1 = 0 from hc)]; unfold stockF; rw [if_neg (by omega : ¬ iN x1 ≤ 4), if_neg (by omega : ¬ iN x1 = 5), if_neg (by omega : ¬ iN x1 = 6)], by rw [if_pos (show cStock x1 = 0 from hc)]⟩ (Nat.le_refl _) (Nat.le_refl _) dX4_stock_65
        · refine lv_aload_n C.hx C.hb dX4_stock_49 rfl (lv_at hl3 0 rfl) ?_
          refine k_get (v := .int (nI (σ 33 0))) C clX4 (hW2.get 0 0 rfl rfl) 33 (Nat.le_of_ble_eq_true rfl) rfl q2357 rfl rfl dX4_stock_50 ?_
          refine lv_aload_n C.hx C.hb dX4_stock_53 rfl (lv_at hl3 0 rfl) ?_
          refine k_get (v := .int (nI (σ 32 0))) C clX4 (hW2.get 0 0 rfl rfl) 32 (Nat.le_of_ble_eq_true rfl) rfl q2356 rfl rfl dX4_stock_54 ?_
          refine kn_isub C (by have : σ 32 0 < 201 := hB.lt 32 (by decide) 0; have : σ 33 0 < 201 := hB.lt 33 (by decide) 0; omega) dX4_stock_57 ?_
          refine lv_goto (tgt := 65) C.hx C.hb dX4_stock_58 (by decide) ?_
          exact k_iret C hW2 rfl ⟨by rw [if_pos (show cStock x1 = 0 from hc)]; unfold stockF; rw [if_neg (by omega : ¬ iN x1 ≤ 4), if_neg (by omega : ¬ iN x1 = 5), if_pos (by omega : iN x1 = 6)], by rw [if_pos (show cStock x1 = 0 from hc)]⟩ (Nat.le_refl _) (Nat.le_refl _) dX4_stock_65
      · refine lv_aload_n C.hx C.hb dX4_stock_36 rfl (lv_at hl3 0 rfl) ?_
        refine k_callV (Sc := mW G h ad (s2 σ 37 0 0)) (Sr := []) (As := []) (rest := []) C (ctX4_owedInAll l G h ad (s2 σ 37 0 0) (hS.s2o (by decide) (Or.inr (by decide)))) hW2 clX4 (hW2.get 0 0 rfl rfl) q2549 q2551 qs60 q85 q2552 rfl rfl ⟨by decide, by decide, Eq.trans (b := some 0) (by decide +kernel) rfl⟩ (Nat.le_of_ble_eq_true rfl) (Nat.le_of_ble_eq_true rfl) (Nat.le_refl _) (Nat.le_refl _) hl3.1 rfl (Nat.le_of_ble_eq_true rfl) dX4_stock_37 (List.Perm.refl _) (fun _ h => h.elim) (fun v H4 locs4 S1 hQ hz4 hW4 => ?_)
        obtain ⟨rfl, rfl⟩ := hQ
        have hW4 : Ws G A s (mW G h ad (s2 σ 37 0 0)) H4 locs4 := hW4
        clear hW2
        refine W.eq (g2 := F0 m 40 ls [.int (nI (owedN σ (σ 35 0)))]) rfl ?_
        refine lv_goto (tgt := 65) C.hx C.hb dX4_stock_40 (by decide) ?_
        exact k_iret C hW4 rfl ⟨by rw [if_pos (show cStock x1 = 0 from hc)]; unfold stockF; rw [if_neg (by omega : ¬ iN x1 ≤ 4), if_pos (by omega : iN x1 = 5)], by rw [if_pos (show cStock x1 = 0 from hc)]⟩ (Nat.le_refl _) (Nat.le_refl _) dX4_stock_65
    · refine lv_aload_n C.hx C.hb dX4_stock_23 rfl (lv_at hl3 0 rfl) ?_
      refine lv_iload_n C.hx C.hb dX4_stock_24 rfl (lv_at hl3 1 rfl) ?_
      refine k_callV (Sc := mW G h ad (s2 σ 37 0 0)) (Sr := []) (As := [.int (nI (iN x1))]) (rest := []) C (ctX4_count l G h ad (s2 σ 37 0 0) (iN x1) (hS.s2o (by decide) (Or.inr (by decide))) (by omega)) hW2 clX4 (hW2.get 0 0 rfl rfl) q2469 q2471 qs51 q85 q2472 rfl rfl ⟨by decide, by decide, Eq.trans (b := some 1) (by decide +kernel) rfl⟩ (Nat.le_of_ble_eq_true rfl) (Nat.le_of_ble_eq_true rfl) (Nat.le_refl _) (Nat.le_refl _) hl3.1 rfl (Nat.le_of_ble_eq_true rfl) dX4_stock_25 (List.Perm.refl _) (fun _ h => h.elim) (fun v H5 locs5 S1 hQ hz5 hW5 => ?_)
      obtain ⟨rfl, rfl⟩ := hQ
      have hW5 : Ws G A s (mW G h ad (s2 σ 37 0 0)) H5 locs5 := hW5
      clear hW2
      refine W.eq (g2 := F0 m 28 ls [.int (nI (countN σ (iN x1) (σ 32 0)))]) rfl ?_
      refine lv_goto (tgt := 65) C.hx C.hb dX4_stock_28 (by decide) ?_
      exact k_iret C hW5 rfl ⟨by rw [if_pos (show cStock x1 = 0 from hc)]; unfold stockF; rw [if_pos (by omega : iN x1 ≤ 4)], by rw [if_pos (show cStock x1 = 0 from hc)]⟩ (Nat.le_refl _) (Nat.le_refl _) dX4_stock_65
  · have hc : ¬ (if (inR x1 0 7) then 0 else 1) = 0 := c1_n c13
    refine kn_iconst (a := 0) C (by decide) dX4_stock_16 ?_
    exact k_iret C hW2 rfl ⟨by rw [if_neg (show ¬ cStock x1 = 0 from hc)], by rw [if_neg (show ¬ cStock x1 = 0 from hc)]; rfl⟩ (Nat.le_refl _) (Nat.le_refl _) dX4_stock_17

def Q_ctX4_owed (G : GT) (h : Nat) (ad : Nat → Nat) (σ : Sg) (x1 : Int32) : Option Value → List va_W → Prop := fun v S1 => v = some (.int (nI (if cOwed σ x1 = 0 then 100 * σ 15 (iN x1) + σ 16 (iN x1) else 0))) ∧ S1 = mW G h ad (if cOwed σ x1 = 0 then k0 σ 0 else k0 σ (cOwed σ x1))
set_option maxHeartbeats 4000000 in
set_option maxRecDepth 100000 in
theorem ctX4_owed (l : Launch) (G : GT) (h : Nat) (ad : Nat → Nat) (σ : Sg) (x1 : Int32) (hS : Sf σ) : Ct l G yX4_owed cX4_owed 2 (some .int) 1 25 0 0 [.ref h, .int x1] (mW G h ad σ) noR (Q_ctX4_owed G h ad σ x1) := by
  refine Ct.of (by decide +kernel) (Nat.le_of_ble_eq_true rfl) ?_
  intro p e s m below meth c A ls C hW hRo hl
  have hl : lv_has ls 2 [(0, .ref h), (1, .int x1)] := hl
  have hB : Bd σ := hS.1
  have h32 : σ 32 0 ≤ 200 := Nat.lt_succ_iff.mp (hB.lt 32 (by decide) 0)
  have h34 : σ 34 0 ≤ 480 := Nat.lt_succ_iff.mp (hB.lt 34 (by decide) 0)
  have h35 : σ 35 0 ≤ 64 := Nat.lt_succ_iff.mp (hB.lt 35 (by decide) 0)
  have h36 : σ 36 0 ≤ 60 := Nat.lt_succ_iff.mp (hB.lt 36 (by decide) 0)
  have h30 : σ 30 0 ≤ 5000 := Nat.lt_succ_iff.mp (hB.lt 30 (by decide) 0)
  refine lv_aload_n C.hx C.hb dX4_owed_0 rfl (lv_at hl 0 rfl) ?_
  refine lv_iload_n C.hx C.hb dX4_owed_1 rfl (lv_at hl 1 rfl) ?_
  refine lv_i2l C.hx C.hb dX4_owed_2 rfl ?_
  refine kn_lconst (a := 0) C rfl dX4_owed_3 ?_
  refine lv_aload_n C.hx C.hb dX4_owed_4 rfl (lv_at hl 0 rfl) ?_
  refine k_get (v := .int (nI (σ 35 0))) C clX4 (hW.get 0 0 rfl rfl) 35 (Nat.le_of_ble_eq_true rfl) rfl q2359 rfl rfl dX4_owed_5 ?_
  refine kn_iconst (a := 1) C (by decide) dX4_owed_8 ?_
  refine lv_isub C.hx C.hb dX4_owed_9 ?_
  refine lv_i2l C.hx C.hb dX4_owed_10 rfl ?_
  refine k_callS (Sc := []) (Sr := mW G h ad σ) (As := [.long (x1).toInt64, .long (lN 0), .long (((nI (σ 35 0)) - (nI 1))).toInt64]) (rest := [.ref h]) C (ctX4_isBetween l G ((x1).toInt64) (lN 0) ((((nI (σ 35 0)) - (nI 1))).toInt64)) hW q2449 q2450 q85 q2451 rfl ⟨by decide, by decide, Eq.trans (b := some 3) (by decide +kernel) rfl⟩ (Nat.le_of_ble_eq_true rfl) (Nat.le_of_ble_eq_true rfl) (Nat.le_refl _) (Nat.le_refl _) hl.1 rfl (Nat.le_of_ble_eq_true rfl) dX4_owed_11 (k_permR _) (fun _ h => h.elim) (fun v H1 locs1 S1 hQ hz1 hW1 => ?_)
  obtain ⟨rfl, rfl⟩ := hQ
  have hW1 : Ws G A s (mW G h ad σ) H1 locs1 := hW1
  clear hW
  refine W.eq (g2 := F0 m 14 ls [.int (b01 ((lN 0) ≤ (x1).toInt64 ∧ (x1).toInt64 ≤ (((nI (σ 35 0)) - (nI 1))).toInt64)), .ref h]) rfl ?_
  refine k_op (y := .int (b01 (inR x1 0 (((σ 35 0) : Nat) - 1 : Int)))) (by rw [b01_cg (inRM x1 (by omega))]) ?_
  refine k_callV (Sc := mW G h ad σ) (Sr := []) (As := [.int (b01 (inR x1 0 (((σ 35 0) : Nat) - 1 : Int)))]) (rest := []) C (ctX4_goes l G h ad σ (inR x1 0 (((σ 35 0) : Nat) - 1 : Int)) hS) hW1 clX4 (hW1.get 0 0 rfl rfl) q2527 q2529 qs58 q85 q2530 rfl rfl ⟨by decide, by decide, Eq.trans (b := some 1) (by decide +kernel) rfl⟩ (Nat.le_of_ble_eq_true rfl) (Nat.le_of_ble_eq_true rfl) (Nat.le_refl _) (Nat.le_refl _) hl.1 rfl (Nat.le_of_ble_eq_true rfl) dX4_owed_14 (List.Perm.refl _) (fun _ h => h.elim) (fun v H2 locs2 S1 hQ hz2 hW2 => ?_)
  obtain ⟨rfl, rfl⟩ := hQ
  have hW2 : Ws G A s (mW G h ad (s2 σ 37 0 (if (inR x1 0 (((σ 35 0) : Nat) - 1 : Int)) then 0 else 1))) H2 locs2 := hW2
  clear hW1
  refine W.eq (g2 := F0 m 17 ls [.int (b01 ((inR x1 0 (((σ 35 0) : Nat) - 1 : Int))))]) rfl ?_
  refine kb_if_eq (tgt := 39) C dX4_owed_17 (by decide) (fun c17 => ?_) (fun c17 => ?_)
  · have hc : ¬ (if (inR x1 0 (((σ 35 0) : Nat) - 1 : Int)) then 0 else 1) = 0 := c1_n c17
    refine kn_iconst (a := 0) C (by decide) dX4_owed_39 ?_
    exact k_iret C hW2 rfl ⟨by rw [if_neg (show ¬ cOwed σ x1 = 0 from hc)], by rw [if_neg (show ¬ cOwed σ x1 = 0 from hc)]; rfl⟩ (Nat.le_refl _) (Nat.le_refl _) dX4_owed_40
  · have hc : (if (inR x1 0 (((σ 35 0) : Nat) - 1 : Int)) then 0 else 1) = 0 := c1_0 c17
    rw [hc] at hW2
    have hin : inR x1 ((0 : Nat) : Int) ((σ 35 0 : Nat) : Int) := ⟨c17.1, by have := c17.2; omega⟩
    have hlt : x1.toInt < σ 35 0 := by have := c17.2; omega
    obtain ⟨hx3, -, -⟩ := iN_eq (a := 0) (b := σ 35 0) (by omega) hin
    have hi : iN x1 < σ 35 0 := by unfold iN; have := c17.1; omega
    have hl3 : lv_has ls 2 [(0, .ref h), (1, .int (nI (iN x1)))] := by rw [← hx3]; exact hl
    refine kn_bipush (a := 100) C (by decide) dX4_owed_20 ?_
    refine lv_aload_n C.hx C.hb dX4_owed_22 rfl (lv_at hl3 0 rfl) ?_
    refine k_get (v := .ref (ad 15)) C clX4 (hW2.get 0 0 rfl rfl) 15 (Nat.le_of_ble_eq_true rfl) rfl q2339 rfl rfl dX4_owed_23 ?_
    refine lv_iload_n C.hx C.hb dX4_owed_26 rfl (lv_at hl3 1 rfl) ?_
    refine k_iald C (f := (fun i => nI ((s2 σ 37 0 0) 15 i))) rfl (hW2.get 16 0 rfl rfl) (by omega) (by decide) dX4_owed_27 ?_
    refine k_op (y := .int (nI (σ 15 (iN x1)))) (by simp [s2_rd]) ?_
    refine kn_imul C  dX4_owed_28 ?_
    refine lv_aload_n C.hx C.hb dX4_owed_29 rfl (lv_at hl3 0 rfl) ?_
    refine k_get (v := .ref (ad 16)) C clX4 (hW2.get 0 0 rfl rfl) 16 (Nat.le_of_ble_eq_true rfl) rfl q2340 rfl rfl dX4_owed_30 ?_
    refine lv_iload_n C.hx C.hb dX4_owed_33 rfl (lv_at hl3 1 rfl) ?_
    refine k_iald C (f := (fun i => nI ((s2 σ 37 0 0) 16 i))) rfl (hW2.get 17 0 rfl rfl) (by omega) (by decide) dX4_owed_34 ?_
    refine k_op (y := .int (nI (σ 16 (iN x1)))) (by simp [s2_rd]) ?_
    refine kn_iadd C  dX4_owed_35 ?_
    refine lv_goto (tgt := 40) C.hx C.hb dX4_owed_36 (by decide) ?_
    exact k_iret C hW2 rfl ⟨by rw [if_pos (show cOwed σ x1 = 0 from hc)], by rw [if_pos (show cOwed σ x1 = 0 from hc)]⟩ (Nat.le_refl _) (Nat.le_refl _) dX4_owed_40
