def Q_ctX4_send (G : GT) (h : Nat) (ad : Nat → Nat) (σ : Sg) (x1 x2 x3 : Int32) : Option Value → List va_W → Prop := fun v S1 => v = some (.int (nI (if cSend σ x1 x2 x3 = 0 then σ 36 0 else 0))) ∧ S1 = mW G h ad (if cSend σ x1 x2 x3 = 0 then sendF (k0 σ 0) (iN x1) (iN x2) (iN x3) else k0 σ (cSend σ x1 x2 x3))
set_option maxHeartbeats 4000000 in
set_option maxRecDepth 100000 in
theorem ctX4_send (l : Launch) (G : GT) (h : Nat) (ad : Nat → Nat) (σ : Sg) (x1 x2 x3 : Int32) (hS : Sf σ) (he : σ 34 0 < 480) : Ct l G yX4_send cX4_send 6 (some .int) 2 45 0 0 [.ref h, .int x1, .int x2, .int x3] (mW G h ad σ) noR (Q_ctX4_send G h ad σ x1 x2 x3) := by
  refine Ct.of (by decide +kernel) (Nat.le_of_ble_eq_true rfl) ?_
  intro p e s m below meth c A ls C hW hRo hl
  have hl : lv_has ls 6 [(0, .ref h), (1, .int x1), (2, .int x2), (3, .int x3)] := hl
  have hB : Bd σ := hS.1
  have h32 : σ 32 0 ≤ 200 := Nat.lt_succ_iff.mp (hB.lt 32 (by decide) 0)
  have h34 : σ 34 0 ≤ 480 := Nat.lt_succ_iff.mp (hB.lt 34 (by decide) 0)
  have h35 : σ 35 0 ≤ 64 := Nat.lt_succ_iff.mp (hB.lt 35 (by decide) 0)
  have h36 : σ 36 0 ≤ 60 := Nat.lt_succ_iff.mp (hB.lt 36 (by decide) 0)
  have h30 : σ 30 0 ≤ 5000 := Nat.lt_succ_iff.mp (hB.lt 30 (by decide) 0)
  refine lv_aload_n C.hx C.hb dX4_send_0 rfl (lv_at hl 0 rfl) ?_
  refine lv_iload_n C.hx C.hb dX4_send_1 rfl (lv_at hl 1 rfl) ?_
  refine k_callS (Sc := []) (Sr := mW G h ad σ) (As := [.int x1]) (rest := [.ref h]) C (ctX4_isRider l G x1) hW q2518 q2519 q85 q2520 rfl ⟨by decide, by decide, Eq.trans (b := some 1) (by decide +kernel) rfl⟩ (Nat.le_of_ble_eq_true rfl) (Nat.le_of_ble_eq_true rfl) (Nat.le_refl _) (Nat.le_refl _) hl.1 rfl (Nat.le_of_ble_eq_true rfl) dX4_send_2 (k_permR _) (fun _ h => h.elim) (fun v H1 locs1 S1 hQ hz1 hW1 => ?_)
  obtain ⟨rfl, rfl⟩ := hQ
  have hW1 : Ws G A s (mW G h ad σ) H1 locs1 := hW1
  clear hW
  refine W.eq (g2 := F0 m 5 ls [.int (b01 (inR x1 0 3)), .ref h]) rfl ?_
  refine kb_if_eq (tgt := 19) C dX4_send_5 (by decide) (fun c5 => ?_) (fun c5 => ?_)
  · refine kn_iconst (a := 0) C (by decide) dX4_send_19 ?_
    refine k_op (y := .int (b01 (inR x1 0 3 ∧ inR x2 0 11))) (by rw [b01_f (fun q => c5 q.1)]; rfl) ?_
    refine lv_iload_n C.hx C.hb dX4_send_20 rfl (lv_at hl 3 rfl) ?_
    refine k_callS (Sc := []) (Sr := mW G h ad σ) (As := [.int x3]) (rest := [.int (b01 (inR x1 0 3 ∧ inR x2 0 11)), .ref h]) C (ctX4_isWord l G x3) hW1 q2566 q2567 q85 q2568 rfl ⟨by decide, by decide, Eq.trans (b := some 1) (by decide +kernel) rfl⟩ (Nat.le_of_ble_eq_true rfl) (Nat.le_of_ble_eq_true rfl) (Nat.le_refl _) (Nat.le_refl _) hl.1 rfl (Nat.le_of_ble_eq_true rfl) dX4_send_21 (k_permR _) (fun _ h => h.elim) (fun v H2 locs2 S1 hQ hz2 hW2 => ?_)
    obtain ⟨rfl, rfl⟩ := hQ
    have hW2 : Ws G A s (mW G h ad σ) H2 locs2 := hW2
    clear hW1
    refine W.eq (g2 := F0 m 24 ls [.int (b01 (inR x3 0 3)), .int (b01 (inR x1 0 3 ∧ inR x2 0 11)), .ref h]) rfl ?_
    refine lv_aload_n C.hx C.hb dX4_send_24 rfl (lv_at hl 0 rfl) ?_
    refine k_get (v := .int (nI (σ 36 0))) C clX4 (hW2.get 0 0 rfl rfl) 36 (Nat.le_of_ble_eq_true rfl) rfl q2360 rfl rfl dX4_send_25 ?_
    refine kn_bipush (a := 60) C (by decide) dX4_send_28 ?_
    refine kn_icmp_ge (tgt := 37) C (Nat.lt_of_lt_of_le (hB.lt 36 (by decide) 0) (by decide)) (by decide) dX4_send_30 (by decide) (fun c30 => ?_) (fun c30 => ?_)
    · refine kn_iconst (a := 0) C (by decide) dX4_send_37 ?_
      refine k_op (y := .int (b01 (σ 36 0 < 60))) (by rw [b01_f (by omega)]; rfl) ?_
      refine k_callV (Sc := mW G h ad σ) (Sr := []) (As := [.int (b01 (inR x1 0 3 ∧ inR x2 0 11)), .int (b01 (inR x3 0 3)), .int (b01 (σ 36 0 < 60))]) (rest := []) C (ctX4_goesAll l G h ad σ (inR x1 0 3 ∧ inR x2 0 11) (inR x3 0 3) (σ 36 0 < 60) hS) hW2 clX4 (hW2.get 0 0 rfl rfl) q2540 q2542 qs59 q85 q2543 rfl rfl ⟨by decide, by decide, Eq.trans (b := some 3) (by decide +kernel) rfl⟩ (Nat.le_of_ble_eq_true rfl) (Nat.le_of_ble_eq_true rfl) (Nat.le_refl _) (Nat.le_refl _) hl.1 rfl (Nat.le_of_ble_eq_true rfl) dX4_send_38 (List.Perm.refl _) (fun _ h => h.elim) (fun v H3 locs3 S1 hQ hz3 hW3 => ?_)
      obtain ⟨rfl, rfl⟩ := hQ
      have hW3 : Ws G A s (mW G h ad (s2 σ 37 0 (c3_ (inR x1 0 3 ∧ inR x2 0 11) (inR x3 0 3) (σ 36 0 < 60)))) H3 locs3 := hW3
      clear hW2
      refine W.eq (g2 := F0 m 41 ls [.int (b01 ((inR x1 0 3 ∧ inR x2 0 11) ∧ (inR x3 0 3) ∧ (σ 36 0 < 60)))]) rfl ?_
      refine kb_if_ne (tgt := 46) C dX4_send_41 (by decide) (fun c41 => ?_) (fun c41 => ?_)
      · have hc : (c3_ (inR x1 0 3 ∧ inR x2 0 11) (inR x3 0 3) (σ 36 0 < 60)) = 0 := c3_0 c41
        rw [hc] at hW3
        obtain ⟨hx4, hy4, hz4⟩ := iN_eq (a := 0) (b := 3) (by decide) c41.1.1
        have hl4 : lv_has ls 6 [(0, .ref h), (1, .int (nI (iN x1))), (2, .int x2), (3, .int x3)] := by rw [← hx4]; exact hl
        obtain ⟨hx5, hy5, hz5⟩ := iN_eq (a := 0) (b := 11) (by decide) c41.1.2
        have hl5 : lv_has ls 6 [(0, .ref h), (1, .int (nI (iN x1))), (2, .int (nI (iN x2))), (3, .int x3)] := by rw [← hx5]; exact hl4
        obtain ⟨hx6, hy6, hz6⟩ := iN_eq (a := 0) (b := 3) (by decide) c41.2.1
        have hl6 : lv_has ls 6 [(0, .ref h), (1, .int (nI (iN x1))), (2, .int (nI (iN x2))), (3, .int (nI (iN x3)))] := by rw [← hx6]; exact hl5
        have h60 : σ 36 0 < 60 := c41.2.2
        have h1b : ∀ j, σ 1 j < 21 := fun j => hB.lt 1 (by decide) j
        have h1c := h1b (iN x1)
        refine lv_aload_n C.hx C.hb dX4_send_46 rfl (lv_at hl6 0 rfl) ?_
        refine k_get (v := .int (nI (σ 36 0))) C clX4 (hW3.get 0 0 rfl rfl) 36 (Nat.le_of_ble_eq_true rfl) rfl q2360 rfl rfl dX4_send_47 ?_
        refine lv_istore (lv' := [(4, .int (nI (σ 36 0))), (0, .ref h), (1, .int (nI (iN x1))), (2, .int (nI (iN x2))), (3, .int (nI (iN x3)))]) C.hx C.hb dX4_send_50 hl6 (Nat.le_of_ble_eq_true rfl) rfl (fun ls7 hl7 => ?_)
        clear hl6
        refine lv_aload_n C.hx C.hb dX4_send_52 rfl (lv_at hl7 1 rfl) ?_
        refine lv_dup C.hx C.hb dX4_send_53 rfl ?_
        refine k_get (v := .int (nI (σ 36 0))) C clX4 (hW3.get 0 0 rfl rfl) 36 (Nat.le_of_ble_eq_true rfl) rfl q2360 rfl rfl dX4_send_54 ?_
        refine kn_iconst (a := 1) C (by decide) dX4_send_57 ?_
        refine kn_iadd C  dX4_send_58 ?_
        refine k_put (S' := mW G h ad (s2 (s2 σ 37 0 0) 36 0 ((σ 36 0) + 1))) C clX4 hW3 0 0 rfl rfl 36 (Nat.le_of_ble_eq_true rfl) rfl q2360 rfl (fun _ h => h) (Or.inl rfl) (fty := .int) (v := .int (nI ((σ 36 0) + 1))) (by decide +kernel) rfl rfl (Nat.le_of_ble_eq_true rfl) dX4_send_59 (mput36 G h ad _ _) (fun H8 locs8 hW8 => ?_)
        clear hW3
        refine lv_aload_n C.hx C.hb dX4_send_62 rfl (lv_at hl7 1 rfl) ?_
        refine k_get (v := .ref (ad 17)) C clX4 (hW8.get 0 0 rfl rfl) 17 (Nat.le_of_ble_eq_true rfl) rfl q2341 rfl rfl dX4_send_63 ?_
        refine lv_iload C.hx C.hb dX4_send_66 (lv_at hl7 0 rfl) ?_
        refine lv_iload_n C.hx C.hb dX4_send_68 rfl (lv_at hl7 2 rfl) ?_
        refine k_iast (S' := mW G h ad (s2 (s2 (s2 σ 37 0 0) 36 0 ((σ 36 0) + 1)) 17 (σ 36 0) (iN x1))) C hW8 18 0 rfl rfl rfl (by have : σ 36 0 < 61 := hB.lt 36 (by decide) 0; omega) (by decide) dX4_send_69 (mset17 G h ad _ (σ 36 0) (iN x1)) (fun H9 locs9 hW9 => ?_)
        clear hW8
        refine lv_aload_n C.hx C.hb dX4_send_70 rfl (lv_at hl7 1 rfl) ?_
        refine k_get (v := .ref (ad 18)) C clX4 (hW9.get 0 0 rfl rfl) 18 (Nat.le_of_ble_eq_true rfl) rfl q2342 rfl rfl dX4_send_71 ?_
        refine lv_iload C.hx C.hb dX4_send_74 (lv_at hl7 0 rfl) ?_
        refine lv_iload_n C.hx C.hb dX4_send_76 rfl (lv_at hl7 3 rfl) ?_
        refine k_iast (S' := mW G h ad (s2 (s2 (s2 (s2 σ 37 0 0) 36 0 ((σ 36 0) + 1)) 17 (σ 36 0) (iN x1)) 18 (σ 36 0) (iN x2))) C hW9 19 0 rfl rfl rfl (by have : σ 36 0 < 61 := hB.lt 36 (by decide) 0; omega) (by decide) dX4_send_77 (mset18 G h ad _ (σ 36 0) (iN x2)) (fun H10 locs10 hW10 => ?_)
        clear hW9
        refine lv_aload_n C.hx C.hb dX4_send_78 rfl (lv_at hl7 1 rfl) ?_
        refine k_get (v := .ref (ad 19)) C clX4 (hW10.get 0 0 rfl rfl) 19 (Nat.le_of_ble_eq_true rfl) rfl q2343 rfl rfl dX4_send_79 ?_
        refine lv_iload C.hx C.hb dX4_send_82 (lv_at hl7 0 rfl) ?_
        refine lv_iload_n C.hx C.hb dX4_send_84 rfl (lv_at hl7 4 rfl) ?_
        refine k_iast (S' := mW G h ad (s2 (s2 (s2 (s2 (s2 σ 37 0 0) 36 0 ((σ 36 0) + 1)) 17 (σ 36 0) (iN x1)) 18 (σ 36 0) (iN x2)) 19 (σ 36 0) (iN x3))) C hW10 20 0 rfl rfl rfl (by have : σ 36 0 < 61 := hB.lt 36 (by decide) 0; omega) (by decide) dX4_send_85 (mset19 G h ad _ (σ 36 0) (iN x3)) (fun H11 locs11 hW11 => ?_)
        clear hW10
        refine lv_aload_n C.hx C.hb dX4_send_86 rfl (lv_at hl7 1 rfl) ?_
        refine k_get (v := .ref (ad 20)) C clX4 (hW11.get 0 0 rfl rfl) 20 (Nat.le_of_ble_eq_true rfl) rfl q2344 rfl rfl dX4_send_87 ?_
        refine lv_iload C.hx C.hb dX4_send_90 (lv_at hl7 0 rfl) ?_
        refine lv_aload_n C.hx C.hb dX4_send_92 rfl (lv_at hl7 1 rfl) ?_
        refine k_get (v := .int (nI (σ 30 0))) C clX4 (hW11.get 0 0 rfl rfl) 30 (Nat.le_of_ble_eq_true rfl) rfl q2354 rfl rfl dX4_send_93 ?_
        refine k_iast (S' := mW G h ad (s2 (s2 (s2 (s2 (s2 (s2 σ 37 0 0) 36 0 ((σ 36 0) + 1)) 17 (σ 36 0) (iN x1)) 18 (σ 36 0) (iN x2)) 19 (σ 36 0) (iN x3)) 20 (σ 36 0) (σ 30 0))) C hW11 21 0 rfl rfl rfl (by have : σ 36 0 < 61 := hB.lt 36 (by decide) 0; omega) (by decide) dX4_send_96 (mset20 G h ad _ (σ 36 0) (σ 30 0)) (fun H12 locs12 hW12 => ?_)
        clear hW11
        refine lv_aload_n C.hx C.hb dX4_send_97 rfl (lv_at hl7 1 rfl) ?_
        refine k_get (v := .ref (ad 21)) C clX4 (hW12.get 0 0 rfl rfl) 21 (Nat.le_of_ble_eq_true rfl) rfl q2345 rfl rfl dX4_send_98 ?_
        refine lv_iload C.hx C.hb dX4_send_101 (lv_at hl7 0 rfl) ?_
        refine lv_aload_n C.hx C.hb dX4_send_103 rfl (lv_at hl7 1 rfl) ?_
        refine k_get (v := .int (nI (σ 30 0))) C clX4 (hW12.get 0 0 rfl rfl) 30 (Nat.le_of_ble_eq_true rfl) rfl q2354 rfl rfl dX4_send_104 ?_
        refine lv_aload_n C.hx C.hb dX4_send_107 rfl (lv_at hl7 1 rfl) ?_
        refine k_get (v := .ref (ad 1)) C clX4 (hW12.get 0 0 rfl rfl) 1 (Nat.le_of_ble_eq_true rfl) rfl q2325 rfl rfl dX4_send_108 ?_
        refine lv_iload_n C.hx C.hb dX4_send_111 rfl (lv_at hl7 2 rfl) ?_
        refine k_iald C (f := (fun i => nI ((s2 (s2 (s2 (s2 (s2 (s2 σ 37 0 0) 36 0 ((σ 36 0) + 1)) 17 (σ 36 0) (iN x1)) 18 (σ 36 0) (iN x2)) 19 (σ 36 0) (iN x3)) 20 (σ 36 0) (σ 30 0)) 1 i))) rfl (hW12.get 2 0 rfl rfl) (by omega) (by decide) dX4_send_112 ?_
        refine k_op (y := .int (nI (σ 1 (iN x1)))) (by simp [s2_rd]) ?_
        refine kn_iadd C  dX4_send_113 ?_
        refine k_iast (S' := mW G h ad (s2 (s2 (s2 (s2 (s2 (s2 (s2 σ 37 0 0) 36 0 ((σ 36 0) + 1)) 17 (σ 36 0) (iN x1)) 18 (σ 36 0) (iN x2)) 19 (σ 36 0) (iN x3)) 20 (σ 36 0) (σ 30 0)) 21 (σ 36 0) ((σ 30 0) + (σ 1 (iN x1))))) C hW12 22 0 rfl rfl rfl (by have : σ 36 0 < 61 := hB.lt 36 (by decide) 0; omega) (by decide) dX4_send_114 (mset21 G h ad _ (σ 36 0) ((σ 30 0) + (σ 1 (iN x1)))) (fun H13 locs13 hW13 => ?_)
        clear hW12
        refine lv_aload_n C.hx C.hb dX4_send_115 rfl (lv_at hl7 1 rfl) ?_
        refine lv_aload_n C.hx C.hb dX4_send_116 rfl (lv_at hl7 1 rfl) ?_
        refine k_get (v := .ref (ad 21)) C clX4 (hW13.get 0 0 rfl rfl) 21 (Nat.le_of_ble_eq_true rfl) rfl q2345 rfl rfl dX4_send_117 ?_
        refine lv_iload C.hx C.hb dX4_send_120 (lv_at hl7 0 rfl) ?_
        refine k_iald C (f := (fun i => nI ((s2 (s2 (s2 (s2 (s2 (s2 (s2 σ 37 0 0) 36 0 ((σ 36 0) + 1)) 17 (σ 36 0) (iN x1)) 18 (σ 36 0) (iN x2)) 19 (σ 36 0) (iN x3)) 20 (σ 36 0) (σ 30 0)) 21 (σ 36 0) ((σ 30 0) + (σ 1 (iN x1)))) 21 i))) rfl (hW13.get 22 0 rfl rfl) (by have : σ 36 0 < 61 := hB.lt 36 (by decide) 0; omega) (by decide) dX4_send_122 ?_
        refine k_op (y := .int (nI ((σ 30 0) + (σ 1 (iN x1))))) (by simp [s2_rd]) ?_
        refine kn_iconst (a := 2) C (by decide) dX4_send_123 ?_
        refine lv_iload C.hx C.hb dX4_send_124 (lv_at hl7 0 rfl) ?_
        have hSs : Sf (s2 (s2 (s2 (s2 (s2 (s2 (s2 σ 37 0 0) 36 0 ((σ 36 0) + 1)) 17 (σ 36 0) (iN x1)) 18 (σ 36 0) (iN x2)) 19 (σ 36 0) (iN x3)) 20 (σ 36 0) (σ 30 0)) 21 (σ 36 0) ((σ 30 0) + (σ 1 (iN x1)))) := (((((((hS.s2o (f := 37) (by decide) (Or.inr (by decide))).s2o (f := 36) (by decide) (Or.inr (by show _ < 61; omega))).s2o (f := 17) (by decide) (Or.inr (by show _ < 4; omega))).s2o (f := 18) (by decide) (Or.inr (by show _ < 12; omega))).s2o (f := 19) (by decide) (Or.inr (by show _ < 4; omega))).s2o (f := 20) (by decide) (Or.inr (by show _ < 5001; omega))).s2o (f := 21) (by decide) (Or.inr (by show _ < 5101; omega)))
        refine k_callV (Sc := mW G h ad (s2 (s2 (s2 (s2 (s2 (s2 (s2 σ 37 0 0) 36 0 ((σ 36 0) + 1)) 17 (σ 36 0) (iN x1)) 18 (σ 36 0) (iN x2)) 19 (σ 36 0) (iN x3)) 20 (σ 36 0) (σ 30 0)) 21 (σ 36 0) ((σ 30 0) + (σ 1 (iN x1))))) (Sr := []) (As := [.int (nI ((σ 30 0) + (σ 1 (iN x1)))), .int (nI 2), .int (nI (σ 36 0))]) (rest := []) C (ctX4_comes l G h ad (s2 (s2 (s2 (s2 (s2 (s2 (s2 σ 37 0 0) 36 0 ((σ 36 0) + 1)) 17 (σ 36 0) (iN x1)) 18 (σ 36 0) (iN x2)) 19 (σ 36 0) (iN x3)) 20 (σ 36 0) (σ 30 0)) 21 (σ 36 0) ((σ 30 0) + (σ 1 (iN x1)))) (σ 30 0 + σ 1 (iN x1)) 2 (σ 36 0) hSs he) hW13 clX4 (hW13.get 0 0 rfl rfl) q2477 q2479 qs53 q85 q2480 rfl rfl ⟨by decide, by decide, Eq.trans (b := some 3) (by decide +kernel) rfl⟩ (Nat.le_of_ble_eq_true rfl) (Nat.le_of_ble_eq_true rfl) (Nat.le_refl _) (Nat.le_refl _) hl7.1 rfl (Nat.le_of_ble_eq_true rfl) dX4_send_126 (List.Perm.refl _) (fun _ h => h.elim) (fun v H14 locs14 S1 hQ hz14 hW14 => ?_)
        obtain ⟨rfl, rfl⟩ := hQ
        have hW14 : Ws G A s (mW G h ad (comesF (s2 (s2 (s2 (s2 (s2 (s2 (s2 σ 37 0 0) 36 0 ((σ 36 0) + 1)) 17 (σ 36 0) (iN x1)) 18 (σ 36 0) (iN x2)) 19 (σ 36 0) (iN x3)) 20 (σ 36 0) (σ 30 0)) 21 (σ 36 0) ((σ 30 0) + (σ 1 (iN x1)))) (σ 30 0 + σ 1 (iN x1)) 2 (σ 36 0))) H14 locs14 := hW14
        clear hW13
        refine W.eq (g2 := F0 m 129 ls7 [.int (nI (σ 34 0))]) rfl ?_
        refine lv_istore (lv' := [(5, .int (nI (σ 34 0))), (4, .int (nI (σ 36 0))), (0, .ref h), (1, .int (nI (iN x1))), (2, .int (nI (iN x2))), (3, .int (nI (iN x3)))]) C.hx C.hb dX4_send_129 hl7 (Nat.le_of_ble_eq_true rfl) rfl (fun ls15 hl15 => ?_)
        clear hl7
        refine lv_iload C.hx C.hb dX4_send_131 (lv_at hl15 1 rfl) ?_
        exact k_iret C hW14 rfl ⟨by rw [if_pos (show cSend σ x1 x2 x3 = 0 from hc)], by rw [if_pos (show cSend σ x1 x2 x3 = 0 from hc)]; rfl⟩ (Nat.le_refl _) (Nat.le_refl _) dX4_send_133
      · have hc : ¬ (c3_ (inR x1 0 3 ∧ inR x2 0 11) (inR x3 0 3) (σ 36 0 < 60)) = 0 := c3_n c41
        refine kn_iconst (a := 0) C (by decide) dX4_send_44 ?_
        exact k_iret C hW3 rfl ⟨by rw [if_neg (show ¬ cSend σ x1 x2 x3 = 0 from hc)], by rw [if_neg (show ¬ cSend σ x1 x2 x3 = 0 from hc)]; rfl⟩ (Nat.le_refl _) (Nat.le_refl _) dX4_send_45
    · refine kn_iconst (a := 1) C (by decide) dX4_send_33 ?_
      refine lv_goto (tgt := 38) C.hx C.hb dX4_send_34 (by decide) ?_
      refine k_op (y := .int (b01 (σ 36 0 < 60))) (by rw [b01_t (by omega)]; rfl) ?_
      refine k_callV (Sc := mW G h ad σ) (Sr := []) (As := [.int (b01 (inR x1 0 3 ∧ inR x2 0 11)), .int (b01 (inR x3 0 3)), .int (b01 (σ 36 0 < 60))]) (rest := []) C (ctX4_goesAll l G h ad σ (inR x1 0 3 ∧ inR x2 0 11) (inR x3 0 3) (σ 36 0 < 60) hS) hW2 clX4 (hW2.get 0 0 rfl rfl) q2540 q2542 qs59 q85 q2543 rfl rfl ⟨by decide, by decide, Eq.trans (b := some 3) (by decide +kernel) rfl⟩ (Nat.le_of_ble_eq_true rfl) (Nat.le_of_ble_eq_true rfl) (Nat.le_refl _) (Nat.le_refl _) hl.1 rfl (Nat.le_of_ble_eq_true rfl) dX4_send_38 (List.Perm.refl _) (fun _ h => h.elim) (fun v H16 locs16 S1 hQ hz16 hW16 => ?_)
      obtain ⟨rfl, rfl⟩ := hQ
      have hW16 : Ws G A s (mW G h ad (s2 σ 37 0 (c3_ (inR x1 0 3 ∧ inR x2 0 11) (inR x3 0 3) (σ 36 0 < 60)))) H16 locs16 := hW16
      clear hW2
      refine W.eq (g2 := F0 m 41 ls [.int (b01 ((inR x1 0 3 ∧ inR x2 0 11) ∧ (inR x3 0 3) ∧ (σ 36 0 < 60)))]) rfl ?_
      refine kb_if_ne (tgt := 46) C dX4_send_41 (by decide) (fun c41 => ?_) (fun c41 => ?_)
      · have hc : (c3_ (inR x1 0 3 ∧ inR x2 0 11) (inR x3 0 3) (σ 36 0 < 60)) = 0 := c3_0 c41
        rw [hc] at hW16
        obtain ⟨hx17, hy17, hz17⟩ := iN_eq (a := 0) (b := 3) (by decide) c41.1.1
        have hl17 : lv_has ls 6 [(0, .ref h), (1, .int (nI (iN x1))), (2, .int x2), (3, .int x3)] := by rw [← hx17]; exact hl
        obtain ⟨hx18, hy18, hz18⟩ := iN_eq (a := 0) (b := 11) (by decide) c41.1.2
        have hl18 : lv_has ls 6 [(0, .ref h), (1, .int (nI (iN x1))), (2, .int (nI (iN x2))), (3, .int x3)] := by rw [← hx18]; exact hl17
        obtain ⟨hx19, hy19, hz19⟩ := iN_eq (a := 0) (b := 3) (by decide) c41.2.1
        have hl19 : lv_has ls 6 [(0, .ref h), (1, .int (nI (iN x1))), (2, .int (nI (iN x2))), (3, .int (nI (iN x3)))] := by rw [← hx19]; exact hl18
        have h60 : σ 36 0 < 60 := c41.2.2
        have h1b : ∀ j, σ 1 j < 21 := fun j => hB.lt 1 (by decide) j
        have h1c := h1b (iN x1)
        refine lv_aload_n C.hx C.hb dX4_send_46 rfl (lv_at hl19 0 rfl) ?_
        refine k_get (v := .int (nI (σ 36 0))) C clX4 (hW16.get 0 0 rfl rfl) 36 (Nat.le_of_ble_eq_true rfl) rfl q2360 rfl rfl dX4_send_47 ?_
        refine lv_istore (lv' := [(4, .int (nI (σ 36 0))), (0, .ref h), (1, .int (nI (iN x1))), (2, .int (nI (iN x2))), (3, .int (nI (iN x3)))]) C.hx C.hb dX4_send_50 hl19 (Nat.le_of_ble_eq_true rfl) rfl (fun ls20 hl20 => ?_)
        clear hl19
        refine lv_aload_n C.hx C.hb dX4_send_52 rfl (lv_at hl20 1 rfl) ?_
        refine lv_dup C.hx C.hb dX4_send_53 rfl ?_
        refine k_get (v := .int (nI (σ 36 0))) C clX4 (hW16.get 0 0 rfl rfl) 36 (Nat.le_of_ble_eq_true rfl) rfl q2360 rfl rfl dX4_send_54 ?_
        refine kn_iconst (a := 1) C (by decide) dX4_send_57 ?_
        refine kn_iadd C  dX4_send_58 ?_
        refine k_put (S' := mW G h ad (s2 (s2 σ 37 0 0) 36 0 ((σ 36 0) + 1))) C clX4 hW16 0 0 rfl rfl 36 (Nat.le_of_ble_eq_true rfl) rfl q2360 rfl (fun _ h => h) (Or.inl rfl) (fty := .int) (v := .int (nI ((σ 36 0) + 1))) (by decide +kernel) rfl rfl (Nat.le_of_ble_eq_true rfl) dX4_send_59 (mput36 G h ad _ _) (fun H21 locs21 hW21 => ?_)
        clear hW16
        refine lv_aload_n C.hx C.hb dX4_send_62 rfl (lv_at hl20 1 rfl) ?_
        refine k_get (v := .ref (ad 17)) C clX4 (hW21.get 0 0 rfl rfl) 17 (Nat.le_of_ble_eq_true rfl) rfl q2341 rfl rfl dX4_send_63 ?_
        refine lv_iload C.hx C.hb dX4_send_66 (lv_at hl20 0 rfl) ?_
        refine lv_iload_n C.hx C.hb dX4_send_68 rfl (lv_at hl20 2 rfl) ?_
        refine k_iast (S' := mW G h ad (s2 (s2 (s2 σ 37 0 0) 36 0 ((σ 36 0) + 1)) 17 (σ 36 0) (iN x1))) C hW21 18 0 rfl rfl rfl (by have : σ 36 0 < 61 := hB.lt 36 (by decide) 0; omega) (by decide) dX4_send_69 (mset17 G h ad _ (σ 36 0) (iN x1)) (fun H22 locs22 hW22 => ?_)
        clear hW21
        refine lv_aload_n C.hx C.hb dX4_send_70 rfl (lv_at hl20 1 rfl) ?_
        refine k_get (v := .ref (ad 18)) C clX4 (hW22.get 0 0 rfl rfl) 18 (Nat.le_of_ble_eq_true rfl) rfl q2342 rfl rfl dX4_send_71 ?_
        refine lv_iload C.hx C.hb dX4_send_74 (lv_at hl20 0 rfl) ?_
        refine lv_iload_n C.hx C.hb dX4_send_76 rfl (lv_at hl20 3 rfl) ?_
        refine k_iast (S' := mW G h ad (s2 (s2 (s2 (s2 σ 37 0 0) 36 0 ((σ 36 0) + 1)) 17 (σ 36 0) (iN x1)) 18 (σ 36 0) (iN x2))) C hW22 19 0 rfl rfl rfl (by have : σ 36 0 < 61 := hB.lt 36 (by decide) 0; omega) (by decide) dX4_send_77 (mset18 G h ad _ (σ 36 0) (iN x2)) (fun H23 locs23 hW23 => ?_)
        clear hW22
        refine lv_aload_n C.hx C.hb dX4_send_78 rfl (lv_at hl20 1 rfl) ?_
        refine k_get (v := .ref (ad 19)) C clX4 (hW23.get 0 0 rfl rfl) 19 (Nat.le_of_ble_eq_true rfl) rfl q2343 rfl rfl dX4_send_79 ?_
        refine lv_iload C.hx C.hb dX4_send_82 (lv_at hl20 0 rfl) ?_
        refine lv_iload_n C.hx C.hb dX4_send_84 rfl (lv_at hl20 4 rfl) ?_
        refine k_iast (S' := mW G h ad (s2 (s2 (s2 (s2 (s2 σ 37 0 0) 36 0 ((σ 36 0) + 1)) 17 (σ 36 0) (iN x1)) 18 (σ 36 0) (iN x2)) 19 (σ 36 0) (iN x3))) C hW23 20 0 rfl rfl rfl (by have : σ 36 0 < 61 := hB.lt 36 (by decide) 0; omega) (by decide) dX4_send_85 (mset19 G h ad _ (σ 36 0) (iN x3)) (fun H24 locs24 hW24 => ?_)
        clear hW23
        refine lv_aload_n C.hx C.hb dX4_send_86 rfl (lv_at hl20 1 rfl) ?_
        refine k_get (v := .ref (ad 20)) C clX4 (hW24.get 0 0 rfl rfl) 20 (Nat.le_of_ble_eq_true rfl) rfl q2344 rfl rfl dX4_send_87 ?_
        refine lv_iload C.hx C.hb dX4_send_90 (lv_at hl20 0 rfl) ?_
        refine lv_aload_n C.hx C.hb dX4_send_92 rfl (lv_at hl20 1 rfl) ?_
        refine k_get (v := .int (nI (σ 30 0))) C clX4 (hW24.get 0 0 rfl rfl) 30 (Nat.le_of_ble_eq_true rfl) rfl q2354 rfl rfl dX4_send_93 ?_
        refine k_iast (S' := mW G h ad (s2 (s2 (s2 (s2 (s2 (s2 σ 37 0 0) 36 0 ((σ 36 0) + 1)) 17 (σ 36 0) (iN x1)) 18 (σ 36 0) (iN x2)) 19 (σ 36 0) (iN x3)) 20 (σ 36 0) (σ 30 0))) C hW24 21 0 rfl rfl rfl (by have : σ 36 0 < 61 := hB.lt 36 (by decide) 0; omega) (by decide) dX4_send_96 (mset20 G h ad _ (σ 36 0) (σ 30 0)) (fun H25 locs25 hW25 => ?_)
        clear hW24
        refine lv_aload_n C.hx C.hb dX4_send_97 rfl (lv_at hl20 1 rfl) ?_
        refine k_get (v := .ref (ad 21)) C clX4 (hW25.get 0 0 rfl rfl) 21 (Nat.le_of_ble_eq_true rfl) rfl q2345 rfl rfl dX4_send_98 ?_
        refine lv_iload C.hx C.hb dX4_send_101 (lv_at hl20 0 rfl) ?_
        refine lv_aload_n C.hx C.hb dX4_send_103 rfl (lv_at hl20 1 rfl) ?_
        refine k_get (v := .int (nI (σ 30 0))) C clX4 (hW25.get 0 0 rfl rfl) 30 (Nat.le_of_ble_eq_true rfl) rfl q2354 rfl rfl dX4_send_104 ?_
        refine lv_aload_n C.hx C.hb dX4_send_107 rfl (lv_at hl20 1 rfl) ?_
        refine k_get (v := .ref (ad 1)) C clX4 (hW25.get 0 0 rfl rfl) 1 (Nat.le_of_ble_eq_true rfl) rfl q2325 rfl rfl dX4_send_108 ?_
        refine lv_iload_n C.hx C.hb dX4_send_111 rfl (lv_at hl20 2 rfl) ?_
        refine k_iald C (f := (fun i => nI ((s2 (s2 (s2 (s2 (s2 (s2 σ 37 0 0) 36 0 ((σ 36 0) + 1)) 17 (σ 36 0) (iN x1)) 18 (σ 36 0) (iN x2)) 19 (σ 36 0) (iN x3)) 20 (σ 36 0) (σ 30 0)) 1 i))) rfl (hW25.get 2 0 rfl rfl) (by omega) (by decide) dX4_send_112 ?_
        refine k_op (y := .int (nI (σ 1 (iN x1)))) (by simp [s2_rd]) ?_
        refine kn_iadd C  dX4_send_113 ?_
        refine k_iast (S' := mW G h ad (s2 (s2 (s2 (s2 (s2 (s2 (s2 σ 37 0 0) 36 0 ((σ 36 0) + 1)) 17 (σ 36 0) (iN x1)) 18 (σ 36 0) (iN x2)) 19 (σ 36 0) (iN x3)) 20 (σ 36 0) (σ 30 0)) 21 (σ 36 0) ((σ 30 0) + (σ 1 (iN x1))))) C hW25 22 0 rfl rfl rfl (by have : σ 36 0 < 61 := hB.lt 36 (by decide) 0; omega) (by decide) dX4_send_114 (mset21 G h ad _ (σ 36 0) ((σ 30 0) + (σ 1 (iN x1)))) (fun H26 locs26 hW26 => ?_)
        clear hW25
        refine lv_aload_n C.hx C.hb dX4_send_115 rfl (lv_at hl20 1 rfl) ?_
        refine lv_aload_n C.hx C.hb dX4_send_116 rfl (lv_at hl20 1 rfl) ?_
        refine k_get (v := .ref (ad 21)) C clX4 (hW26.get 0 0 rfl rfl) 21 (Nat.le_of_ble_eq_true rfl) rfl q2345 rfl rfl dX4_send_117 ?_
        refine lv_iload C.hx C.hb dX4_send_120 (lv_at hl20 0 rfl) ?_
        refine k_iald C (f := (fun i => nI ((s2 (s2 (s2 (s2 (s2 (s2 (s2 σ 37 0 0) 36 0 ((σ 36 0) + 1)) 17 (σ 36 0) (iN x1)) 18 (σ 36 0) (iN x2)) 19 (σ 36 0) (iN x3)) 20 (σ 36 0) (σ 30 0)) 21 (σ 36 0) ((σ 30 0) + (σ 1 (iN x1)))) 21 i))) rfl (hW26.get 22 0 rfl rfl) (by have : σ 36 0 < 61 := hB.lt 36 (by decide) 0; omega) (by decide) dX4_send_122 ?_
        refine k_op (y := .int (nI ((σ 30 0) + (σ 1 (iN x1))))) (by simp [s2_rd]) ?_
        refine kn_iconst (a := 2) C (by decide) dX4_send_123 ?_
        refine lv_iload C.hx C.hb dX4_send_124 (lv_at hl20 0 rfl) ?_
        have hSs : Sf (s2 (s2 (s2 (s2 (s2 (s2 (s2 σ 37 0 0) 36 0 ((σ 36 0) + 1)) 17 (σ 36 0) (iN x1)) 18 (σ 36 0) (iN x2)) 19 (σ 36 0) (iN x3)) 20 (σ 36 0) (σ 30 0)) 21 (σ 36 0) ((σ 30 0) + (σ 1 (iN x1)))) := (((((((hS.s2o (f := 37) (by decide) (Or.inr (by decide))).s2o (f := 36) (by decide) (Or.inr (by show _ < 61; omega))).s2o (f := 17) (by decide) (Or.inr (by show _ < 4; omega))).s2o (f := 18) (by decide) (Or.inr (by show _ < 12; omega))).s2o (f := 19) (by decide) (Or.inr (by show _ < 4; omega))).s2o (f := 20) (by decide) (Or.inr (by show _ < 5001; omega))).s2o (f := 21) (by decide) (Or.inr (by show _ < 5101; omega)))
        refine k_callV (Sc := mW G h ad (s2 (s2 (s2 (s2 (s2 (s2 (s2 σ 37 0 0) 36 0 ((σ 36 0) + 1)) 17 (σ 36 0) (iN x1)) 18 (σ 36 0) (iN x2)) 19 (σ 36 0) (iN x3)) 20 (σ 36 0) (σ 30 0)) 21 (σ 36 0) ((σ 30 0) + (σ 1 (iN x1))))) (Sr := []) (As := [.int (nI ((σ 30 0) + (σ 1 (iN x1)))), .int (nI 2), .int (nI (σ 36 0))]) (rest := []) C (ctX4_comes l G h ad (s2 (s2 (s2 (s2 (s2 (s2 (s2 σ 37 0 0) 36 0 ((σ 36 0) + 1)) 17 (σ 36 0) (iN x1)) 18 (σ 36 0) (iN x2)) 19 (σ 36 0) (iN x3)) 20 (σ 36 0) (σ 30 0)) 21 (σ 36 0) ((σ 30 0) + (σ 1 (iN x1)))) (σ 30 0 + σ 1 (iN x1)) 2 (σ 36 0) hSs he) hW26 clX4 (hW26.get 0 0 rfl rfl) q2477 q2479 qs53 q85 q2480 rfl rfl ⟨by decide, by decide, Eq.trans (b := some 3) (by decide +kernel) rfl⟩ (Nat.le_of_ble_eq_true rfl) (Nat.le_of_ble_eq_true rfl) (Nat.le_refl _) (Nat.le_refl _) hl20.1 rfl (Nat.le_of_ble_eq_true rfl) dX4_send_126 (List.Perm.refl _) (fun _ h => h.elim) (fun v H27 locs27 S1 hQ hz27 hW27 => ?_)
        obtain ⟨rfl, rfl⟩ := hQ
        have hW27 : Ws G A s (mW G h ad (comesF (s2 (s2 (s2 (s2 (s2 (s2 (s2 σ 37 0 0) 36 0 ((σ 36 0) + 1)) 17 (σ 36 0) (iN x1)) 18 (σ 36 0) (iN x2)) 19 (σ 36 0) (iN x3)) 20 (σ 36 0) (σ 30 0)) 21 (σ 36 0) ((σ 30 0) + (σ 1 (iN x1)))) (σ 30 0 + σ 1 (iN x1)) 2 (σ 36 0))) H27 locs27 := hW27
        clear hW26
        refine W.eq (g2 := F0 m 129 ls20 [.int (nI (σ 34 0))]) rfl ?_
        refine lv_istore (lv' := [(5, .int (nI (σ 34 0))), (4, .int (nI (σ 36 0))), (0, .ref h), (1, .int (nI (iN x1))), (2, .int (nI (iN x2))), (3, .int (nI (iN x3)))]) C.hx C.hb dX4_send_129 hl20 (Nat.le_of_ble_eq_true rfl) rfl (fun ls28 hl28 => ?_)
        clear hl20
        refine lv_iload C.hx C.hb dX4_send_131 (lv_at hl28 1 rfl) ?_
        exact k_iret C hW27 rfl ⟨by rw [if_pos (show cSend σ x1 x2 x3 = 0 from hc)], by rw [if_pos (show cSend σ x1 x2 x3 = 0 from hc)]; rfl⟩ (Nat.le_refl _) (Nat.le_refl _) dX4_send_133
      · have hc : ¬ (c3_ (inR x1 0 3 ∧ inR x2 0 11) (inR x3 0 3) (σ 36 0 < 60)) = 0 := c3_n c41
        refine kn_iconst (a := 0) C (by decide) dX4_send_44 ?_
        exact k_iret C hW16 rfl ⟨by rw [if_neg (show ¬ cSend σ x1 x2 x3 = 0 from hc)], by rw [if_neg (show ¬ cSend σ x1 x2 x3 = 0 from hc)]; rfl⟩ (Nat.le_refl _) (Nat.le_refl _) dX4_send_45
  · refine lv_iload_n C.hx C.hb dX4_send_8 rfl (lv_at hl 2 rfl) ?_
    refine k_callS (Sc := []) (Sr := mW G h ad σ) (As := [.int x2]) (rest := [.ref h]) C (ctX4_isStretch l G x2) hW1 q2509 q2510 q85 q2511 rfl ⟨by decide, by decide, Eq.trans (b := some 1) (by decide +kernel) rfl⟩ (Nat.le_of_ble_eq_true rfl) (Nat.le_of_ble_eq_true rfl) (Nat.le_refl _) (Nat.le_refl _) hl.1 rfl (Nat.le_of_ble_eq_true rfl) dX4_send_9 (k_permR _) (fun _ h => h.elim) (fun v H29 locs29 S1 hQ hz29 hW29 => ?_)
    obtain ⟨rfl, rfl⟩ := hQ
    have hW29 : Ws G A s (mW G h ad σ) H29 locs29 := hW29
    clear hW1
    refine W.eq (g2 := F0 m 12 ls [.int (b01 (inR x2 0 11)), .ref h]) rfl ?_
    refine kb_if_eq (tgt := 19) C dX4_send_12 (by decide) (fun c12 => ?_) (fun c12 => ?_)
    · refine kn_iconst (a := 0) C (by decide) dX4_send_19 ?_
      refine k_op (y := .int (b01 (inR x1 0 3 ∧ inR x2 0 11))) (by rw [b01_f (fun q => c12 q.2)]; rfl) ?_
      refine lv_iload_n C.hx C.hb dX4_send_20 rfl (lv_at hl 3 rfl) ?_
      refine k_callS (Sc := []) (Sr := mW G h ad σ) (As := [.int x3]) (rest := [.int (b01 (inR x1 0 3 ∧ inR x2 0 11)), .ref h]) C (ctX4_isWord l G x3) hW29 q2566 q2567 q85 q2568 rfl ⟨by decide, by decide, Eq.trans (b := some 1) (by decide +kernel) rfl⟩ (Nat.le_of_ble_eq_true rfl) (Nat.le_of_ble_eq_true rfl) (Nat.le_refl _) (Nat.le_refl _) hl.1 rfl (Nat.le_of_ble_eq_true rfl) dX4_send_21 (k_permR _) (fun _ h => h.elim) (fun v H30 locs30 S1 hQ hz30 hW30 => ?_)
      obtain ⟨rfl, rfl⟩ := hQ
      have hW30 : Ws G A s (mW G h ad σ) H30 locs30 := hW30
      clear hW29
      refine W.eq (g2 := F0 m 24 ls [.int (b01 (inR x3 0 3)), .int (b01 (inR x1 0 3 ∧ inR x2 0 11)), .ref h]) rfl ?_
      refine lv_aload_n C.hx C.hb dX4_send_24 rfl (lv_at hl 0 rfl) ?_
      refine k_get (v := .int (nI (σ 36 0))) C clX4 (hW30.get 0 0 rfl rfl) 36 (Nat.le_of_ble_eq_true rfl) rfl q2360 rfl rfl dX4_send_25 ?_
      refine kn_bipush (a := 60) C (by decide) dX4_send_28 ?_
      refine kn_icmp_ge (tgt := 37) C (Nat.lt_of_lt_of_le (hB.lt 36 (by decide) 0) (by decide)) (by decide) dX4_send_30 (by decide) (fun c30 => ?_) (fun c30 => ?_)
      · refine kn_iconst (a := 0) C (by decide) dX4_send_37 ?_
        refine k_op (y := .int (b01 (σ 36 0 < 60))) (by rw [b01_f (by omega)]; rfl) ?_
        refine k_callV (Sc := mW G h ad σ) (Sr := []) (As := [.int (b01 (inR x1 0 3 ∧ inR x2 0 11)), .int (b01 (inR x3 0 3)), .int (b01 (σ 36 0 < 60))]) (rest := []) C (ctX4_goesAll l G h ad σ (inR x1 0 3 ∧ inR x2 0 11) (inR x3 0 3) (σ 36 0 < 60) hS) hW30 clX4 (hW30.get 0 0 rfl rfl) q2540 q2542 qs59 q85 q2543 rfl rfl ⟨by decide, by decide, Eq.trans (b := some 3) (by decide +kernel) rfl⟩ (Nat.le_of_ble_eq_true rfl) (Nat.le_of_ble_eq_true rfl) (Nat.le_refl _) (Nat.le_refl _) hl.1 rfl (Nat.le_of_ble_eq_true rfl) dX4_send_38 (List.Perm.refl _) (fun _ h => h.elim) (fun v H31 locs31 S1 hQ hz31 hW31 => ?_)
        obtain ⟨rfl, rfl⟩ := hQ
        have hW31 : Ws G A s (mW G h ad (s2 σ 37 0 (c3_ (inR x1 0 3 ∧ inR x2 0 11) (inR x3 0 3) (σ 36 0 < 60)))) H31 locs31 := hW31
        clear hW30
        refine W.eq (g2 := F0 m 41 ls [.int (b01 ((inR x1 0 3 ∧ inR x2 0 11) ∧ (inR x3 0 3) ∧ (σ 36 0 < 60)))]) rfl ?_
        refine kb_if_ne (tgt := 46) C dX4_send_41 (by decide) (fun c41 => ?_) (fun c41 => ?_)
        · have hc : (c3_ (inR x1 0 3 ∧ inR x2 0 11) (inR x3 0 3) (σ 36 0 < 60)) = 0 := c3_0 c41
          rw [hc] at hW31
          obtain ⟨hx32, hy32, hz32⟩ := iN_eq (a := 0) (b := 3) (by decide) c41.1.1
          have hl32 : lv_has ls 6 [(0, .ref h), (1, .int (nI (iN x1))), (2, .int x2), (3, .int x3)] := by rw [← hx32]; exact hl
          obtain ⟨hx33, hy33, hz33⟩ := iN_eq (a := 0) (b := 11) (by decide) c41.1.2
          have hl33 : lv_has ls 6 [(0, .ref h), (1, .int (nI (iN x1))), (2, .int (nI (iN x2))), (3, .int x3)] := by rw [← hx33]; exact hl32
          obtain ⟨hx34, hy34, hz34⟩ := iN_eq (a := 0) (b := 3) (by decide) c41.2.1
          have hl34 : lv_has ls 6 [(0, .ref h), (1, .int (nI (iN x1))), (2, .int (nI (iN x2))), (3, .int (nI (iN x3)))] := by rw [← hx34]; exact hl33
          have h60 : σ 36 0 < 60 := c41.2.2
          have h1b : ∀ j, σ 1 j < 21 := fun j => hB.lt 1 (by decide) j
          have h1c := h1b (iN x1)
          refine lv_aload_n C.hx C.hb dX4_send_46 rfl (lv_at hl34 0 rfl) ?_
          refine k_get (v := .int (nI (σ 36 0))) C clX4 (hW31.get 0 0 rfl rfl) 36 (Nat.le_of_ble_eq_true rfl) rfl q2360 rfl rfl dX4_send_47 ?_
          refine lv_istore (lv' := [(4, .int (nI (σ 36 0))), (0, .ref h), (1, .int (nI (iN x1))), (2, .int (nI (iN x2))), (3, .int (nI (iN x3)))]) C.hx C.hb dX4_send_50 hl34 (Nat.le_of_ble_eq_true rfl) rfl (fun ls35 hl35 => ?_)
          clear hl34
          refine lv_aload_n C.hx C.hb dX4_send_52 rfl (lv_at hl35 1 rfl) ?_
          refine lv_dup C.hx C.hb dX4_send_53 rfl ?_
          refine k_get (v := .int (nI (σ 36 0))) C clX4 (hW31.get 0 0 rfl rfl) 36 (Nat.le_of_ble_eq_true rfl) rfl q2360 rfl rfl dX4_send_54 ?_
          refine kn_iconst (a := 1) C (by decide) dX4_send_57 ?_
          refine kn_iadd C  dX4_send_58 ?_
          refine k_put (S' := mW G h ad (s2 (s2 σ 37 0 0) 36 0 ((σ 36 0) + 1))) C clX4 hW31 0 0 rfl rfl 36 (Nat.le_of_ble_eq_true rfl) rfl q2360 rfl (fun _ h => h) (Or.inl rfl) (fty := .int) (v := .int (nI ((σ 36 0) + 1))) (by decide +kernel) rfl rfl (Nat.le_of_ble_eq_true rfl) dX4_send_59 (mput36 G h ad _ _) (fun H36 locs36 hW36 => ?_)
          clear hW31
          refine lv_aload_n C.hx C.hb dX4_send_62 rfl (lv_at hl35 1 rfl) ?_
          refine k_get (v := .ref (ad 17)) C clX4 (hW36.get 0 0 rfl rfl) 17 (Nat.le_of_ble_eq_true rfl) rfl q2341 rfl rfl dX4_send_63 ?_
          refine lv_iload C.hx C.hb dX4_send_66 (lv_at hl35 0 rfl) ?_
          refine lv_iload_n C.hx C.hb dX4_send_68 rfl (lv_at hl35 2 rfl) ?_
          refine k_iast (S' := mW G h ad (s2 (s2 (s2 σ 37 0 0) 36 0 ((σ 36 0) + 1)) 17 (σ 36 0) (iN x1))) C hW36 18 0 rfl rfl rfl (by have : σ 36 0 < 61 := hB.lt 36 (by decide) 0; omega) (by decide) dX4_send_69 (mset17 G h ad _ (σ 36 0) (iN x1)) (fun H37 locs37 hW37 => ?_)
          clear hW36
          refine lv_aload_n C.hx C.hb dX4_send_70 rfl (lv_at hl35 1 rfl) ?_
          refine k_get (v := .ref (ad 18)) C clX4 (hW37.get 0 0 rfl rfl) 18 (Nat.le_of_ble_eq_true rfl) rfl q2342 rfl rfl dX4_send_71 ?_
          refine lv_iload C.hx C.hb dX4_send_74 (lv_at hl35 0 rfl) ?_
          refine lv_iload_n C.hx C.hb dX4_send_76 rfl (lv_at hl35 3 rfl) ?_
          refine k_iast (S' := mW G h ad (s2 (s2 (s2 (s2 σ 37 0 0) 36 0 ((σ 36 0) + 1)) 17 (σ 36 0) (iN x1)) 18 (σ 36 0) (iN x2))) C hW37 19 0 rfl rfl rfl (by have : σ 36 0 < 61 := hB.lt 36 (by decide) 0; omega) (by decide) dX4_send_77 (mset18 G h ad _ (σ 36 0) (iN x2)) (fun H38 locs38 hW38 => ?_)
          clear hW37
          refine lv_aload_n C.hx C.hb dX4_send_78 rfl (lv_at hl35 1 rfl) ?_
          refine k_get (v := .ref (ad 19)) C clX4 (hW38.get 0 0 rfl rfl) 19 (Nat.le_of_ble_eq_true rfl) rfl q2343 rfl rfl dX4_send_79 ?_
          refine lv_iload C.hx C.hb dX4_send_82 (lv_at hl35 0 rfl) ?_
          refine lv_iload_n C.hx C.hb dX4_send_84 rfl (lv_at hl35 4 rfl) ?_
          refine k_iast (S' := mW G h ad (s2 (s2 (s2 (s2 (s2 σ 37 0 0) 36 0 ((σ 36 0) + 1)) 17 (σ 36 0) (iN x1)) 18 (σ 36 0) (iN x2)) 19 (σ 36 0) (iN x3))) C hW38 20 0 rfl rfl rfl (by have : σ 36 0 < 61 := hB.lt 36 (by decide) 0; omega) (by decide) dX4_send_85 (mset19 G h ad _ (σ 36 0) (iN x3)) (fun H39 locs39 hW39 => ?_)
          clear hW38
          refine lv_aload_n C.hx C.hb dX4_send_86 rfl (lv_at hl35 1 rfl) ?_
          refine k_get (v := .ref (ad 20)) C clX4 (hW39.get 0 0 rfl rfl) 20 (Nat.le_of_ble_eq_true rfl) rfl q2344 rfl rfl dX4_send_87 ?_
          refine lv_iload C.hx C.hb dX4_send_90 (lv_at hl35 0 rfl) ?_
          refine lv_aload_n C.hx C.hb dX4_send_92 rfl (lv_at hl35 1 rfl) ?_
          refine k_get (v := .int (nI (σ 30 0))) C clX4 (hW39.get 0 0 rfl rfl) 30 (Nat.le_of_ble_eq_true rfl) rfl q2354 rfl rfl dX4_send_93 ?_
          refine k_iast (S' := mW G h ad (s2 (s2 (s2 (s2 (s2 (s2 σ 37 0 0) 36 0 ((σ 36 0) + 1)) 17 (σ 36 0) (iN x1)) 18 (σ 36 0) (iN x2)) 19 (σ 36 0) (iN x3)) 20 (σ 36 0) (σ 30 0))) C hW39 21 0 rfl rfl rfl (by have : σ 36 0 < 61 := hB.lt 36 (by decide) 0; omega) (by decide) dX4_send_96 (mset20 G h ad _ (σ 36 0) (σ 30 0)) (fun H40 locs40 hW40 => ?_)
          clear hW39
          refine lv_aload_n C.hx C.hb dX4_send_97 rfl (lv_at hl35 1 rfl) ?_
          refine k_get (v := .ref (ad 21)) C clX4 (hW40.get 0 0 rfl rfl) 21 (Nat.le_of_ble_eq_true rfl) rfl q2345 rfl rfl dX4_send_98 ?_
          refine lv_iload C.hx C.hb dX4_send_101 (lv_at hl35 0 rfl) ?_
          refine lv_aload_n C.hx C.hb dX4_send_103 rfl (lv_at hl35 1 rfl) ?_
          refine k_get (v := .int (nI (σ 30 0))) C clX4 (hW40.get 0 0 rfl rfl) 30 (Nat.le_of_ble_eq_true rfl) rfl q2354 rfl rfl dX4_send_104 ?_
          refine lv_aload_n C.hx C.hb dX4_send_107 rfl (lv_at hl35 1 rfl) ?_
          refine k_get (v := .ref (ad 1)) C clX4 (hW40.get 0 0 rfl rfl) 1 (Nat.le_of_ble_eq_true rfl) rfl q2325 rfl rfl dX4_send_108 ?_
          refine lv_iload_n C.hx C.hb dX4_send_111 rfl (lv_at hl35 2 rfl) ?_
          refine k_iald C (f := (fun i => nI ((s2 (s2 (s2 (s2 (s2 (s2 σ 37 0 0) 36 0 ((σ 36 0) + 1)) 17 (σ 36 0) (iN x1)) 18 (σ 36 0) (iN x2)) 19 (σ 36 0) (iN x3)) 20 (σ 36 0) (σ 30 0)) 1 i))) rfl (hW40.get 2 0 rfl rfl) (by omega) (by decide) dX4_send_112 ?_
          refine k_op (y := .int (nI (σ 1 (iN x1)))) (by simp [s2_rd]) ?_
          refine kn_iadd C  dX4_send_113 ?_
          refine k_iast (S' := mW G h ad (s2 (s2 (s2 (s2 (s2 (s2 (s2 σ 37 0 0) 36 0 ((σ 36 0) + 1)) 17 (σ 36 0) (iN x1)) 18 (σ 36 0) (iN x2)) 19 (σ 36 0) (iN x3)) 20 (σ 36 0) (σ 30 0)) 21 (σ 36 0) ((σ 30 0) + (σ 1 (iN x1))))) C hW40 22 0 rfl rfl rfl (by have : σ 36 0 < 61 := hB.lt 36 (by decide) 0; omega) (by decide) dX4_send_114 (mset21 G h ad _ (σ 36 0) ((σ 30 0) + (σ 1 (iN x1)))) (fun H41 locs41 hW41 => ?_)
          clear hW40
          refine lv_aload_n C.hx C.hb dX4_send_115 rfl (lv_at hl35 1 rfl) ?_
          refine lv_aload_n C.hx C.hb dX4_send_116 rfl (lv_at hl35 1 rfl) ?_
          refine k_get (v := .ref (ad 21)) C clX4 (hW41.get 0 0 rfl rfl) 21 (Nat.le_of_ble_eq_true rfl) rfl q2345 rfl rfl dX4_send_117 ?_
          refine lv_iload C.hx C.hb dX4_send_120 (lv_at hl35 0 rfl) ?_
          refine k_iald C (f := (fun i => nI ((s2 (s2 (s2 (s2 (s2 (s2 (s2 σ 37 0 0) 36 0 ((σ 36 0) + 1)) 17 (σ 36 0) (iN x1)) 18 (σ 36 0) (iN x2)) 19 (σ 36 0) (iN x3)) 20 (σ 36 0) (σ 30 0)) 21 (σ 36 0) ((σ 30 0) + (σ 1 (iN x1)))) 21 i))) rfl (hW41.get 22 0 rfl rfl) (by have : σ 36 0 < 61 := hB.lt 36 (by decide) 0; omega) (by decide) dX4_send_122 ?_
          refine k_op (y := .int (nI ((σ 30 0) + (σ 1 (iN x1))))) (by simp [s2_rd]) ?_
          refine kn_iconst (a := 2) C (by decide) dX4_send_123 ?_
          refine lv_iload C.hx C.hb dX4_send_124 (lv_at hl35 0 rfl) ?_
          have hSs : Sf (s2 (s2 (s2 (s2 (s2 (s2 (s2 σ 37 0 0) 36 0 ((σ 36 0) + 1)) 17 (σ 36 0) (iN x1)) 18 (σ 36 0) (iN x2)) 19 (σ 36 0) (iN x3)) 20 (σ 36 0) (σ 30 0)) 21 (σ 36 0) ((σ 30 0) + (σ 1 (iN x1)))) := (((((((hS.s2o (f := 37) (by decide) (Or.inr (by decide))).s2o (f := 36) (by decide) (Or.inr (by show _ < 61; omega))).s2o (f := 17) (by decide) (Or.inr (by show _ < 4; omega))).s2o (f := 18) (by decide) (Or.inr (by show _ < 12; omega))).s2o (f := 19) (by decide) (Or.inr (by show _ < 4; omega))).s2o (f := 20) (by decide) (Or.inr (by show _ < 5001; omega))).s2o (f := 21) (by decide) (Or.inr (by show _ < 5101; omega)))
          refine k_callV (Sc := mW G h ad (s2 (s2 (s2 (s2 (s2 (s2 (s2 σ 37 0 0) 36 0 ((σ 36 0) + 1)) 17 (σ 36 0) (iN x1)) 18 (σ 36 0) (iN x2)) 19 (σ 36 0) (iN x3)) 20 (σ 36 0) (σ 30 0)) 21 (σ 36 0) ((σ 30 0) + (σ 1 (iN x1))))) (Sr := []) (As := [.int (nI ((σ 30 0) + (σ 1 (iN x1)))), .int (nI 2), .int (nI (σ 36 0))]) (rest := []) C (ctX4_comes l G h ad (s2 (s2 (s2 (s2 (s2 (s2 (s2 σ 37 0 0) 36 0 ((σ 36 0) + 1)) 17 (σ 36 0) (iN x1)) 18 (σ 36 0) (iN x2)) 19 (σ 36 0) (iN x3)) 20 (σ 36 0) (σ 30 0)) 21 (σ 36 0) ((σ 30 0) + (σ 1 (iN x1)))) (σ 30 0 + σ 1 (iN x1)) 2 (σ 36 0) hSs he) hW41 clX4 (hW41.get 0 0 rfl rfl) q2477 q2479 qs53 q85 q2480 rfl rfl ⟨by decide, by decide, Eq.trans (b := some 3) (by decide +kernel) rfl⟩ (Nat.le_of_ble_eq_true rfl) (Nat.le_of_ble_eq_true rfl) (Nat.le_refl _) (Nat.le_refl _) hl35.1 rfl (Nat.le_of_ble_eq_true rfl) dX4_send_126 (List.Perm.refl _) (fun _ h => h.elim) (fun v H42 locs42 S1 hQ hz42 hW42 => ?_)
          obtain ⟨rfl, rfl⟩ := hQ
          have hW42 : Ws G A s (mW G h ad (comesF (s2 (s2 (s2 (s2 (s2 (s2 (s2 σ 37 0 0) 36 0 ((σ 36 0) + 1)) 17 (σ 36 0) (iN x1)) 18 (σ 36 0) (iN x2)) 19 (σ 36 0) (iN x3)) 20 (σ 36 0) (σ 30 0)) 21 (σ 36 0) ((σ 30 0) + (σ 1 (iN x1)))) (σ 30 0 + σ 1 (iN x1)) 2 (σ 36 0))) H42 locs42 := hW42
          clear hW41
          refine W.eq (g2 := F0 m 129 ls35 [.int (nI (σ 34 0))]) rfl ?_
          refine lv_istore (lv' := [(5, .int (nI (σ 34 0))), (4, .int (nI (σ 36 0))), (0, .ref h), (1, .int (nI (iN x1))), (2, .int (nI (iN x2))), (3, .int (nI (iN x3)))]) C.hx C.hb dX4_send_129 hl35 (Nat.le_of_ble_eq_true rfl) rfl (fun ls43 hl43 => ?_)
          clear hl35
          refine lv_iload C.hx C.hb dX4_send_131 (lv_at hl43 1 rfl) ?_
          exact k_iret C hW42 rfl ⟨by rw [if_pos (show cSend σ x1 x2 x3 = 0 from hc)], by rw [if_pos (show cSend σ x1 x2 x3 = 0 from hc)]; rfl⟩ (Nat.le_refl _) (Nat.le_refl _) dX4_send_133
        · have hc : ¬ (c3_ (inR x1 0 3 ∧ inR x2 0 11) (inR x3 0 3) (σ 36 0 < 60)) = 0 := c3_n c41
          refine kn_iconst (a := 0) C (by decide) dX4_send_44 ?_
          exact k_iret C hW31 rfl ⟨by rw [if_neg (show ¬ cSend σ x1 x2 x3 = 0 from hc)], by rw [if_neg (show ¬ cSend σ x1 x2 x3 = 0 from hc)]; rfl⟩ (Nat.le_refl _) (Nat.le_refl _) dX4_send_45
      · refine kn_iconst (a := 1) C (by decide) dX4_send_33 ?_
        refine lv_goto (tgt := 38) C.hx C.hb dX4_send_34 (by decide) ?_
        refine k_op (y := .int (b01 (σ 36 0 < 60))) (by rw [b01_t (by omega)]; rfl) ?_
        refine k_callV (Sc := mW G h ad σ) (Sr := []) (As := [.int (b01 (inR x1 0 3 ∧ inR x2 0 11)), .int (b01 (inR x3 0 3)), .int (b01 (σ 36 0 < 60))]) (rest := []) C (ctX4_goesAll l G h ad σ (inR x1 0 3 ∧ inR x2 0 11) (inR x3 0 3) (σ 36 0 < 60) hS) hW30 clX4 (hW30.get 0 0 rfl rfl) q2540 q2542 qs59 q85 q2543 rfl rfl ⟨by decide, by decide, Eq.trans (b := some 3) (by decide +kernel) rfl⟩ (Nat.le_of_ble_eq_true rfl) (Nat.le_of_ble_eq_true rfl) (Nat.le_refl _) (Nat.le_refl _) hl.1 rfl (Nat.le_of_ble_eq_true rfl) dX4_send_38 (List.Perm.refl _) (fun _ h => h.elim) (fun v H44 locs44 S1 hQ hz44 hW44 => ?_)
        obtain ⟨rfl, rfl⟩ := hQ
        have hW44 : Ws G A s (mW G h ad (s2 σ 37 0 (c3_ (inR x1 0 3 ∧ inR x2 0 11) (inR x3 0 3) (σ 36 0 < 60)))) H44 locs44 := hW44
        clear hW30
        refine W.eq (g2 := F0 m 41 ls [.int (b01 ((inR x1 0 3 ∧ inR x2 0 11) ∧ (inR x3 0 3) ∧ (σ 36 0 < 60)))]) rfl ?_
        refine kb_if_ne (tgt := 46) C dX4_send_41 (by decide) (fun c41 => ?_) (fun c41 => ?_)
        · have hc : (c3_ (inR x1 0 3 ∧ inR x2 0 11) (inR x3 0 3) (σ 36 0 < 60)) = 0 := c3_0 c41
          rw [hc] at hW44
          obtain ⟨hx45, hy45, hz45⟩ := iN_eq (a := 0) (b := 3) (by decide) c41.1.1
          have hl45 : lv_has ls 6 [(0, .ref h), (1, .int (nI (iN x1))), (2, .int x2), (3, .int x3)] := by rw [← hx45]; exact hl
          obtain ⟨hx46, hy46, hz46⟩ := iN_eq (a := 0) (b := 11) (by decide) c41.1.2
          have hl46 : lv_has ls 6 [(0, .ref h), (1, .int (nI (iN x1))), (2, .int (nI (iN x2))), (3, .int x3)] := by rw [← hx46]; exact hl45
          obtain ⟨hx47, hy47, hz47⟩ := iN_eq (a := 0) (b := 3) (by decide) c41.2.1
          have hl47 : lv_has ls 6 [(0, .ref h), (1, .int (nI (iN x1))), (2, .int (nI (iN x2))), (3, .int (nI (iN x3)))] := by rw [← hx47]; exact hl46
          have h60 : σ 36 0 < 60 := c41.2.2
          have h1b : ∀ j, σ 1 j < 21 := fun j => hB.lt 1 (by decide) j
          have h1c := h1b (iN x1)
          refine lv_aload_n C.hx C.hb dX4_send_46 rfl (lv_at hl47 0 rfl) ?_
          refine k_get (v := .int (nI (σ 36 0))) C clX4 (hW44.get 0 0 rfl rfl) 36 (Nat.le_of_ble_eq_true rfl) rfl q2360 rfl rfl dX4_send_47 ?_
          refine lv_istore (lv' := [(4, .int (nI (σ 36 0))), (0, .ref h), (1, .int (nI (iN x1))), (2, .int (nI (iN x2))), (3, .int (nI (iN x3)))]) C.hx C.hb dX4_send_50 hl47 (Nat.le_of_ble_eq_true rfl) rfl (fun ls48 hl48 => ?_)
          clear hl47
          refine lv_aload_n C.hx C.hb dX4_send_52 rfl (lv_at hl48 1 rfl) ?_
          refine lv_dup C.hx C.hb dX4_send_53 rfl ?_
          refine k_get (v := .int (nI (σ 36 0))) C clX4 (hW44.get 0 0 rfl rfl) 36 (Nat.le_of_ble_eq_true rfl) rfl q2360 rfl rfl dX4_send_54 ?_
          refine kn_iconst (a := 1) C (by decide) dX4_send_57 ?_
          refine kn_iadd C  dX4_send_58 ?_
          refine k_put (S' := mW G h ad (s2 (s2 σ 37 0 0) 36 0 ((σ 36 0) + 1))) C clX4 hW44 0 0 rfl rfl 36 (Nat.le_of_ble_eq_true rfl) rfl q2360 rfl (fun _ h => h) (Or.inl rfl) (fty := .int) (v := .int (nI ((σ 36 0) + 1))) (by decide +kernel) rfl rfl (Nat.le_of_ble_eq_true rfl) dX4_send_59 (mput36 G h ad _ _) (fun H49 locs49 hW49 => ?_)
          clear hW44
          refine lv_aload_n C.hx C.hb dX4_send_62 rfl (lv_at hl48 1 rfl) ?_
          refine k_get (v := .ref (ad 17)) C clX4 (hW49.get 0 0 rfl rfl) 17 (Nat.le_of_ble_eq_true rfl) rfl q2341 rfl rfl dX4_send_63 ?_
          refine lv_iload C.hx C.hb dX4_send_66 (lv_at hl48 0 rfl) ?_
          refine lv_iload_n C.hx C.hb dX4_send_68 rfl (lv_at hl48 2 rfl) ?_
          refine k_iast (S' := mW G h ad (s2 (s2 (s2 σ 37 0 0) 36 0 ((σ 36 0) + 1)) 17 (σ 36 0) (iN x1))) C hW49 18 0 rfl rfl rfl (by have : σ 36 0 < 61 := hB.lt 36 (by decide) 0; omega) (by decide) dX4_send_69 (mset17 G h ad _ (σ 36 0) (iN x1)) (fun H50 locs50 hW50 => ?_)
          clear hW49
          refine lv_aload_n C.hx C.hb dX4_send_70 rfl (lv_at hl48 1 rfl) ?_
          refine k_get (v := .ref (ad 18)) C clX4 (hW50.get 0 0 rfl rfl) 18 (Nat.le_of_ble_eq_true rfl) rfl q2342 rfl rfl dX4_send_71 ?_
          refine lv_iload C.hx C.hb dX4_send_74 (lv_at hl48 0 rfl) ?_
          refine lv_iload_n C.hx C.hb dX4_send_76 rfl (lv_at hl48 3 rfl) ?_
          refine k_iast (S' := mW G h ad (s2 (s2 (s2 (s2 σ 37 0 0) 36 0 ((σ 36 0) + 1)) 17 (σ 36 0) (iN x1)) 18 (σ 36 0) (iN x2))) C hW50 19 0 rfl rfl rfl (by have : σ 36 0 < 61 := hB.lt 36 (by decide) 0; omega) (by decide) dX4_send_77 (mset18 G h ad _ (σ 36 0) (iN x2)) (fun H51 locs51 hW51 => ?_)
          clear hW50
          refine lv_aload_n C.hx C.hb dX4_send_78 rfl (lv_at hl48 1 rfl) ?_
          refine k_get (v := .ref (ad 19)) C clX4 (hW51.get 0 0 rfl rfl) 19 (Nat.le_of_ble_eq_true rfl) rfl q2343 rfl rfl dX4_send_79 ?_
          refine lv_iload C.hx C.hb dX4_send_82 (lv_at hl48 0 rfl) ?_
          refine lv_iload_n C.hx C.hb dX4_send_84 rfl (lv_at hl48 4 rfl) ?_
          refine k_iast (S' := mW G h ad (s2 (s2 (s2 (s2 (s2 σ 37 0 0) 36 0 ((σ 36 0) + 1)) 17 (σ 36 0) (iN x1)) 18 (σ 36 0) (iN x2)) 19 (σ 36 0) (iN x3))) C hW51 20 0 rfl rfl rfl (by have : σ 36 0 < 61 := hB.lt 36 (by decide) 0; omega) (by decide) dX4_send_85 (mset19 G h ad _ (σ 36 0) (iN x3)) (fun H52 locs52 hW52 => ?_)
          clear hW51
          refine lv_aload_n C.hx C.hb dX4_send_86 rfl (lv_at hl48 1 rfl) ?_
          refine k_get (v := .ref (ad 20)) C clX4 (hW52.get 0 0 rfl rfl) 20 (Nat.le_of_ble_eq_true rfl) rfl q2344 rfl rfl dX4_send_87 ?_
          refine lv_iload C.hx C.hb dX4_send_90 (lv_at hl48 0 rfl) ?_
          refine lv_aload_n C.hx C.hb dX4_send_92 rfl (lv_at hl48 1 rfl) ?_
          refine k_get (v := .int (nI (σ 30 0))) C clX4 (hW52.get 0 0 rfl rfl) 30 (Nat.le_of_ble_eq_true rfl) rfl q2354 rfl rfl dX4_send_93 ?_
          refine k_iast (S' := mW G h ad (s2 (s2 (s2 (s2 (s2 (s2 σ 37 0 0) 36 0 ((σ 36 0) + 1)) 17 (σ 36 0) (iN x1)) 18 (σ 36 0) (iN x2)) 19 (σ 36 0) (iN x3)) 20 (σ 36 0) (σ 30 0))) C hW52 21 0 rfl rfl rfl (by have : σ 36 0 < 61 := hB.lt 36 (by decide) 0; omega) (by decide) dX4_send_96 (mset20 G h ad _ (σ 36 0) (σ 30 0)) (fun H53 locs53 hW53 => ?_)
          clear hW52
          refine lv_aload_n C.hx C.hb dX4_send_97 rfl (lv_at hl48 1 rfl) ?_
          refine k_get (v := .ref (ad 21)) C clX4 (hW53.get 0 0 rfl rfl) 21 (Nat.le_of_ble_eq_true rfl) rfl q2345 rfl rfl dX4_send_98 ?_
          refine lv_iload C.hx C.hb dX4_send_101 (lv_at hl48 0 rfl) ?_
          refine lv_aload_n C.hx C.hb dX4_send_103 rfl (lv_at hl48 1 rfl) ?_
          refine k_get (v := .int (nI (σ 30 0))) C clX4 (hW53.get 0 0 rfl rfl) 30 (Nat.le_of_ble_eq_true rfl) rfl q2354 rfl rfl dX4_send_104 ?_
          refine lv_aload_n C.hx C.hb dX4_send_107 rfl (lv_at hl48 1 rfl) ?_
          refine k_get (v := .ref (ad 1)) C clX4 (hW53.get 0 0 rfl rfl) 1 (Nat.le_of_ble_eq_true rfl) rfl q2325 rfl rfl dX4_send_108 ?_
          refine lv_iload_n C.hx C.hb dX4_send_111 rfl (lv_at hl48 2 rfl) ?_
          refine k_iald C (f := (fun i => nI ((s2 (s2 (s2 (s2 (s2 (s2 σ 37 0 0) 36 0 ((σ 36 0) + 1)) 17 (σ 36 0) (iN x1)) 18 (σ 36 0) (iN x2)) 19 (σ 36 0) (iN x3)) 20 (σ 36 0) (σ 30 0)) 1 i))) rfl (hW53.get 2 0 rfl rfl) (by omega) (by decide) dX4_send_112 ?_
          refine k_op (y := .int (nI (σ 1 (iN x1)))) (by simp [s2_rd]) ?_
          refine kn_iadd C  dX4_send_113 ?_
          refine k_iast (S' := mW G h ad (s2 (s2 (s2 (s2 (s2 (s2 (s2 σ 37 0 0) 36 0 ((σ 36 0) + 1)) 17 (σ 36 0) (iN x1)) 18 (σ 36 0) (iN x2)) 19 (σ 36 0) (iN x3)) 20 (σ 36 0) (σ 30 0)) 21 (σ 36 0) ((σ 30 0) + (σ 1 (iN x1))))) C hW53 22 0 rfl rfl rfl (by have : σ 36 0 < 61 := hB.lt 36 (by decide) 0; omega) (by decide) dX4_send_114 (mset21 G h ad _ (σ 36 0) ((σ 30 0) + (σ 1 (iN x1)))) (fun H54 locs54 hW54 => ?_)
          clear hW53
          refine lv_aload_n C.hx C.hb dX4_send_115 rfl (lv_at hl48 1 rfl) ?_
          refine lv_aload_n C.hx C.hb dX4_send_116 rfl (lv_at hl48 1 rfl) ?_
          refine k_get (v := .ref (ad 21)) C clX4 (hW54.get 0 0 rfl rfl) 21 (Nat.le_of_ble_eq_true rfl) rfl q2345 rfl rfl dX4_send_117 ?_
          refine lv_iload C.hx C.hb dX4_send_120 (lv_at hl48 0 rfl) ?_
          refine k_iald C (f := (fun i => nI ((s2 (s2 (s2 (s2 (s2 (s2 (s2 σ 37 0 0) 36 0 ((σ 36 0) + 1)) 17 (σ 36 0) (iN x1)) 18 (σ 36 0) (iN x2)) 19 (σ 36 0) (iN x3)) 20 (σ 36 0) (σ 30 0)) 21 (σ 36 0) ((σ 30 0) + (σ 1 (iN x1)))) 21 i))) rfl (hW54.get 22 0 rfl rfl) (by have : σ 36 0 < 61 := hB.lt 36 (by decide) 0; omega) (by decide) dX4_send_122 ?_
          refine k_op (y := .int (nI ((σ 30 0) + (σ 1 (iN x1))))) (by simp [s2_rd]) ?_
          refine kn_iconst (a := 2) C (by decide) dX4_send_123 ?_
          refine lv_iload C.hx C.hb dX4_send_124 (lv_at hl48 0 rfl) ?_
          have hSs : Sf (s2 (s2 (s2 (s2 (s2 (s2 (s2 σ 37 0 0) 36 0 ((σ 36 0) + 1)) 17 (σ 36 0) (iN x1)) 18 (σ 36 0) (iN x2)) 19 (σ 36 0) (iN x3)) 20 (σ 36 0) (σ 30 0)) 21 (σ 36 0) ((σ 30 0) + (σ 1 (iN x1)))) := (((((((hS.s2o (f := 37) (by decide) (Or.inr (by decide))).s2o (f := 36) (by decide) (Or.inr (by show _ < 61; omega))).s2o (f := 17) (by decide) (Or.inr (by show _ < 4; omega))).s2o (f := 18) (by decide) (Or.inr (by show _ < 12; omega))).s2o (f := 19) (by decide) (Or.inr (by show _ < 4; omega))).s2o (f := 20) (by decide) (Or.inr (by show _ < 5001; omega))).s2o (f := 21) (by decide) (Or.inr (by show _ < 5101; omega)))
          refine k_callV (Sc := mW G h ad (s2 (s2 (s2 (s2 (s2 (s2 (s2 σ 37 0 0) 36 0 ((σ 36 0) + 1)) 17 (σ 36 0) (iN x1)) 18 (σ 36 0) (iN x2)) 19 (σ 36 0) (iN x3)) 20 (σ 36 0) (σ 30 0)) 21 (σ 36 0) ((σ 30 0) + (σ 1 (iN x1))))) (Sr := []) (As := [.int (nI ((σ 30 0) + (σ 1 (iN x1)))), .int (nI 2), .int (nI (σ 36 0))]) (rest := []) C (ctX4_comes l G h ad (s2 (s2 (s2 (s2 (s2 (s2 (s2 σ 37 0 0) 36 0 ((σ 36 0) + 1)) 17 (σ 36 0) (iN x1)) 18 (σ 36 0) (iN x2)) 19 (σ 36 0) (iN x3)) 20 (σ 36 0) (σ 30 0)) 21 (σ 36 0) ((σ 30 0) + (σ 1 (iN x1)))) (σ 30 0 + σ 1 (iN x1)) 2 (σ 36 0) hSs he) hW54 clX4 (hW54.get 0 0 rfl rfl) q2477 q2479 qs53 q85 q2480 rfl rfl ⟨by decide, by decide, Eq.trans (b := some 3) (by decide +kernel) rfl⟩ (Nat.le_of_ble_eq_true rfl) (Nat.le_of_ble_eq_true rfl) (Nat.le_refl _) (Nat.le_refl _) hl48.1 rfl (Nat.le_of_ble_eq_true rfl) dX4_send_126 (List.Perm.refl _) (fun _ h => h.elim) (fun v H55 locs55 S1 hQ hz55 hW55 => ?_)
          obtain ⟨rfl, rfl⟩ := hQ
          have hW55 : Ws G A s (mW G h ad (comesF (s2 (s2 (s2 (s2 (s2 (s2 (s2 σ 37 0 0) 36 0 ((σ 36 0) + 1)) 17 (σ 36 0) (iN x1)) 18 (σ 36 0) (iN x2)) 19 (σ 36 0) (iN x3)) 20 (σ 36 0) (σ 30 0)) 21 (σ 36 0) ((σ 30 0) + (σ 1 (iN x1)))) (σ 30 0 + σ 1 (iN x1)) 2 (σ 36 0))) H55 locs55 := hW55
          clear hW54
          refine W.eq (g2 := F0 m 129 ls48 [.int (nI (σ 34 0))]) rfl ?_
          refine lv_istore (lv' := [(5, .int (nI (σ 34 0))), (4, .int (nI (σ 36 0))), (0, .ref h), (1, .int (nI (iN x1))), (2, .int (nI (iN x2))), (3, .int (nI (iN x3)))]) C.hx C.hb dX4_send_129 hl48 (Nat.le_of_ble_eq_true rfl) rfl (fun ls56 hl56 => ?_)
          clear hl48
          refine lv_iload C.hx C.hb dX4_send_131 (lv_at hl56 1 rfl) ?_
          exact k_iret C hW55 rfl ⟨by rw [if_pos (show cSend σ x1 x2 x3 = 0 from hc)], by rw [if_pos (show cSend σ x1 x2 x3 = 0 from hc)]; rfl⟩ (Nat.le_refl _) (Nat.le_refl _) dX4_send_133
        · have hc : ¬ (c3_ (inR x1 0 3 ∧ inR x2 0 11) (inR x3 0 3) (σ 36 0 < 60)) = 0 := c3_n c41
          refine kn_iconst (a := 0) C (by decide) dX4_send_44 ?_
          exact k_iret C hW44 rfl ⟨by rw [if_neg (show ¬ cSend σ x1 x2 x3 = 0 from hc)], by rw [if_neg (show ¬ cSend σ x1 x2 x3 = 0 from hc)]; rfl⟩ (Nat.le_refl _) (Nat.le_refl _) dX4_send_45
    · refine kn_iconst (a := 1) C (by decide) dX4_send_15 ?_
      refine lv_goto (tgt := 20) C.hx C.hb dX4_send_16 (by decide) ?_
      refine k_op (y := .int (b01 (inR x1 0 3 ∧ inR x2 0 11))) (by rw [b01_t ⟨c5, c12⟩]; rfl) ?_
      refine lv_iload_n C.hx C.hb dX4_send_20 rfl (lv_at hl 3 rfl) ?_
      refine k_callS (Sc := []) (Sr := mW G h ad σ) (As := [.int x3]) (rest := [.int (b01 (inR x1 0 3 ∧ inR x2 0 11)), .ref h]) C (ctX4_isWord l G x3) hW29 q2566 q2567 q85 q2568 rfl ⟨by decide, by decide, Eq.trans (b := some 1) (by decide +kernel) rfl⟩ (Nat.le_of_ble_eq_true rfl) (Nat.le_of_ble_eq_true rfl) (Nat.le_refl _) (Nat.le_refl _) hl.1 rfl (Nat.le_of_ble_eq_true rfl) dX4_send_21 (k_permR _) (fun _ h => h.elim) (fun v H57 locs57 S1 hQ hz57 hW57 => ?_)
      obtain ⟨rfl, rfl⟩ := hQ
      have hW57 : Ws G A s (mW G h ad σ) H57 locs57 := hW57
      clear hW29
      refine W.eq (g2 := F0 m 24 ls [.int (b01 (inR x3 0 3)), .int (b01 (inR x1 0 3 ∧ inR x2 0 11)), .ref h]) rfl ?_
      refine lv_aload_n C.hx C.hb dX4_send_24 rfl (lv_at hl 0 rfl) ?_
      refine k_get (v := .int (nI (σ 36 0))) C clX4 (hW57.get 0 0 rfl rfl) 36 (Nat.le_of_ble_eq_true rfl) rfl q2360 rfl rfl dX4_send_25 ?_
      refine kn_bipush (a := 60) C (by decide) dX4_send_28 ?_
      refine kn_icmp_ge (tgt := 37) C (Nat.lt_of_lt_of_le (hB.lt 36 (by decide) 0) (by decide)) (by decide) dX4_send_30 (by decide) (fun c30 => ?_) (fun c30 => ?_)
      · refine kn_iconst (a := 0) C (by decide) dX4_send_37 ?_
        refine k_op (y := .int (b01 (σ 36 0 < 60))) (by rw [b01_f (by omega)]; rfl) ?_
        refine k_callV (Sc := mW G h ad σ) (Sr := []) (As := [.int (b01 (inR x1 0 3 ∧ inR x2 0 11)), .int (b01 (inR x3 0 3)), .int (b01 (σ 36 0 < 60))]) (rest := []) C (ctX4_goesAll l G h ad σ (inR x1 0 3 ∧ inR x2 0 11) (inR x3 0 3) (σ 36 0 < 60) hS) hW57 clX4 (hW57.get 0 0 rfl rfl) q2540 q2542 qs59 q85 q2543 rfl rfl ⟨by decide, by decide, Eq.trans (b := some 3) (by decide +kernel) rfl⟩ (Nat.le_of_ble_eq_true rfl) (Nat.le_of_ble_eq_true rfl) (Nat.le_refl _) (Nat.le_refl _) hl.1 rfl (Nat.le_of_ble_eq_true rfl) dX4_send_38 (List.Perm.refl _) (fun _ h => h.elim) (fun v H58 locs58 S1 hQ hz58 hW58 => ?_)
        obtain ⟨rfl, rfl⟩ := hQ
        have hW58 : Ws G A s (mW G h ad (s2 σ 37 0 (c3_ (inR x1 0 3 ∧ inR x2 0 11) (inR x3 0 3) (σ 36 0 < 60)))) H58 locs58 := hW58
        clear hW57
        refine W.eq (g2 := F0 m 41 ls [.int (b01 ((inR x1 0 3 ∧ inR x2 0 11) ∧ (inR x3 0 3) ∧ (σ 36 0 < 60)))]) rfl ?_
        refine kb_if_ne (tgt := 46) C dX4_send_41 (by decide) (fun c41 => ?_) (fun c41 => ?_)
        · have hc : (c3_ (inR x1 0 3 ∧ inR x2 0 11) (inR x3 0 3) (σ 36 0 < 60)) = 0 := c3_0 c41
          rw [hc] at hW58
          obtain ⟨hx59, hy59, hz59⟩ := iN_eq (a := 0) (b := 3) (by decide) c41.1.1
          have hl59 : lv_has ls 6 [(0, .ref h), (1, .int (nI (iN x1))), (2, .int x2), (3, .int x3)] := by rw [← hx59]; exact hl
          obtain ⟨hx60, hy60, hz60⟩ := iN_eq (a := 0) (b := 11) (by decide) c41.1.2
          have hl60 : lv_has ls 6 [(0, .ref h), (1, .int (nI (iN x1))), (2, .int (nI (iN x2))), (3, .int x3)] := by rw [← hx60]; exact hl59
          obtain ⟨hx61, hy61, hz61⟩ := iN_eq (a := 0) (b := 3) (by decide) c41.2.1
          have hl61 : lv_has ls 6 [(0, .ref h), (1, .int (nI (iN x1))), (2, .int (nI (iN x2))), (3, .int (nI (iN x3)))] := by rw [← hx61]; exact hl60
          have h60 : σ 36 0 < 60 := c41.2.2
          have h1b : ∀ j, σ 1 j < 21 := fun j => hB.lt 1 (by decide) j
          have h1c := h1b (iN x1)
          refine lv_aload_n C.hx C.hb dX4_send_46 rfl (lv_at hl61 0 rfl) ?_
          refine k_get (v := .int (nI (σ 36 0))) C clX4 (hW58.get 0 0 rfl rfl) 36 (Nat.le_of_ble_eq_true rfl) rfl q2360 rfl rfl dX4_send_47 ?_
          refine lv_istore (lv' := [(4, .int (nI (σ 36 0))), (0, .ref h), (1, .int (nI (iN x1))), (2, .int (nI (iN x2))), (3, .int (nI (iN x3)))]) C.hx C.hb dX4_send_50 hl61 (Nat.le_of_ble_eq_true rfl) rfl (fun ls62 hl62 => ?_)
          clear hl61
          refine lv_aload_n C.hx C.hb dX4_send_52 rfl (lv_at hl62 1 rfl) ?_
          refine lv_dup C.hx C.hb dX4_send_53 rfl ?_
          refine k_get (v := .int (nI (σ 36 0))) C clX4 (hW58.get 0 0 rfl rfl) 36 (Nat.le_of_ble_eq_true rfl) rfl q2360 rfl rfl dX4_send_54 ?_
          refine kn_iconst (a := 1) C (by decide) dX4_send_57 ?_
          refine kn_iadd C  dX4_send_58 ?_
          refine k_put (S' := mW G h ad (s2 (s2 σ 37 0 0) 36 0 ((σ 36 0) + 1))) C clX4 hW58 0 0 rfl rfl 36 (Nat.le_of_ble_eq_true rfl) rfl q2360 rfl (fun _ h => h) (Or.inl rfl) (fty := .int) (v := .int (nI ((σ 36 0) + 1))) (by decide +kernel) rfl rfl (Nat.le_of_ble_eq_true rfl) dX4_send_59 (mput36 G h ad _ _) (fun H63 locs63 hW63 => ?_)
          clear hW58
          refine lv_aload_n C.hx C.hb dX4_send_62 rfl (lv_at hl62 1 rfl) ?_
          refine k_get (v := .ref (ad 17)) C clX4 (hW63.get 0 0 rfl rfl) 17 (Nat.le_of_ble_eq_true rfl) rfl q2341 rfl rfl dX4_send_63 ?_
          refine lv_iload C.hx C.hb dX4_send_66 (lv_at hl62 0 rfl) ?_
          refine lv_iload_n C.hx C.hb dX4_send_68 rfl (lv_at hl62 2 rfl) ?_
          refine k_iast (S' := mW G h ad (s2 (s2 (s2 σ 37 0 0) 36 0 ((σ 36 0) + 1)) 17 (σ 36 0) (iN x1))) C hW63 18 0 rfl rfl rfl (by have : σ 36 0 < 61 := hB.lt 36 (by decide) 0; omega) (by decide) dX4_send_69 (mset17 G h ad _ (σ 36 0) (iN x1)) (fun H64 locs64 hW64 => ?_)
          clear hW63
          refine lv_aload_n C.hx C.hb dX4_send_70 rfl (lv_at hl62 1 rfl) ?_
          refine k_get (v := .ref (ad 18)) C clX4 (hW64.get 0 0 rfl rfl) 18 (Nat.le_of_ble_eq_true rfl) rfl q2342 rfl rfl dX4_send_71 ?_
          refine lv_iload C.hx C.hb dX4_send_74 (lv_at hl62 0 rfl) ?_
          refine lv_iload_n C.hx C.hb dX4_send_76 rfl (lv_at hl62 3 rfl) ?_
          refine k_iast (S' := mW G h ad (s2 (s2 (s2 (s2 σ 37 0 0) 36 0 ((σ 36 0) + 1)) 17 (σ 36 0) (iN x1)) 18 (σ 36 0) (iN x2))) C hW64 19 0 rfl rfl rfl (by have : σ 36 0 < 61 := hB.lt 36 (by decide) 0; omega) (by decide) dX4_send_77 (mset18 G h ad _ (σ 36 0) (iN x2)) (fun H65 locs65 hW65 => ?_)
          clear hW64
          refine lv_aload_n C.hx C.hb dX4_send_78 rfl (lv_at hl62 1 rfl) ?_
          refine k_get (v := .ref (ad 19)) C clX4 (hW65.get 0 0 rfl rfl) 19 (Nat.le_of_ble_eq_true rfl) rfl q2343 rfl rfl dX4_send_79 ?_
          refine lv_iload C.hx C.hb dX4_send_82 (lv_at hl62 0 rfl) ?_
          refine lv_iload_n C.hx C.hb dX4_send_84 rfl (lv_at hl62 4 rfl) ?_
          refine k_iast (S' := mW G h ad (s2 (s2 (s2 (s2 (s2 σ 37 0 0) 36 0 ((σ 36 0) + 1)) 17 (σ 36 0) (iN x1)) 18 (σ 36 0) (iN x2)) 19 (σ 36 0) (iN x3))) C hW65 20 0 rfl rfl rfl (by have : σ 36 0 < 61 := hB.lt 36 (by decide) 0; omega) (by decide) dX4_send_85 (mset19 G h ad _ (σ 36 0) (iN x3)) (fun H66 locs66 hW66 => ?_)
          clear hW65
          refine lv_aload_n C.hx C.hb dX4_send_86 rfl (lv_at hl62 1 rfl) ?_
          refine k_get (v := .ref (ad 20)) C clX4 (hW66.get 0 0 rfl rfl) 20 (Nat.le_of_ble_eq_true rfl) rfl q2344 rfl rfl dX4_send_87 ?_
          refine lv_iload C.hx C.hb dX4_send_90 (lv_at hl62 0 rfl) ?_
          refine lv_aload_n C.hx C.hb dX4_send_92 rfl (lv_at hl62 1 rfl) ?_
          refine k_get (v := .int (nI (σ 30 0))) C clX4 (hW66.get 0 0 rfl rfl) 30 (Nat.le_of_ble_eq_true rfl) rfl q2354 rfl rfl dX4_send_93 ?_
          refine k_iast (S' := mW G h ad (s2 (s2 (s2 (s2 (s2 (s2 σ 37 0 0) 36 0 ((σ 36 0) + 1)) 17 (σ 36 0) (iN x1)) 18 (σ 36 0) (iN x2)) 19 (σ 36 0) (iN x3)) 20 (σ 36 0) (σ 30 0))) C hW66 21 0 rfl rfl rfl (by have : σ 36 0 < 61 := hB.lt 36 (by decide) 0; omega) (by decide) dX4_send_96 (mset20 G h ad _ (σ 36 0) (σ 30 0)) (fun H67 locs67 hW67 => ?_)
          clear hW66
          refine lv_aload_n C.hx C.hb dX4_send_97 rfl (lv_at hl62 1 rfl) ?_
          refine k_get (v := .ref (ad 21)) C clX4 (hW67.get 0 0 rfl rfl) 21 (Nat.le_of_ble_eq_true rfl) rfl q2345 rfl rfl dX4_send_98 ?_
          refine lv_iload C.hx C.hb dX4_send_101 (lv_at hl62 0 rfl) ?_
          refine lv_aload_n C.hx C.hb dX4_send_103 rfl (lv_at hl62 1 rfl) ?_
          refine k_get (v := .int (nI (σ 30 0))) C clX4 (hW67.get 0 0 rfl rfl) 30 (Nat.le_of_ble_eq_true rfl) rfl q2354 rfl rfl dX4_send_104 ?_
          refine lv_aload_n C.hx C.hb dX4_send_107 rfl (lv_at hl62 1 rfl) ?_
          refine k_get (v := .ref (ad 1)) C clX4 (hW67.get 0 0 rfl rfl) 1 (Nat.le_of_ble_eq_true rfl) rfl q2325 rfl rfl dX4_send_108 ?_
          refine lv_iload_n C.hx C.hb dX4_send_111 rfl (lv_at hl62 2 rfl) ?_
          refine k_iald C (f := (fun i => nI ((s2 (s2 (s2 (s2 (s2 (s2 σ 37 0 0) 36 0 ((σ 36 0) + 1)) 17 (σ 36 0) (iN x1)) 18 (σ 36 0) (iN x2)) 19 (σ 36 0) (iN x3)) 20 (σ 36 0) (σ 30 0)) 1 i))) rfl (hW67.get 2 0 rfl rfl) (by omega) (by decide) dX4_send_112 ?_
          refine k_op (y := .int (nI (σ 1 (iN x1)))) (by simp [s2_rd]) ?_
          refine kn_iadd C  dX4_send_113 ?_
          refine k_iast (S' := mW G h ad (s2 (s2 (s2 (s2 (s2 (s2 (s2 σ 37 0 0) 36 0 ((σ 36 0) + 1)) 17 (σ 36 0) (iN x1)) 18 (σ 36 0) (iN x2)) 19 (σ 36 0) (iN x3)) 20 (σ 36 0) (σ 30 0)) 21 (σ 36 0) ((σ 30 0) + (σ 1 (iN x1))))) C hW67 22 0 rfl rfl rfl (by have : σ 36 0 < 61 := hB.lt 36 (by decide) 0; omega) (by decide) dX4_send_114 (mset21 G h ad _ (σ 36 0) ((σ 30 0) + (σ 1 (iN x1)))) (fun H68 locs68 hW68 => ?_)
          clear hW67
          refine lv_aload_n C.hx C.hb dX4_send_115 rfl (lv_at hl62 1 rfl) ?_
          refine lv_aload_n C.hx C.hb dX4_send_116 rfl (lv_at hl62 1 rfl) ?_
          refine k_get (v := .ref (ad 21)) C clX4 (hW68.get 0 0 rfl rfl) 21 (Nat.le_of_ble_eq_true rfl) rfl q2345 rfl rfl dX4_send_117 ?_
          refine lv_iload C.hx C.hb dX4_send_120 (lv_at hl62 0 rfl) ?_
          refine k_iald C (f := (fun i => nI ((s2 (s2 (s2 (s2 (s2 (s2 (s2 σ 37 0 0) 36 0 ((σ 36 0) + 1)) 17 (σ 36 0) (iN x1)) 18 (σ 36 0) (iN x2)) 19 (σ 36 0) (iN x3)) 20 (σ 36 0) (σ 30 0)) 21 (σ 36 0) ((σ 30 0) + (σ 1 (iN x1)))) 21 i))) rfl (hW68.get 22 0 rfl rfl) (by have : σ 36 0 < 61 := hB.lt 36 (by decide) 0; omega) (by decide) dX4_send_122 ?_
          refine k_op (y := .int (nI ((σ 30 0) + (σ 1 (iN x1))))) (by simp [s2_rd]) ?_
          refine kn_iconst (a := 2) C (by decide) dX4_send_123 ?_
          refine lv_iload C.hx C.hb dX4_send_124 (lv_at hl62 0 rfl) ?_
          have hSs : Sf (s2 (s2 (s2 (s2 (s2 (s2 (s2 σ 37 0 0) 36 0 ((σ 36 0) + 1)) 17 (σ 36 0) (iN x1)) 18 (σ 36 0) (iN x2)) 19 (σ 36 0) (iN x3)) 20 (σ 36 0) (σ 30 0)) 21 (σ 36 0) ((σ 30 0) + (σ 1 (iN x1)))) := (((((((hS.s2o (f := 37) (by decide) (Or.inr (by decide))).s2o (f := 36) (by decide) (Or.inr (by show _ < 61; omega))).s2o (f := 17) (by decide) (Or.inr (by show _ < 4; omega))).s2o (f := 18) (by decide) (Or.inr (by show _ < 12; omega))).s2o (f := 19) (by decide) (Or.inr (by show _ < 4; omega))).s2o (f := 20) (by decide) (Or.inr (by show _ < 5001; omega))).s2o (f := 21) (by decide) (Or.inr (by show _ < 5101; omega)))
          refine k_callV (Sc := mW G h ad (s2 (s2 (s2 (s2 (s2 (s2 (s2 σ 37 0 0) 36 0 ((σ 36 0) + 1)) 17 (σ 36 0) (iN x1)) 18 (σ 36 0) (iN x2)) 19 (σ 36 0) (iN x3)) 20 (σ 36 0) (σ 30 0)) 21 (σ 36 0) ((σ 30 0) + (σ 1 (iN x1))))) (Sr := []) (As := [.int (nI ((σ 30 0) + (σ 1 (iN x1)))), .int (nI 2), .int (nI (σ 36 0))]) (rest := []) C (ctX4_comes l G h ad (s2 (s2 (s2 (s2 (s2 (s2 (s2 σ 37 0 0) 36 0 ((σ 36 0) + 1)) 17 (σ 36 0) (iN x1)) 18 (σ 36 0) (iN x2)) 19 (σ 36 0) (iN x3)) 20 (σ 36 0) (σ 30 0)) 21 (σ 36 0) ((σ 30 0) + (σ 1 (iN x1)))) (σ 30 0 + σ 1 (iN x1)) 2 (σ 36 0) hSs he) hW68 clX4 (hW68.get 0 0 rfl rfl) q2477 q2479 qs53 q85 q2480 rfl rfl ⟨by decide, by decide, Eq.trans (b := some 3) (by decide +kernel) rfl⟩ (Nat.le_of_ble_eq_true rfl) (Nat.le_of_ble_eq_true rfl) (Nat.le_refl _) (Nat.le_refl _) hl62.1 rfl (Nat.le_of_ble_eq_true rfl) dX4_send_126 (List.Perm.refl _) (fun _ h => h.elim) (fun v H69 locs69 S1 hQ hz69 hW69 => ?_)
          obtain ⟨rfl, rfl⟩ := hQ
          have hW69 : Ws G A s (mW G h ad (comesF (s2 (s2 (s2 (s2 (s2 (s2 (s2 σ 37 0 0) 36 0 ((σ 36 0) + 1)) 17 (σ 36 0) (iN x1)) 18 (σ 36 0) (iN x2)) 19 (σ 36 0) (iN x3)) 20 (σ 36 0) (σ 30 0)) 21 (σ 36 0) ((σ 30 0) + (σ 1 (iN x1)))) (σ 30 0 + σ 1 (iN x1)) 2 (σ 36 0))) H69 locs69 := hW69
          clear hW68
          refine W.eq (g2 := F0 m 129 ls62 [.int (nI (σ 34 0))]) rfl ?_
          refine lv_istore (lv' := [(5, .int (nI (σ 34 0))), (4, .int (nI (σ 36 0))), (0, .ref h), (1, .int (nI (iN x1))), (2, .int (nI (iN x2))), (3, .int (nI (iN x3)))]) C.hx C.hb dX4_send_129 hl62 (Nat.le_of_ble_eq_true rfl) rfl (fun ls70 hl70 => ?_)
          clear hl62
          refine lv_iload C.hx C.hb dX4_send_131 (lv_at hl70 1 rfl) ?_
          exact k_iret C hW69 rfl ⟨by rw [if_pos (show cSend σ x1 x2 x3 = 0 from hc)], by rw [if_pos (show cSend σ x1 x2 x3 = 0 from hc)]; rfl⟩ (Nat.le_refl _) (Nat.le_refl _) dX4_send_133
        · have hc : ¬ (c3_ (inR x1 0 3 ∧ inR x2 0 11) (inR x3 0 3) (σ 36 0 < 60)) = 0 := c3_n c41
          refine kn_iconst (a := 0) C (by decide) dX4_send_44 ?_
          exact k_iret C hW58 rfl ⟨by rw [if_neg (show ¬ cSend σ x1 x2 x3 = 0 from hc)], by rw [if_neg (show ¬ cSend σ x1 x2 x3 = 0 from hc)]; rfl⟩ (Nat.le_refl _) (Nat.le_refl _) dX4_send_45
      · refine kn_iconst (a := 1) C (by decide) dX4_send_33 ?_
        refine lv_goto (tgt := 38) C.hx C.hb dX4_send_34 (by decide) ?_
        refine k_op (y := .int (b01 (σ 36 0 < 60))) (by rw [b01_t (by omega)]; rfl) ?_
        refine k_callV (Sc := mW G h ad σ) (Sr := []) (As := [.int (b01 (inR x1 0 3 ∧ inR x2 0 11)), .int (b01 (inR x3 0 3)), .int (b01 (σ 36 0 < 60))]) (rest := []) C (ctX4_goesAll l G h ad σ (inR x1 0 3 ∧ inR x2 0 11) (inR x3 0 3) (σ 36 0 < 60) hS) hW57 clX4 (hW57.get 0 0 rfl rfl) q2540 q2542 qs59 q85 q2543 rfl rfl ⟨by decide, by decide, Eq.trans (b := some 3) (by decide +kernel) rfl⟩ (Nat.le_of_ble_eq_true rfl) (Nat.le_of_ble_eq_true rfl) (Nat.le_refl _) (Nat.le_refl _) hl.1 rfl (Nat.le_of_ble_eq_true rfl) dX4_send_38 (List.Perm.refl _) (fun _ h => h.elim) (fun v H71 locs71 S1 hQ hz71 hW71 => ?_)
        obtain ⟨rfl, rfl⟩ := hQ
        have hW71 : Ws G A s (mW G h ad (s2 σ 37 0 (c3_ (inR x1 0 3 ∧ inR x2 0 11) (inR x3 0 3) (σ 36 0 < 60)))) H71 locs71 := hW71
        clear hW57
        refine W.eq (g2 := F0 m 41 ls [.int (b01 ((inR x1 0 3 ∧ inR x2 0 11) ∧ (inR x3 0 3) ∧ (σ 36 0 < 60)))]) rfl ?_
        refine kb_if_ne (tgt := 46) C dX4_send_41 (by decide) (fun c41 => ?_) (fun c41 => ?_)
        · have hc : (c3_ (inR x1 0 3 ∧ inR x2 0 11) (inR x3 0 3) (σ 36 0 < 60)) = 0 := c3_0 c41
          rw [hc] at hW71
          obtain ⟨hx72, hy72, hz72⟩ := iN_eq (a := 0) (b := 3) (by decide) c41.1.1
          have hl72 : lv_has ls 6 [(0, .ref h), (1, .int (nI (iN x1))), (2, .int x2), (3, .int x3)] := by rw [← hx72]; exact hl
          obtain ⟨hx73, hy73, hz73⟩ := iN_eq (a := 0) (b := 11) (by decide) c41.1.2
          have hl73 : lv_has ls 6 [(0, .ref h), (1, .int (nI (iN x1))), (2, .int (nI (iN x2))), (3, .int x3)] := by rw [← hx73]; exact hl72
          obtain ⟨hx74, hy74, hz74⟩ := iN_eq (a := 0) (b := 3) (by decide) c41.2.1
          have hl74 : lv_has ls 6 [(0, .ref h), (1, .int (nI (iN x1))), (2, .int (nI (iN x2))), (3, .int (nI (iN x3)))] := by rw [← hx74]; exact hl73
          have h60 : σ 36 0 < 60 := c41.2.2
          have h1b : ∀ j, σ 1 j < 21 := fun j => hB.lt 1 (by decide) j
          have h1c := h1b (iN x1)
          refine lv_aload_n C.hx C.hb dX4_send_46 rfl (lv_at hl74 0 rfl) ?_
          refine k_get (v := .int (nI (σ 36 0))) C clX4 (hW71.get 0 0 rfl rfl) 36 (Nat.le_of_ble_eq_true rfl) rfl q2360 rfl rfl dX4_send_47 ?_
          refine lv_istore (lv' := [(4, .int (nI (σ 36 0))), (0, .ref h), (1, .int (nI (iN x1))), (2, .int (nI (iN x2))), (3, .int (nI (iN x3)))]) C.hx C.hb dX4_send_50 hl74 (Nat.le_of_ble_eq_true rfl) rfl (fun ls75 hl75 => ?_)
          clear hl74
          refine lv_aload_n C.hx C.hb dX4_send_52 rfl (lv_at hl75 1 rfl) ?_
          refine lv_dup C.hx C.hb dX4_send_53 rfl ?_
          refine k_get (v := .int (nI (σ 36 0))) C clX4 (hW71.get 0 0 rfl rfl) 36 (Nat.le_of_ble_eq_true rfl) rfl q2360 rfl rfl dX4_send_54 ?_
          refine kn_iconst (a := 1) C (by decide) dX4_send_57 ?_
          refine kn_iadd C  dX4_send_58 ?_
          refine k_put (S' := mW G h ad (s2 (s2 σ 37 0 0) 36 0 ((σ 36 0) + 1))) C clX4 hW71 0 0 rfl rfl 36 (Nat.le_of_ble_eq_true rfl) rfl q2360 rfl (fun _ h => h) (Or.inl rfl) (fty := .int) (v := .int (nI ((σ 36 0) + 1))) (by decide +kernel) rfl rfl (Nat.le_of_ble_eq_true rfl) dX4_send_59 (mput36 G h ad _ _) (fun H76 locs76 hW76 => ?_)
          clear hW71
          refine lv_aload_n C.hx C.hb dX4_send_62 rfl (lv_at hl75 1 rfl) ?_
          refine k_get (v := .ref (ad 17)) C clX4 (hW76.get 0 0 rfl rfl) 17 (Nat.le_of_ble_eq_true rfl) rfl q2341 rfl rfl dX4_send_63 ?_
          refine lv_iload C.hx C.hb dX4_send_66 (lv_at hl75 0 rfl) ?_
          refine lv_iload_n C.hx C.hb dX4_send_68 rfl (lv_at hl75 2 rfl) ?_
          refine k_iast (S' := mW G h ad (s2 (s2 (s2 σ 37 0 0) 36 0 ((σ 36 0) + 1)) 17 (σ 36 0) (iN x1))) C hW76 18 0 rfl rfl rfl (by have : σ 36 0 < 61 := hB.lt 36 (by decide) 0; omega) (by decide) dX4_send_69 (mset17 G h ad _ (σ 36 0) (iN x1)) (fun H77 locs77 hW77 => ?_)
          clear hW76
          refine lv_aload_n C.hx C.hb dX4_send_70 rfl (lv_at hl75 1 rfl) ?_
          refine k_get (v := .ref (ad 18)) C clX4 (hW77.get 0 0 rfl rfl) 18 (Nat.le_of_ble_eq_true rfl) rfl q2342 rfl rfl dX4_send_71 ?_
          refine lv_iload C.hx C.hb dX4_send_74 (lv_at hl75 0 rfl) ?_
          refine lv_iload_n C.hx C.hb dX4_send_76 rfl (lv_at hl75 3 rfl) ?_
          refine k_iast (S' := mW G h ad (s2 (s2 (s2 (s2 σ 37 0 0) 36 0 ((σ 36 0) + 1)) 17 (σ 36 0) (iN x1)) 18 (σ 36 0) (iN x2))) C hW77 19 0 rfl rfl rfl (by have : σ 36 0 < 61 := hB.lt 36 (by decide) 0; omega) (by decide) dX4_send_77 (mset18 G h ad _ (σ 36 0) (iN x2)) (fun H78 locs78 hW78 => ?_)
          clear hW77
          refine lv_aload_n C.hx C.hb dX4_send_78 rfl (lv_at hl75 1 rfl) ?_
          refine k_get (v := .ref (ad 19)) C clX4 (hW78.get 0 0 rfl rfl) 19 (Nat.le_of_ble_eq_true rfl) rfl q2343 rfl rfl dX4_send_79 ?_
          refine lv_iload C.hx C.hb dX4_send_82 (lv_at hl75 0 rfl) ?_
          refine lv_iload_n C.hx C.hb dX4_send_84 rfl (lv_at hl75 4 rfl) ?_
          refine k_iast (S' := mW G h ad (s2 (s2 (s2 (s2 (s2 σ 37 0 0) 36 0 ((σ 36 0) + 1)) 17 (σ 36 0) (iN x1)) 18 (σ 36 0) (iN x2)) 19 (σ 36 0) (iN x3))) C hW78 20 0 rfl rfl rfl (by have : σ 36 0 < 61 := hB.lt 36 (by decide) 0; omega) (by decide) dX4_send_85 (mset19 G h ad _ (σ 36 0) (iN x3)) (fun H79 locs79 hW79 => ?_)
          clear hW78
          refine lv_aload_n C.hx C.hb dX4_send_86 rfl (lv_at hl75 1 rfl) ?_
          refine k_get (v := .ref (ad 20)) C clX4 (hW79.get 0 0 rfl rfl) 20 (Nat.le_of_ble_eq_true rfl) rfl q2344 rfl rfl dX4_send_87 ?_
          refine lv_iload C.hx C.hb dX4_send_90 (lv_at hl75 0 rfl) ?_
          refine lv_aload_n C.hx C.hb dX4_send_92 rfl (lv_at hl75 1 rfl) ?_
          refine k_get (v := .int (nI (σ 30 0))) C clX4 (hW79.get 0 0 rfl rfl) 30 (Nat.le_of_ble_eq_true rfl) rfl q2354 rfl rfl dX4_send_93 ?_
          refine k_iast (S' := mW G h ad (s2 (s2 (s2 (s2 (s2 (s2 σ 37 0 0) 36 0 ((σ 36 0) + 1)) 17 (σ 36 0) (iN x1)) 18 (σ 36 0) (iN x2)) 19 (σ 36 0) (iN x3)) 20 (σ 36 0) (σ 30 0))) C hW79 21 0 rfl rfl rfl (by have : σ 36 0 < 61 := hB.lt 36 (by decide) 0; omega) (by decide) dX4_send_96 (mset20 G h ad _ (σ 36 0) (σ 30 0)) (fun H80 locs80 hW80 => ?_)
          clear hW79
          refine lv_aload_n C.hx C.hb dX4_send_97 rfl (lv_at hl75 1 rfl) ?_
          refine k_get (v := .ref (ad 21)) C clX4 (hW80.get 0 0 rfl rfl) 21 (Nat.le_of_ble_eq_true rfl) rfl q2345 rfl rfl dX4_send_98 ?_
          refine lv_iload C.hx C.hb dX4_send_101 (lv_at hl75 0 rfl) ?_
          refine lv_aload_n C.hx C.hb dX4_send_103 rfl (lv_at hl75 1 rfl) ?_
          refine k_get (v := .int (nI (σ 30 0))) C clX4 (hW80.get 0 0 rfl rfl) 30 (Nat.le_of_ble_eq_true rfl) rfl q2354 rfl rfl dX4_send_104 ?_
          refine lv_aload_n C.hx C.hb dX4_send_107 rfl (lv_at hl75 1 rfl) ?_
          refine k_get (v := .ref (ad 1)) C clX4 (hW80.get 0 0 rfl rfl) 1 (Nat.le_of_ble_eq_true rfl) rfl q2325 rfl rfl dX4_send_108 ?_
          refine lv_iload_n C.hx C.hb dX4_send_111 rfl (lv_at hl75 2 rfl) ?_
          refine k_iald C (f := (fun i => nI ((s2 (s2 (s2 (s2 (s2 (s2 σ 37 0 0) 36 0 ((σ 36 0) + 1)) 17 (σ 36 0) (iN x1)) 18 (σ 36 0) (iN x2)) 19 (σ 36 0) (iN x3)) 20 (σ 36 0) (σ 30 0)) 1 i))) rfl (hW80.get 2 0 rfl rfl) (by omega) (by decide) dX4_send_112 ?_
          refine k_op (y := .int (nI (σ 1 (iN x1)))) (by simp [s2_rd]) ?_
          refine kn_iadd C  dX4_send_113 ?_
          refine k_iast (S' := mW G h ad (s2 (s2 (s2 (s2 (s2 (s2 (s2 σ 37 0 0) 36 0 ((σ 36 0) + 1)) 17 (σ 36 0) (iN x1)) 18 (σ 36 0) (iN x2)) 19 (σ 36 0) (iN x3)) 20 (σ 36 0) (σ 30 0)) 21 (σ 36 0) ((σ 30 0) + (σ 1 (iN x1))))) C hW80 22 0 rfl rfl rfl (by have : σ 36 0 < 61 := hB.lt 36 (by decide) 0; omega) (by decide) dX4_send_114 (mset21 G h ad _ (σ 36 0) ((σ 30 0) + (σ 1 (iN x1)))) (fun H81 locs81 hW81 => ?_)
          clear hW80
          refine lv_aload_n C.hx C.hb dX4_send_115 rfl (lv_at hl75 1 rfl) ?_
          refine lv_aload_n C.hx C.hb dX4_send_116 rfl (lv_at hl75 1 rfl) ?_
          refine k_get (v := .ref (ad 21)) C clX4 (hW81.get 0 0 rfl rfl) 21 (Nat.le_of_ble_eq_true rfl) rfl q2345 rfl rfl dX4_send_117 ?_
          refine lv_iload C.hx C.hb dX4_send_120 (lv_at hl75 0 rfl) ?_
          refine k_iald C (f := (fun i => nI ((s2 (s2 (s2 (s2 (s2 (s2 (s2 σ 37 0 0) 36 0 ((σ 36 0) + 1)) 17 (σ 36 0) (iN x1)) 18 (σ 36 0) (iN x2)) 19 (σ 36 0) (iN x3)) 20 (σ 36 0) (σ 30 0)) 21 (σ 36 0) ((σ 30 0) + (σ 1 (iN x1)))) 21 i))) rfl (hW81.get 22 0 rfl rfl) (by have : σ 36 0 < 61 := hB.lt 36 (by decide) 0; omega) (by decide) dX4_send_122 ?_
          refine k_op (y := .int (nI ((σ 30 0) + (σ 1 (iN x1))))) (by simp [s2_rd]) ?_
          refine kn_iconst (a := 2) C (by decide) dX4_send_123 ?_
          refine lv_iload C.hx C.hb dX4_send_124 (lv_at hl75 0 rfl) ?_
          have hSs : Sf (s2 (s2 (s2 (s2 (s2 (s2 (s2 σ 37 0 0) 36 0 ((σ 36 0) + 1)) 17 (σ 36 0) (iN x1)) 18 (σ 36 0) (iN x2)) 19 (σ 36 0) (iN x3)) 20 (σ 36 0) (σ 30 0)) 21 (σ 36 0) ((σ 30 0) + (σ 1 (iN x1)))) := (((((((hS.s2o (f := 37) (by decide) (Or.inr (by decide))).s2o (f := 36) (by decide) (Or.inr (by show _ < 61; omega))).s2o (f := 17) (by decide) (Or.inr (by show _ < 4; omega))).s2o (f := 18) (by decide) (Or.inr (by show _ < 12; omega))).s2o (f := 19) (by decide) (Or.inr (by show _ < 4; omega))).s2o (f := 20) (by decide) (Or.inr (by show _ < 5001; omega))).s2o (f := 21) (by decide) (Or.inr (by show _ < 5101; omega)))
          refine k_callV (Sc := mW G h ad (s2 (s2 (s2 (s2 (s2 (s2 (s2 σ 37 0 0) 36 0 ((σ 36 0) + 1)) 17 (σ 36 0) (iN x1)) 18 (σ 36 0) (iN x2)) 19 (σ 36 0) (iN x3)) 20 (σ 36 0) (σ 30 0)) 21 (σ 36 0) ((σ 30 0) + (σ 1 (iN x1))))) (Sr := []) (As := [.int (nI ((σ 30 0) + (σ 1 (iN x1)))), .int (nI 2), .int (nI (σ 36 0))]) (rest := []) C (ctX4_comes l G h ad (s2 (s2 (s2 (s2 (s2 (s2 (s2 σ 37 0 0) 36 0 ((σ 36 0) + 1)) 17 (σ 36 0) (iN x1)) 18 (σ 36 0) (iN x2)) 19 (σ 36 0) (iN x3)) 20 (σ 36 0) (σ 30 0)) 21 (σ 36 0) ((σ 30 0) + (σ 1 (iN x1)))) (σ 30 0 + σ 1 (iN x1)) 2 (σ 36 0) hSs he) hW81 clX4 (hW81.get 0 0 rfl rfl) q2477 q2479 qs53 q85 q2480 rfl rfl ⟨by decide, by decide, Eq.trans (b := some 3) (by decide +kernel) rfl⟩ (Nat.le_of_ble_eq_true rfl) (Nat.le_of_ble_eq_true rfl) (Nat.le_refl _) (Nat.le_refl _) hl75.1 rfl (Nat.le_of_ble_eq_true rfl) dX4_send_126 (List.Perm.refl _) (fun _ h => h.elim) (fun v H82 locs82 S1 hQ hz82 hW82 => ?_)
          obtain ⟨rfl, rfl⟩ := hQ
          have hW82 : Ws G A s (mW G h ad (comesF (s2 (s2 (s2 (s2 (s2 (s2 (s2 σ 37 0 0) 36 0 ((σ 36 0) + 1)) 17 (σ 36 0) (iN x1)) 18 (σ 36 0) (iN x2)) 19 (σ 36 0) (iN x3)) 20 (σ 36 0) (σ 30 0)) 21 (σ 36 0) ((σ 30 0) + (σ 1 (iN x1)))) (σ 30 0 + σ 1 (iN x1)) 2 (σ 36 0))) H82 locs82 := hW82
          clear hW81
          refine W.eq (g2 := F0 m 129 ls75 [.int (nI (σ 34 0))]) rfl ?_
          refine lv_istore (lv' := [(5, .int (nI (σ 34 0))), (4, .int (nI (σ 36 0))), (0, .ref h), (1, .int (nI (iN x1))), (2, .int (nI (iN x2))), (3, .int (nI (iN x3)))]) C.hx C.hb dX4_send_129 hl75 (Nat.le_of_ble_eq_true rfl) rfl (fun ls83 hl83 => ?_)
          clear hl75
          refine lv_iload C.hx C.hb dX4_send_131 (lv_at hl83 1 rfl) ?_
          exact k_iret C hW82 rfl ⟨by rw [if_pos (show cSend σ x1 x2 x3 = 0 from hc)], by rw [if_pos (show cSend σ x1 x2 x3 = 0 from hc)]; rfl⟩ (Nat.le_refl _) (Nat.le_refl _) dX4_send_133
        · have hc : ¬ (c3_ (inR x1 0 3 ∧ inR x2 0 11) (inR x3 0 3) (σ 36 0 < 60)) = 0 := c3_n c41
          refine kn_iconst (a := 0) C (by decide) dX4_send_44 ?_
          exact k_iret C hW71 rfl ⟨by rw [if_neg (show ¬ cSend σ x1 x2 x3 = 0 from hc)], by rw [if_neg (show ¬ cSend σ x1 x2 x3 = 0 from hc)]; rfl⟩ (Nat.le_refl _) (Nat.le_refl _) dX4_send_45

def Q_ctX4_meansOf (G : GT) (h : Nat) (ad : Nat → Nat) (σ : Sg) (r1 w1 : Nat) : Option Value → List va_W → Prop := fun v S1 => v = some (.int (nI (meansF σ r1 w1))) ∧ S1 = mW G h ad σ
set_option maxHeartbeats 4000000 in
set_option maxRecDepth 100000 in
theorem ctX4_meansOf (l : Launch) (G : GT) (h : Nat) (ad : Nat → Nat) (σ : Sg) (r1 w1 : Nat) (hS : Sf σ) (hr : r1 < 4) (hw : w1 < 4) : Ct l G yX4_meansOf cX4_meansOf 3 (some .int) 0 0 0 0 [.ref h, .int (nI r1), .int (nI w1)] (mW G h ad σ) noR (Q_ctX4_meansOf G h ad σ r1 w1) := by
  refine Ct.of (by decide +kernel) (Nat.le_of_ble_eq_true rfl) ?_
  intro p e s m below meth c A ls C hW hRo hl
  have hl : lv_has ls 3 [(0, .ref h), (1, .int (nI r1)), (2, .int (nI w1))] := hl
  have hB : Bd σ := hS.1
  have h32 : σ 32 0 ≤ 200 := Nat.lt_succ_iff.mp (hB.lt 32 (by decide) 0)
  have h34 : σ 34 0 ≤ 480 := Nat.lt_succ_iff.mp (hB.lt 34 (by decide) 0)
  have h35 : σ 35 0 ≤ 64 := Nat.lt_succ_iff.mp (hB.lt 35 (by decide) 0)
  have h36 : σ 36 0 ≤ 60 := Nat.lt_succ_iff.mp (hB.lt 36 (by decide) 0)
  have h30 : σ 30 0 ≤ 5000 := Nat.lt_succ_iff.mp (hB.lt 30 (by decide) 0)
  have h25 : σ 25 (4 * r1 + w1) < 61 := hB.lt 25 (by decide) _
  have h24 : σ 24 (4 * r1 + w1) < 1073741824 := hB.lt 24 (by decide) _
  refine lv_aload_n C.hx C.hb dX4_meansOf_0 rfl (lv_at hl 0 rfl) ?_
  refine k_get (v := .ref (ad 25)) C clX4 (hW.get 0 0 rfl rfl) 25 (Nat.le_of_ble_eq_true rfl) rfl q2349 rfl rfl dX4_meansOf_1 ?_
  refine kn_iconst (a := 4) C (by decide) dX4_meansOf_4 ?_
  refine lv_iload_n C.hx C.hb dX4_meansOf_5 rfl (lv_at hl 1 rfl) ?_
  refine kn_imul C  dX4_meansOf_6 ?_
  refine lv_iload_n C.hx C.hb dX4_meansOf_7 rfl (lv_at hl 2 rfl) ?_
  refine kn_iadd C  dX4_meansOf_8 ?_
  refine k_iald C (f := (fun i => nI (σ 25 i))) rfl (hW.get 26 0 rfl rfl) (by omega) (by decide) dX4_meansOf_9 ?_
  refine kn_if_ne (tgt := 22) C (Nat.lt_of_lt_of_le (hB.lt 25 (by decide) ((4 * r1) + w1)) (by decide)) dX4_meansOf_10 (by decide) (fun c10 => ?_) (fun c10 => ?_)
  · refine lv_aload_n C.hx C.hb dX4_meansOf_22 rfl (lv_at hl 0 rfl) ?_
    refine k_get (v := .ref (ad 24)) C clX4 (hW.get 0 0 rfl rfl) 24 (Nat.le_of_ble_eq_true rfl) rfl q2348 rfl rfl dX4_meansOf_23 ?_
    refine kn_iconst (a := 4) C (by decide) dX4_meansOf_26 ?_
    refine lv_iload_n C.hx C.hb dX4_meansOf_27 rfl (lv_at hl 1 rfl) ?_
    refine kn_imul C  dX4_meansOf_28 ?_
    refine lv_iload_n C.hx C.hb dX4_meansOf_29 rfl (lv_at hl 2 rfl) ?_
    refine kn_iadd C  dX4_meansOf_30 ?_
    refine k_lald C (f := (fun i => lN (σ 24 i))) rfl (hW.get 25 0 rfl rfl) (by omega) (by decide) dX4_meansOf_31 ?_
    refine lv_aload_n C.hx C.hb dX4_meansOf_32 rfl (lv_at hl 0 rfl) ?_
    refine k_get (v := .ref (ad 25)) C clX4 (hW.get 0 0 rfl rfl) 25 (Nat.le_of_ble_eq_true rfl) rfl q2349 rfl rfl dX4_meansOf_33 ?_
    refine kn_iconst (a := 4) C (by decide) dX4_meansOf_36 ?_
    refine lv_iload_n C.hx C.hb dX4_meansOf_37 rfl (lv_at hl 1 rfl) ?_
    refine kn_imul C  dX4_meansOf_38 ?_
    refine lv_iload_n C.hx C.hb dX4_meansOf_39 rfl (lv_at hl 2 rfl) ?_
    refine kn_iadd C  dX4_meansOf_40 ?_
    refine k_iald C (f := (fun i => nI (σ 25 i))) rfl (hW.get 26 0 rfl rfl) (by omega) (by decide) dX4_meansOf_41 ?_
    refine kn_i2l C (Nat.lt_of_lt_of_le (hB.lt 25 (by decide) ((4 * r1) + w1)) (by decide)) dX4_meansOf_42 ?_
    refine kn_ldiv C (Nat.lt_of_lt_of_le (hB.lt 24 (by decide) ((4 * r1) + w1)) (by decide)) (by omega) (Nat.lt_of_lt_of_le (hB.lt 25 (by decide) ((4 * r1) + w1)) (by decide)) dX4_meansOf_43 ?_
    refine kn_l2i C dX4_meansOf_44 ?_
    exact k_iret C hW rfl ⟨by unfold meansF; rw [if_neg c10], rfl⟩ (Nat.le_refl _) (Nat.le_refl _) dX4_meansOf_45
  · refine lv_aload_n C.hx C.hb dX4_meansOf_13 rfl (lv_at hl 0 rfl) ?_
    refine k_get (v := .ref (ad 27)) C clX4 (hW.get 0 0 rfl rfl) 27 (Nat.le_of_ble_eq_true rfl) rfl q2351 rfl rfl dX4_meansOf_14 ?_
    refine lv_iload_n C.hx C.hb dX4_meansOf_17 rfl (lv_at hl 2 rfl) ?_
    refine k_iald C (f := (fun i => nI (σ 27 i))) rfl (hW.get 28 0 rfl rfl) (by omega) (by decide) dX4_meansOf_18 ?_
    refine lv_goto (tgt := 45) C.hx C.hb dX4_meansOf_19 (by decide) ?_
    exact k_iret C hW rfl ⟨by unfold meansF; rw [if_pos c10], rfl⟩ (Nat.le_refl _) (Nat.le_refl _) dX4_meansOf_45

def Q_ctX4_meaning (G : GT) (h : Nat) (ad : Nat → Nat) (σ : Sg) (x1 x2 : Int32) : Option Value → List va_W → Prop := fun v S1 => v = some (.int (nI (if cMean x1 x2 = 0 then meansF σ (iN x1) (iN x2) else 0))) ∧ S1 = mW G h ad (if cMean x1 x2 = 0 then k0 σ 0 else k0 σ (cMean x1 x2))
set_option maxHeartbeats 4000000 in
set_option maxRecDepth 100000 in
theorem ctX4_meaning (l : Launch) (G : GT) (h : Nat) (ad : Nat → Nat) (σ : Sg) (x1 x2 : Int32) (hS : Sf σ) : Ct l G yX4_meaning cX4_meaning 3 (some .int) 2 45 0 0 [.ref h, .int x1, .int x2] (mW G h ad σ) noR (Q_ctX4_meaning G h ad σ x1 x2) := by
  refine Ct.of (by decide +kernel) (Nat.le_of_ble_eq_true rfl) ?_
  intro p e s m below meth c A ls C hW hRo hl
  have hl : lv_has ls 3 [(0, .ref h), (1, .int x1), (2, .int x2)] := hl
  have hB : Bd σ := hS.1
  have h32 : σ 32 0 ≤ 200 := Nat.lt_succ_iff.mp (hB.lt 32 (by decide) 0)
  have h34 : σ 34 0 ≤ 480 := Nat.lt_succ_iff.mp (hB.lt 34 (by decide) 0)
  have h35 : σ 35 0 ≤ 64 := Nat.lt_succ_iff.mp (hB.lt 35 (by decide) 0)
  have h36 : σ 36 0 ≤ 60 := Nat.lt_succ_iff.mp (hB.lt 36 (by decide) 0)
  have h30 : σ 30 0 ≤ 5000 := Nat.lt_succ_iff.mp (hB.lt 30 (by decide) 0)
  refine lv_aload_n C.hx C.hb dX4_meaning_0 rfl (lv_at hl 0 rfl) ?_
  refine lv_iload_n C.hx C.hb dX4_meaning_1 rfl (lv_at hl 1 rfl) ?_
  refine k_callS (Sc := []) (Sr := mW G h ad σ) (As := [.int x1]) (rest := [.ref h]) C (ctX4_isRider l G x1) hW q2518 q2519 q85 q2520 rfl ⟨by decide, by decide, Eq.trans (b := some 1) (by decide +kernel) rfl⟩ (Nat.le_of_ble_eq_true rfl) (Nat.le_of_ble_eq_true rfl) (Nat.le_refl _) (Nat.le_refl _) hl.1 rfl (Nat.le_of_ble_eq_true rfl) dX4_meaning_2 (k_permR _) (fun _ h => h.elim) (fun v H1 locs1 S1 hQ hz1 hW1 => ?_)
  obtain ⟨rfl, rfl⟩ := hQ
  have hW1 : Ws G A s (mW G h ad σ) H1 locs1 := hW1
  clear hW
  refine W.eq (g2 := F0 m 5 ls [.int (b01 (inR x1 0 3)), .ref h]) rfl ?_
  refine lv_iload_n C.hx C.hb dX4_meaning_5 rfl (lv_at hl 2 rfl) ?_
  refine k_callS (Sc := []) (Sr := mW G h ad σ) (As := [.int x2]) (rest := [.int (b01 (inR x1 0 3)), .ref h]) C (ctX4_isWord l G x2) hW1 q2566 q2567 q85 q2568 rfl ⟨by decide, by decide, Eq.trans (b := some 1) (by decide +kernel) rfl⟩ (Nat.le_of_ble_eq_true rfl) (Nat.le_of_ble_eq_true rfl) (Nat.le_refl _) (Nat.le_refl _) hl.1 rfl (Nat.le_of_ble_eq_true rfl) dX4_meaning_6 (k_permR _) (fun _ h => h.elim) (fun v H2 locs2 S1 hQ hz2 hW2 => ?_)
  obtain ⟨rfl, rfl⟩ := hQ
  have hW2 : Ws G A s (mW G h ad σ) H2 locs2 := hW2
  clear hW1
  refine W.eq (g2 := F0 m 9 ls [.int (b01 (inR x2 0 3)), .int (b01 (inR x1 0 3)), .ref h]) rfl ?_
  refine k_callV (Sc := mW G h ad σ) (Sr := []) (As := [.int (b01 (inR x1 0 3)), .int (b01 (inR x2 0 3))]) (rest := []) C (ctX4_goesBoth l G h ad σ (inR x1 0 3) (inR x2 0 3) hS) hW2 clX4 (hW2.get 0 0 rfl rfl) q2453 q2455 qs47 q85 q2456 rfl rfl ⟨by decide, by decide, Eq.trans (b := some 2) (by decide +kernel) rfl⟩ (Nat.le_of_ble_eq_true rfl) (Nat.le_of_ble_eq_true rfl) (Nat.le_refl _) (Nat.le_refl _) hl.1 rfl (Nat.le_of_ble_eq_true rfl) dX4_meaning_9 (List.Perm.refl _) (fun _ h => h.elim) (fun v H3 locs3 S1 hQ hz3 hW3 => ?_)
  obtain ⟨rfl, rfl⟩ := hQ
  have hW3 : Ws G A s (mW G h ad (s2 σ 37 0 (c2_ (inR x1 0 3) (inR x2 0 3)))) H3 locs3 := hW3
  clear hW2
  refine W.eq (g2 := F0 m 12 ls [.int (b01 ((inR x1 0 3) ∧ (inR x2 0 3)))]) rfl ?_
  refine kb_if_eq (tgt := 24) C dX4_meaning_12 (by decide) (fun c12 => ?_) (fun c12 => ?_)
  · have hc : ¬ (c2_ (inR x1 0 3) (inR x2 0 3)) = 0 := c2_n c12
    refine kn_iconst (a := 0) C (by decide) dX4_meaning_24 ?_
    exact k_iret C hW3 rfl ⟨by rw [if_neg (show ¬ cMean x1 x2 = 0 from hc)], by rw [if_neg (show ¬ cMean x1 x2 = 0 from hc)]; rfl⟩ (Nat.le_refl _) (Nat.le_refl _) dX4_meaning_25
  · have hc : (c2_ (inR x1 0 3) (inR x2 0 3)) = 0 := c2_0 c12
    rw [hc] at hW3
    obtain ⟨hx4, hy4, hz4⟩ := iN_eq (a := 0) (b := 3) (by decide) c12.1
    have hl4 : lv_has ls 3 [(0, .ref h), (1, .int (nI (iN x1))), (2, .int x2)] := by rw [← hx4]; exact hl
    obtain ⟨hx5, hy5, hz5⟩ := iN_eq (a := 0) (b := 3) (by decide) c12.2
    have hl5 : lv_has ls 3 [(0, .ref h), (1, .int (nI (iN x1))), (2, .int (nI (iN x2)))] := by rw [← hx5]; exact hl4
    refine lv_aload_n C.hx C.hb dX4_meaning_15 rfl (lv_at hl5 0 rfl) ?_
    refine lv_iload_n C.hx C.hb dX4_meaning_16 rfl (lv_at hl5 1 rfl) ?_
    refine lv_iload_n C.hx C.hb dX4_meaning_17 rfl (lv_at hl5 2 rfl) ?_
    refine k_callV (Sc := mW G h ad (s2 σ 37 0 0)) (Sr := []) (As := [.int (nI (iN x1)), .int (nI (iN x2))]) (rest := []) C (ctX4_meansOf l G h ad (s2 σ 37 0 0) (iN x1) (iN x2) (hS.s2o (by decide) (Or.inr (by decide))) (by omega) (by omega)) hW3 clX4 (hW3.get 0 0 rfl rfl) q2595 q2597 qs64 q85 q2598 rfl rfl ⟨by decide, by decide, Eq.trans (b := some 2) (by decide +kernel) rfl⟩ (Nat.le_of_ble_eq_true rfl) (Nat.le_of_ble_eq_true rfl) (Nat.le_refl _) (Nat.le_refl _) hl5.1 rfl (Nat.le_of_ble_eq_true rfl) dX4_meaning_18 (List.Perm.refl _) (fun _ h => h.elim) (fun v H6 locs6 S1 hQ hz6 hW6 => ?_)
    obtain ⟨rfl, rfl⟩ := hQ
    have hW6 : Ws G A s (mW G h ad (s2 σ 37 0 0)) H6 locs6 := hW6
    clear hW3
    refine W.eq (g2 := F0 m 21 ls [.int (nI (meansF σ (iN x1) (iN x2)))]) rfl ?_
    refine lv_goto (tgt := 25) C.hx C.hb dX4_meaning_21 (by decide) ?_
    exact k_iret C hW6 rfl ⟨by rw [if_pos (show cMean x1 x2 = 0 from hc)], by rw [if_pos (show cMean x1 x2 = 0 from hc)]⟩ (Nat.le_refl _) (Nat.le_refl _) dX4_meaning_25

def Q_ctX4_inspect (G : GT) (h : Nat) (ad : Nat → Nat) (σ : Sg) (x1 : Int32) : Option Value → List va_W → Prop := fun v S1 => v = some (.int (nI (if cInsp x1 = 0 then depthF σ (iN x1) else 0))) ∧ S1 = mW G h ad (if cInsp x1 = 0 then inspectF σ (iN x1) else k0 σ (cInsp x1))
set_option maxHeartbeats 4000000 in
set_option maxRecDepth 100000 in
theorem ctX4_inspect (l : Launch) (G : GT) (h : Nat) (ad : Nat → Nat) (σ : Sg) (x1 : Int32) (hS : Sf σ) (hIO : inR x1 0 11 → ∀ k, k ≤ σ 36 0 → Bd (inspL σ (iN x1) k)) : Ct l G yX4_inspect cX4_inspect 4 (some .int) 2 47 0 0 [.ref h, .int x1] (mW G h ad σ) noR (Q_ctX4_inspect G h ad σ x1) := by
  refine Ct.of (by decide +kernel) (Nat.le_of_ble_eq_true rfl) ?_
  intro p e s m below meth c A ls C hW hRo hl
  have hl : lv_has ls 4 [(0, .ref h), (1, .int x1)] := hl
  have hB : Bd σ := hS.1
  have h32 : σ 32 0 ≤ 200 := Nat.lt_succ_iff.mp (hB.lt 32 (by decide) 0)
  have h34 : σ 34 0 ≤ 480 := Nat.lt_succ_iff.mp (hB.lt 34 (by decide) 0)
  have h35 : σ 35 0 ≤ 64 := Nat.lt_succ_iff.mp (hB.lt 35 (by decide) 0)
  have h36 : σ 36 0 ≤ 60 := Nat.lt_succ_iff.mp (hB.lt 36 (by decide) 0)
  have h30 : σ 30 0 ≤ 5000 := Nat.lt_succ_iff.mp (hB.lt 30 (by decide) 0)
  refine lv_aload_n C.hx C.hb dX4_inspect_0 rfl (lv_at hl 0 rfl) ?_
  refine lv_iload_n C.hx C.hb dX4_inspect_1 rfl (lv_at hl 1 rfl) ?_
  refine k_callS (Sc := []) (Sr := mW G h ad σ) (As := [.int x1]) (rest := [.ref h]) C (ctX4_isStretch l G x1) hW q2509 q2510 q85 q2511 rfl ⟨by decide, by decide, Eq.trans (b := some 1) (by decide +kernel) rfl⟩ (Nat.le_of_ble_eq_true rfl) (Nat.le_of_ble_eq_true rfl) (Nat.le_refl _) (Nat.le_refl _) hl.1 rfl (Nat.le_of_ble_eq_true rfl) dX4_inspect_2 (k_permR _) (fun _ h => h.elim) (fun v H1 locs1 S1 hQ hz1 hW1 => ?_)
  obtain ⟨rfl, rfl⟩ := hQ
  have hW1 : Ws G A s (mW G h ad σ) H1 locs1 := hW1
  clear hW
  refine W.eq (g2 := F0 m 5 ls [.int (b01 (inR x1 0 11)), .ref h]) rfl ?_
  refine k_callV (Sc := mW G h ad σ) (Sr := []) (As := [.int (b01 (inR x1 0 11))]) (rest := []) C (ctX4_goes l G h ad σ (inR x1 0 11) hS) hW1 clX4 (hW1.get 0 0 rfl rfl) q2527 q2529 qs58 q85 q2530 rfl rfl ⟨by decide, by decide, Eq.trans (b := some 1) (by decide +kernel) rfl⟩ (Nat.le_of_ble_eq_true rfl) (Nat.le_of_ble_eq_true rfl) (Nat.le_refl _) (Nat.le_refl _) hl.1 rfl (Nat.le_of_ble_eq_true rfl) dX4_inspect_5 (List.Perm.refl _) (fun _ h => h.elim) (fun v H2 locs2 S1 hQ hz2 hW2 => ?_)
  obtain ⟨rfl, rfl⟩ := hQ
  have hW2 : Ws G A s (mW G h ad (s2 σ 37 0 (if (inR x1 0 11) then 0 else 1))) H2 locs2 := hW2
  clear hW1
  refine W.eq (g2 := F0 m 8 ls [.int (b01 ((inR x1 0 11)))]) rfl ?_
  refine kb_if_ne (tgt := 13) C dX4_inspect_8 (by decide) (fun c8 => ?_) (fun c8 => ?_)
  · have hc : (if (inR x1 0 11) then 0 else 1) = 0 := c1_0 c8
    rw [hc] at hW2
    obtain ⟨hx3, hy3, hz3⟩ := iN_eq (a := 0) (b := 11) (by decide) c8
    have hl3 : lv_has ls 4 [(0, .ref h), (1, .int (nI (iN x1)))] := by rw [← hx3]; exact hl
    have hI := hIO c8
    have hdl := depthF_lt hB (iN x1) h32
    refine lv_aload_n C.hx C.hb dX4_inspect_13 rfl (lv_at hl3 0 rfl) ?_
    refine lv_iload_n C.hx C.hb dX4_inspect_14 rfl (lv_at hl3 1 rfl) ?_
    refine k_callV (Sc := mW G h ad (s2 σ 37 0 0)) (Sr := []) (As := [.int (nI (iN x1))]) (rest := []) C (ctX4_depthOf l G h ad (s2 σ 37 0 0) (iN x1) (hS.s2o (by decide) (Or.inr (by decide))) (by omega) (dsum_63 hB _ h32)) hW2 clX4 (hW2.get 0 0 rfl rfl) q2603 q2605 qs65 q85 q2606 rfl rfl ⟨by decide, by decide, Eq.trans (b := some 1) (by decide +kernel) rfl⟩ (Nat.le_of_ble_eq_true rfl) (Nat.le_of_ble_eq_true rfl) (Nat.le_refl _) (Nat.le_refl _) hl3.1 rfl (Nat.le_of_ble_eq_true rfl) dX4_inspect_15 (List.Perm.refl _) (fun _ h => h.elim) (fun v H4 locs4 S1 hQ hz4 hW4 => ?_)
    obtain ⟨rfl, rfl⟩ := hQ
    have hW4 : Ws G A s (mW G h ad (s2 σ 37 0 0)) H4 locs4 := hW4
    clear hW2
    refine W.eq (g2 := F0 m 18 ls [.int (nI (depthF σ (iN x1)))]) rfl ?_
    refine lv_istore_n (lv' := [(2, .int (nI (depthF σ (iN x1)))), (0, .ref h), (1, .int (nI (iN x1)))]) C.hx C.hb dX4_inspect_18 rfl hl3 (Nat.le_of_ble_eq_true rfl) rfl (fun ls5 hl5 => ?_)
    clear hl3
    refine lv_aload_n C.hx C.hb dX4_inspect_19 rfl (lv_at hl5 1 rfl) ?_
    refine k_get (v := .ref (ad 2)) C clX4 (hW4.get 0 0 rfl rfl) 2 (Nat.le_of_ble_eq_true rfl) rfl q2326 rfl rfl dX4_inspect_20 ?_
    refine lv_iload_n C.hx C.hb dX4_inspect_23 rfl (lv_at hl5 2 rfl) ?_
    refine lv_iload_n C.hx C.hb dX4_inspect_24 rfl (lv_at hl5 0 rfl) ?_
    refine k_iast (S' := mW G h ad (s2 (s2 σ 37 0 0) 2 (iN x1) (depthF σ (iN x1)))) C hW4 3 0 rfl rfl rfl (by omega) (by decide) dX4_inspect_25 (mset2 G h ad _ (iN x1) (depthF σ (iN x1))) (fun H6 locs6 hW6 => ?_)
    clear hW4
    refine kn_iconst (a := 0) C (by decide) dX4_inspect_26 ?_
    refine lv_istore_n (lv' := [(3, .int (nI 0)), (2, .int (nI (depthF σ (iN x1)))), (0, .ref h), (1, .int (nI (iN x1)))]) C.hx C.hb dX4_inspect_27 rfl hl5 (Nat.le_of_ble_eq_true rfl) rfl (fun ls7 hl7 => ?_)
    clear hl5
    have La : ∀ (k8 : Nat) (m1 : Nat) (τ : Sg), (m1 ≤ σ 36 0) → (τ = inspL σ (iN x1) m1) → σ 36 0 - m1 < k8 → ∀ (H8 : Heap) (locs8 : List Loc) (ls8 : Array Slot), Ws G A s (mW G h ad τ) H8 locs8 → lv_has ls8 4 [(3, .int (nI m1)), (0, .ref h), (1, .int (nI (iN x1))), (2, .int (nI (depthF σ (iN x1))))] → W p l e ({ frames := 2, cells := 0, slots := 0, locals := 47 } : Room) s m ([.ref h, .int x1] : List Value).toArray below meth c H8 locs8 0 0 (MQ below (cQ G A (Q_ctX4_inspect G h ad σ x1)) ([.ref h, .int x1] : List Value).toArray s 0 0 A) (F0 m 28 ls8 []) := by
      intro k8
      induction k8 with
      | zero => intro m1 τ hLa_0 hLa_1 hm8; exact absurd hm8 (Nat.not_lt_zero _)
      | succ k8 ih8 =>
        intro m1 τ hLa_0 hLa_1 hm8 H8 locs8 ls8 hW8 hl8
        have hT : Bd τ := by rw [hLa_1]; exact hI m1 (by omega)
        have t36 : τ 36 0 = σ 36 0 := by rw [hLa_1]; exact inspL_o _ _ _ _ _ (by decide)
        refine lv_iload_n C.hx C.hb dX4_inspect_28 rfl (lv_at hl8 0 rfl) ?_
        refine lv_aload_n C.hx C.hb dX4_inspect_29 rfl (lv_at hl8 1 rfl) ?_
        refine k_get (v := .int (nI (τ 36 0))) C clX4 (hW8.get 0 0 rfl rfl) 36 (Nat.le_of_ble_eq_true rfl) rfl q2360 rfl rfl dX4_inspect_30 ?_
        refine kn_icmp_ge (tgt := 129) C (by omega) (Nat.lt_of_lt_of_le (hT.lt 36 (by decide) 0) (by decide)) dX4_inspect_33 (by decide) (fun c33 => ?_) (fun c33 => ?_)
        · refine lv_iload_n C.hx C.hb dX4_inspect_129 rfl (lv_at hl8 3 rfl) ?_
          exact k_iret C hW8 rfl ⟨by rw [if_pos (show cInsp x1 = 0 from hc)], by rw [if_pos (show cInsp x1 = 0 from hc), hLa_1, show m1 = σ 36 0 by omega]; rfl⟩ (Nat.le_refl _) (Nat.le_refl _) dX4_inspect_130
        · refine lv_aload_n C.hx C.hb dX4_inspect_36 rfl (lv_at hl8 1 rfl) ?_
          refine k_get (v := .ref (ad 18)) C clX4 (hW8.get 0 0 rfl rfl) 18 (Nat.le_of_ble_eq_true rfl) rfl q2342 rfl rfl dX4_inspect_37 ?_
          refine lv_iload_n C.hx C.hb dX4_inspect_40 rfl (lv_at hl8 0 rfl) ?_
          refine k_iald C (f := (fun i => nI (τ 18 i))) rfl (hW8.get 19 0 rfl rfl) (by omega) (by decide) dX4_inspect_41 ?_
          refine lv_iload_n C.hx C.hb dX4_inspect_42 rfl (lv_at hl8 2 rfl) ?_
          refine kn_icmp_ne (tgt := 123) C (Nat.lt_of_lt_of_le (hT.lt 18 (by decide) m1) (by decide)) (by omega) dX4_inspect_43 (by decide) (fun c43 => ?_) (fun c43 => ?_)
          · refine kn_iinc (lv' := [(3, .int (nI (m1 + 1))), (0, .ref h), (1, .int (nI (iN x1))), (2, .int (nI (depthF σ (iN x1))))]) (k := 0) C dX4_inspect_123 hl8 rfl (Nat.le_of_ble_eq_true rfl) rfl (fun ls9 hl9 => ?_)
            clear hl8
            refine lv_goto (tgt := 28) C.hx C.hb dX4_inspect_126 (by decide) ?_
            exact ih8 (m1 + 1) τ (by omega) (by show _ = inspB (iN x1) (depthF σ (iN x1)) m1 (inspL σ (iN x1) m1); rw [← hLa_1]; simp [inspB, c33, c43]) (by omega) _ _ _ hW8 (lv_sub hl9 [0, 1, 2, 3] rfl)
          · refine lv_aload_n C.hx C.hb dX4_inspect_46 rfl (lv_at hl8 1 rfl) ?_
            refine k_get (v := .ref (ad 22)) C clX4 (hW8.get 0 0 rfl rfl) 22 (Nat.le_of_ble_eq_true rfl) rfl q2346 rfl rfl dX4_inspect_47 ?_
            refine lv_iload_n C.hx C.hb dX4_inspect_50 rfl (lv_at hl8 0 rfl) ?_
            refine k_zald C (f := (fun i => nI (τ 22 i))) rfl (hW8.get 23 0 rfl rfl) (by omega) (by decide) dX4_inspect_51 ?_
            refine kn_if_eq (tgt := 123) C (Nat.lt_of_lt_of_le (hT.lt 22 (by decide) m1) (by decide)) dX4_inspect_52 (by decide) (fun c52 => ?_) (fun c52 => ?_)
            · refine kn_iinc (lv' := [(3, .int (nI (m1 + 1))), (0, .ref h), (1, .int (nI (iN x1))), (2, .int (nI (depthF σ (iN x1))))]) (k := 0) C dX4_inspect_123 hl8 rfl (Nat.le_of_ble_eq_true rfl) rfl (fun ls10 hl10 => ?_)
              clear hl8
              refine lv_goto (tgt := 28) C.hx C.hb dX4_inspect_126 (by decide) ?_
              exact ih8 (m1 + 1) τ (by omega) (by show _ = inspB (iN x1) (depthF σ (iN x1)) m1 (inspL σ (iN x1) m1); rw [← hLa_1]; simp [inspB, c33, c43, c52]) (by omega) _ _ _ hW8 (lv_sub hl10 [0, 1, 2, 3] rfl)
            · refine lv_aload_n C.hx C.hb dX4_inspect_55 rfl (lv_at hl8 1 rfl) ?_
              refine k_get (v := .ref (ad 23)) C clX4 (hW8.get 0 0 rfl rfl) 23 (Nat.le_of_ble_eq_true rfl) rfl q2347 rfl rfl dX4_inspect_56 ?_
              refine lv_iload_n C.hx C.hb dX4_inspect_59 rfl (lv_at hl8 0 rfl) ?_
              refine k_zald C (f := (fun i => nI (τ 23 i))) rfl (hW8.get 24 0 rfl rfl) (by omega) (by decide) dX4_inspect_60 ?_
              refine kn_if_eq (tgt := 67) C (Nat.lt_of_lt_of_le (hT.lt 23 (by decide) m1) (by decide)) dX4_inspect_61 (by decide) (fun c61 => ?_) (fun c61 => ?_)
              · refine lv_aload_n C.hx C.hb dX4_inspect_67 rfl (lv_at hl8 1 rfl) ?_
                refine k_get (v := .ref (ad 23)) C clX4 (hW8.get 0 0 rfl rfl) 23 (Nat.le_of_ble_eq_true rfl) rfl q2347 rfl rfl dX4_inspect_68 ?_
                refine lv_iload_n C.hx C.hb dX4_inspect_71 rfl (lv_at hl8 0 rfl) ?_
                refine kn_iconst (a := 1) C (by decide) dX4_inspect_72 ?_
                refine k_zast (S' := mW G h ad (s2 τ 23 m1 1)) C hW8 24 0 rfl rfl rfl (by omega) (by decide) dX4_inspect_73 (mset23 G h ad _ m1) (fun H11 locs11 hW11 => ?_)
                clear hW8
                refine lv_aload_n C.hx C.hb dX4_inspect_74 rfl (lv_at hl8 1 rfl) ?_
                refine k_get (v := .ref (ad 24)) C clX4 (hW11.get 0 0 rfl rfl) 24 (Nat.le_of_ble_eq_true rfl) rfl q2348 rfl rfl dX4_inspect_75 ?_
                refine kn_iconst (a := 4) C (by decide) dX4_inspect_78 ?_
                refine lv_aload_n C.hx C.hb dX4_inspect_79 rfl (lv_at hl8 1 rfl) ?_
                refine k_get (v := .ref (ad 17)) C clX4 (hW11.get 0 0 rfl rfl) 17 (Nat.le_of_ble_eq_true rfl) rfl q2341 rfl rfl dX4_inspect_80 ?_
                refine lv_iload_n C.hx C.hb dX4_inspect_83 rfl (lv_at hl8 0 rfl) ?_
                refine k_iald C (f := (fun i => nI ((s2 τ 23 m1 1) 17 i))) rfl (hW11.get 18 0 rfl rfl) (by omega) (by decide) dX4_inspect_84 ?_
                refine k_op (y := .int (nI (τ 17 m1))) (by simp [s2_rd]) ?_
                refine kn_imul C  dX4_inspect_85 ?_
                refine lv_aload_n C.hx C.hb dX4_inspect_86 rfl (lv_at hl8 1 rfl) ?_
                refine k_get (v := .ref (ad 19)) C clX4 (hW11.get 0 0 rfl rfl) 19 (Nat.le_of_ble_eq_true rfl) rfl q2343 rfl rfl dX4_inspect_87 ?_
                refine lv_iload_n C.hx C.hb dX4_inspect_90 rfl (lv_at hl8 0 rfl) ?_
                refine k_iald C (f := (fun i => nI ((s2 τ 23 m1 1) 19 i))) rfl (hW11.get 20 0 rfl rfl) (by omega) (by decide) dX4_inspect_91 ?_
                refine k_op (y := .int (nI (τ 19 m1))) (by simp [s2_rd]) ?_
                refine kn_iadd C  dX4_inspect_92 ?_
                refine lv_dup2_11 C.hx C.hb dX4_inspect_93 rfl rfl ?_
                refine k_lald C (f := (fun i => lN ((s2 τ 23 m1 1) 24 i))) rfl (hW11.get 25 0 rfl rfl) (by have : τ 17 m1 < 4 := hT.lt 17 (by decide) m1; have : τ 19 m1 < 4 := hT.lt 19 (by decide) m1; omega) (by decide) dX4_inspect_94 ?_
                refine k_op (y := .long (lN (τ 24 ((4 * (τ 17 m1)) + (τ 19 m1))))) (by simp [s2_rd]) ?_
                refine lv_iload_n C.hx C.hb dX4_inspect_95 rfl (lv_at hl8 3 rfl) ?_
                refine kn_i2l C (by omega) dX4_inspect_96 ?_
                refine kn_ladd C  dX4_inspect_97 ?_
                refine k_last (S' := mW G h ad (s2 (s2 τ 23 m1 1) 24 ((4 * (τ 17 m1)) + (τ 19 m1)) ((τ 24 ((4 * (τ 17 m1)) + (τ 19 m1))) + (depthF σ (iN x1))))) C hW11 25 0 rfl rfl rfl (by have : τ 17 m1 < 4 := hT.lt 17 (by decide) m1; have : τ 19 m1 < 4 := hT.lt 19 (by decide) m1; omega) (by decide) dX4_inspect_98 (mset24 G h ad _ ((4 * (τ 17 m1)) + (τ 19 m1)) ((τ 24 ((4 * (τ 17 m1)) + (τ 19 m1))) + (depthF σ (iN x1)))) (fun H12 locs12 hW12 => ?_)
                clear hW11
                refine lv_aload_n C.hx C.hb dX4_inspect_99 rfl (lv_at hl8 1 rfl) ?_
                refine k_get (v := .ref (ad 25)) C clX4 (hW12.get 0 0 rfl rfl) 25 (Nat.le_of_ble_eq_true rfl) rfl q2349 rfl rfl dX4_inspect_100 ?_
                refine kn_iconst (a := 4) C (by decide) dX4_inspect_103 ?_
                refine lv_aload_n C.hx C.hb dX4_inspect_104 rfl (lv_at hl8 1 rfl) ?_
                refine k_get (v := .ref (ad 17)) C clX4 (hW12.get 0 0 rfl rfl) 17 (Nat.le_of_ble_eq_true rfl) rfl q2341 rfl rfl dX4_inspect_105 ?_
                refine lv_iload_n C.hx C.hb dX4_inspect_108 rfl (lv_at hl8 0 rfl) ?_
                refine k_iald C (f := (fun i => nI ((s2 (s2 τ 23 m1 1) 24 ((4 * (τ 17 m1)) + (τ 19 m1)) ((τ 24 ((4 * (τ 17 m1)) + (τ 19 m1))) + (depthF σ (iN x1)))) 17 i))) rfl (hW12.get 18 0 rfl rfl) (by omega) (by decide) dX4_inspect_109 ?_
                refine k_op (y := .int (nI (τ 17 m1))) (by simp [s2_rd]) ?_
                refine kn_imul C  dX4_inspect_110 ?_
                refine lv_aload_n C.hx C.hb dX4_inspect_111 rfl (lv_at hl8 1 rfl) ?_
                refine k_get (v := .ref (ad 19)) C clX4 (hW12.get 0 0 rfl rfl) 19 (Nat.le_of_ble_eq_true rfl) rfl q2343 rfl rfl dX4_inspect_112 ?_
                refine lv_iload_n C.hx C.hb dX4_inspect_115 rfl (lv_at hl8 0 rfl) ?_
                refine k_iald C (f := (fun i => nI ((s2 (s2 τ 23 m1 1) 24 ((4 * (τ 17 m1)) + (τ 19 m1)) ((τ 24 ((4 * (τ 17 m1)) + (τ 19 m1))) + (depthF σ (iN x1)))) 19 i))) rfl (hW12.get 20 0 rfl rfl) (by omega) (by decide) dX4_inspect_116 ?_
                refine k_op (y := .int (nI (τ 19 m1))) (by simp [s2_rd]) ?_
                refine kn_iadd C  dX4_inspect_117 ?_
                refine lv_dup2_11 C.hx C.hb dX4_inspect_118 rfl rfl ?_
                refine k_iald C (f := (fun i => nI ((s2 (s2 τ 23 m1 1) 24 ((4 * (τ 17 m1)) + (τ 19 m1)) ((τ 24 ((4 * (τ 17 m1)) + (τ 19 m1))) + (depthF σ (iN x1)))) 25 i))) rfl (hW12.get 26 0 rfl rfl) (by have : τ 17 m1 < 4 := hT.lt 17 (by decide) m1; have : τ 19 m1 < 4 := hT.lt 19 (by decide) m1; omega) (by decide) dX4_inspect_119 ?_
                refine k_op (y := .int (nI (τ 25 ((4 * (τ 17 m1)) + (τ 19 m1))))) (by simp [s2_rd]) ?_
                refine kn_iconst (a := 1) C (by decide) dX4_inspect_120 ?_
                refine kn_iadd C  dX4_inspect_121 ?_
                refine k_iast (S' := mW G h ad (s2 (s2 (s2 τ 23 m1 1) 24 ((4 * (τ 17 m1)) + (τ 19 m1)) ((τ 24 ((4 * (τ 17 m1)) + (τ 19 m1))) + (depthF σ (iN x1)))) 25 ((4 * (τ 17 m1)) + (τ 19 m1)) ((τ 25 ((4 * (τ 17 m1)) + (τ 19 m1))) + 1))) C hW12 26 0 rfl rfl rfl (by have : τ 17 m1 < 4 := hT.lt 17 (by decide) m1; have : τ 19 m1 < 4 := hT.lt 19 (by decide) m1; omega) (by decide) dX4_inspect_122 (mset25 G h ad _ ((4 * (τ 17 m1)) + (τ 19 m1)) ((τ 25 ((4 * (τ 17 m1)) + (τ 19 m1))) + 1)) (fun H13 locs13 hW13 => ?_)
                clear hW12
                refine kn_iinc (lv' := [(3, .int (nI (m1 + 1))), (0, .ref h), (1, .int (nI (iN x1))), (2, .int (nI (depthF σ (iN x1))))]) (k := 0) C dX4_inspect_123 hl8 rfl (Nat.le_of_ble_eq_true rfl) rfl (fun ls14 hl14 => ?_)
                clear hl8
                refine lv_goto (tgt := 28) C.hx C.hb dX4_inspect_126 (by decide) ?_
                exact ih8 (m1 + 1) (s2 (s2 (s2 τ 23 m1 1) 24 ((4 * (τ 17 m1)) + (τ 19 m1)) ((τ 24 ((4 * (τ 17 m1)) + (τ 19 m1))) + (depthF σ (iN x1)))) 25 ((4 * (τ 17 m1)) + (τ 19 m1)) ((τ 25 ((4 * (τ 17 m1)) + (τ 19 m1))) + 1)) (by omega) (by show _ = inspB (iN x1) (depthF σ (iN x1)) m1 (inspL σ (iN x1) m1); rw [← hLa_1]; simp [inspB, c33, c43, c52, c61]) (by omega) _ _ _ hW13 (lv_sub hl14 [0, 1, 2, 3] rfl)
              · refine lv_goto (tgt := 123) C.hx C.hb dX4_inspect_64 (by decide) ?_
                refine kn_iinc (lv' := [(3, .int (nI (m1 + 1))), (0, .ref h), (1, .int (nI (iN x1))), (2, .int (nI (depthF σ (iN x1))))]) (k := 0) C dX4_inspect_123 hl8 rfl (Nat.le_of_ble_eq_true rfl) rfl (fun ls15 hl15 => ?_)
                clear hl8
                refine lv_goto (tgt := 28) C.hx C.hb dX4_inspect_126 (by decide) ?_
                exact ih8 (m1 + 1) τ (by omega) (by show _ = inspB (iN x1) (depthF σ (iN x1)) m1 (inspL σ (iN x1) m1); rw [← hLa_1]; simp [inspB, c33, c43, c52, c61]) (by omega) _ _ _ hW8 (lv_sub hl15 [0, 1, 2, 3] rfl)
    exact La (σ 36 0 - 0 + 1) 0 (s2 (s2 σ 37 0 0) 2 (iN x1) (depthF σ (iN x1))) (Nat.zero_le _) rfl (Nat.lt_succ_self _) _ _ _ hW6 (lv_sub hl7 [0, 2, 3, 1] rfl)
  · have hc : ¬ (if (inR x1 0 11) then 0 else 1) = 0 := c1_n c8
    refine kn_iconst (a := 0) C (by decide) dX4_inspect_11 ?_
    exact k_iret C hW2 rfl ⟨by rw [if_neg (show ¬ cInsp x1 = 0 from hc)], by rw [if_neg (show ¬ cInsp x1 = 0 from hc)]; rfl⟩ (Nat.le_refl _) (Nat.le_refl _) dX4_inspect_12
