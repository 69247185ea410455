def Q_ctX4_boardErrors (G : GT) (h : Nat) (ad : Nat → Nat) (σ : Sg)  : Option Value → List va_W → Prop := fun v S1 => v = some (.int (nI 0)) ∧ S1 = mW G h ad (k0 σ 0)
set_option maxHeartbeats 4000000 in
set_option maxRecDepth 100000 in
theorem ctX4_boardErrors (l : Launch) (G : GT) (h : Nat) (ad : Nat → Nat) (σ : Sg)  (hS : Sf σ) (hO : BdOk σ) : Ct l G yX4_boardErrors cX4_boardErrors 7 (some .int) 1 23 0 0 [.ref h] (mW G h ad σ) noR (Q_ctX4_boardErrors G h ad σ) := by
  refine Ct.of (by decide +kernel) (Nat.le_of_ble_eq_true rfl) ?_
  intro p e s m below meth c A ls C hW hRo hl
  have hl : lv_has ls 7 [(0, .ref h)] := hl
  have hB : Bd σ := hS.1
  have h32 : σ 32 0 ≤ 200 := Nat.lt_succ_iff.mp (hB.lt 32 (by decide) 0)
  have h34 : σ 34 0 ≤ 480 := Nat.lt_succ_iff.mp (hB.lt 34 (by decide) 0)
  have h35 : σ 35 0 ≤ 64 := Nat.lt_succ_iff.mp (hB.lt 35 (by decide) 0)
  have h36 : σ 36 0 ≤ 60 := Nat.lt_succ_iff.mp (hB.lt 36 (by decide) 0)
  have h30 : σ 30 0 ≤ 5000 := Nat.lt_succ_iff.mp (hB.lt 30 (by decide) 0)
  refine lv_aload_n C.hx C.hb dX4_boardErrors_0 rfl (lv_at hl 0 rfl) ?_
  refine kn_iconst (a := 0) C (by decide) dX4_boardErrors_1 ?_
  refine k_put (S' := mW G h ad (s2 σ 37 0 0)) C clX4 hW 0 0 rfl rfl 37 (Nat.le_of_ble_eq_true rfl) rfl q2361 rfl (fun _ h => h) (Or.inl rfl) (fty := .int) (v := .int (nI 0)) (by decide +kernel) rfl rfl (Nat.le_of_ble_eq_true rfl) dX4_boardErrors_2 (mput37 G h ad _ _) (fun H1 locs1 hW1 => ?_)
  clear hW
  refine kn_iconst (a := 0) C (by decide) dX4_boardErrors_5 ?_
  refine lv_istore_n (lv' := [(1, .int (nI 0)), (0, .ref h)]) C.hx C.hb dX4_boardErrors_6 rfl hl (Nat.le_of_ble_eq_true rfl) rfl (fun ls2 hl2 => ?_)
  clear hl
  refine kn_iconst (a := 0) C (by decide) dX4_boardErrors_7 ?_
  refine lv_istore_n (lv' := [(2, .int (nI 0)), (1, .int (nI 0)), (0, .ref h)]) C.hx C.hb dX4_boardErrors_8 rfl hl2 (Nat.le_of_ble_eq_true rfl) rfl (fun ls3 hl3 => ?_)
  clear hl2
  refine kn_iconst (a := 0) C (by decide) dX4_boardErrors_9 ?_
  refine lv_istore_n (lv' := [(3, .int (nI 0)), (2, .int (nI 0)), (1, .int (nI 0)), (0, .ref h)]) C.hx C.hb dX4_boardErrors_10 rfl hl3 (Nat.le_of_ble_eq_true rfl) rfl (fun ls4 hl4 => ?_)
  clear hl3
  have La : ∀ (k5 : Nat) (k1 : Nat), (k1 ≤ 5) → 5 - k1 < k5 → ∀ (H5 : Heap) (locs5 : List Loc) (ls5 : Array Slot), Ws G A s (mW G h ad (s2 σ 37 0 0)) H5 locs5 → lv_has ls5 7 [(3, .int (nI k1)), (2, .int (nI (allN σ k1))), (0, .ref h), (1, .int (nI 0))] → W p l e ({ frames := 1, cells := 0, slots := 0, locals := 23 } : Room) s m ([.ref h] : List Value).toArray below meth c H5 locs5 0 0 (MQ below (cQ G A (Q_ctX4_boardErrors G h ad σ)) ([.ref h] : List Value).toArray s 0 0 A) (F0 m 11 ls5 []) := by
    intro k5
    induction k5 with
    | zero => intro k1 hLa_0 hm5; exact absurd hm5 (Nat.not_lt_zero _)
    | succ k5 ih5 =>
      intro k1 hLa_0 hm5 H5 locs5 ls5 hW5 hl5
      refine lv_iload_n C.hx C.hb dX4_boardErrors_11 rfl (lv_at hl5 0 rfl) ?_
      refine kn_iconst (a := 4) C (by decide) dX4_boardErrors_12 ?_
      refine kn_icmp_gt (tgt := 30) C (by omega) (by decide) dX4_boardErrors_13 (by decide) (fun c13 => ?_) (fun c13 => ?_)
      · refine kn_iconst (a := 0) C (by decide) dX4_boardErrors_30 ?_
        refine lv_istore_n (lv' := [(3, .int (nI 0)), (2, .int (nI (allN σ k1))), (0, .ref h), (1, .int (nI 0))]) C.hx C.hb dX4_boardErrors_31 rfl hl5 (Nat.le_of_ble_eq_true rfl) rfl (fun ls6 hl6 => ?_)
        clear hl5
        have Lb : ∀ (k7 : Nat) (b1 : Nat), (b1 ≤ σ 32 0) → σ 32 0 - b1 < k7 → ∀ (H7 : Heap) (locs7 : List Loc) (ls7 : Array Slot), Ws G A s (mW G h ad (s2 σ 37 0 0)) H7 locs7 → lv_has ls7 7 [(3, .int (nI b1)), (2, .int (nI (σ 32 0))), (0, .ref h), (1, .int (nI 0))] → W p l e ({ frames := 1, cells := 0, slots := 0, locals := 23 } : Room) s m ([.ref h] : List Value).toArray below meth c H7 locs7 0 0 (MQ below (cQ G A (Q_ctX4_boardErrors G h ad σ)) ([.ref h] : List Value).toArray s 0 0 A) (F0 m 32 ls7 []) := by
          intro k7
          induction k7 with
          | zero => intro b1 hLb_0 hm7; exact absurd hm7 (Nat.not_lt_zero _)
          | succ k7 ih7 =>
            intro b1 hLb_0 hm7 H7 locs7 ls7 hW7 hl7
            refine lv_iload_n C.hx C.hb dX4_boardErrors_32 rfl (lv_at hl7 0 rfl) ?_
            refine lv_aload_n C.hx C.hb dX4_boardErrors_33 rfl (lv_at hl7 2 rfl) ?_
            refine k_get (v := .int (nI (σ 32 0))) C clX4 (hW7.get 0 0 rfl rfl) 32 (Nat.le_of_ble_eq_true rfl) rfl q2356 rfl rfl dX4_boardErrors_34 ?_
            refine kn_icmp_ge (tgt := 117) C (by omega) (Nat.lt_of_lt_of_le (hB.lt 32 (by decide) 0) (by decide)) dX4_boardErrors_37 (by decide) (fun c37 => ?_) (fun c37 => ?_)
            · refine lv_iload_n C.hx C.hb dX4_boardErrors_117 rfl (lv_at hl7 1 rfl) ?_
              refine lv_aload_n C.hx C.hb dX4_boardErrors_118 rfl (lv_at hl7 2 rfl) ?_
              refine k_get (v := .int (nI (σ 32 0))) C clX4 (hW7.get 0 0 rfl rfl) 32 (Nat.le_of_ble_eq_true rfl) rfl q2356 rfl rfl dX4_boardErrors_119 ?_
              refine kn_icmp_ne (tgt := 129) C (Nat.lt_of_lt_of_le (hB.lt 32 (by decide) 0) (by decide)) (Nat.lt_of_lt_of_le (hB.lt 32 (by decide) 0) (by decide)) dX4_boardErrors_122 (by decide) (fun c122 => (absurd rfl c122)) (fun c122 => ?_)
              refine lv_iload_n C.hx C.hb dX4_boardErrors_125 rfl (lv_at hl7 3 rfl) ?_
              refine lv_goto (tgt := 132) C.hx C.hb dX4_boardErrors_126 (by decide) ?_
              exact k_iret C hW7 rfl ⟨rfl, rfl⟩ (Nat.le_refl _) (Nat.le_refl _) dX4_boardErrors_132
            · refine lv_aload_n C.hx C.hb dX4_boardErrors_40 rfl (lv_at hl7 2 rfl) ?_
              refine k_get (v := .ref (ad 6)) C clX4 (hW7.get 0 0 rfl rfl) 6 (Nat.le_of_ble_eq_true rfl) rfl q2330 rfl rfl dX4_boardErrors_41 ?_
              refine lv_iload_n C.hx C.hb dX4_boardErrors_44 rfl (lv_at hl7 0 rfl) ?_
              obtain ⟨ho1, ho2, ho3⟩ := hO b1 (by omega)
              have hdl : σ 11 b1 < 30000 := hB.lt 11 (by decide) b1
              refine k_lald C (f := (fun i => lN ((s2 σ 37 0 0) 6 i))) rfl (hW7.get 7 0 rfl rfl) (by omega) (by decide) dX4_boardErrors_45 ?_
              refine k_op (y := .long (lN (σ 6 b1))) (by simp [s2_rd]) ?_
              refine lv_aload_n C.hx C.hb dX4_boardErrors_46 rfl (lv_at hl7 2 rfl) ?_
              refine k_get (v := .ref (ad 5)) C clX4 (hW7.get 0 0 rfl rfl) 5 (Nat.le_of_ble_eq_true rfl) rfl q2329 rfl rfl dX4_boardErrors_47 ?_
              refine lv_iload_n C.hx C.hb dX4_boardErrors_50 rfl (lv_at hl7 0 rfl) ?_
              refine k_lald C (f := (fun i => lN ((s2 σ 37 0 0) 5 i))) rfl (hW7.get 6 0 rfl rfl) (by omega) (by decide) dX4_boardErrors_51 ?_
              refine k_op (y := .long (lN (σ 5 b1))) (by simp [s2_rd]) ?_
              refine kn_lsub C ho1 dX4_boardErrors_52 ?_
              refine k_op (y := .long (lN (σ 11 b1))) (congrArg (fun z => Value.long (lN z)) ho2) ?_
              refine lv_lstore (lv' := [(4, .long (lN (σ 11 b1))), (3, .int (nI b1)), (2, .int (nI (σ 32 0))), (0, .ref h), (1, .int (nI 0))]) C.hx C.hb dX4_boardErrors_53 hl7 (Nat.le_of_ble_eq_true rfl) rfl (fun ls8 hl8 => ?_)
              clear hl7
              refine lv_lload C.hx C.hb dX4_boardErrors_55 (lv_at hl8 0 rfl) ?_
              refine lv_ldc2 (own := "BogsignModel") (v := (lN 1000)) C.hx C.hb C.hown (C.hts _ q2497) dX4_boardErrors_57 ?_
              refine kl_lt (tgt := 68) C (Nat.lt_of_lt_of_le (hB.lt 11 (by decide) b1) (by decide)) (by decide) dX4_boardErrors_60 dX4_boardErrors_61 (by decide) (fun c60 => ?_) (fun c60 => ?_)
              · refine kn_iconst (a := 0) C (by decide) dX4_boardErrors_68 ?_
                refine lv_istore (lv' := [(6, .int (nI 0)), (4, .long (lN (σ 11 b1))), (3, .int (nI b1)), (2, .int (nI (σ 32 0))), (0, .ref h), (1, .int (nI 0))]) C.hx C.hb dX4_boardErrors_69 hl8 (Nat.le_of_ble_eq_true rfl) rfl (fun ls9 hl9 => ?_)
                clear hl8
                refine lv_iload_n C.hx C.hb dX4_boardErrors_71 rfl (lv_at hl9 5 rfl) ?_
                refine lv_lload C.hx C.hb dX4_boardErrors_72 (lv_at hl9 1 rfl) ?_
                refine lv_aload_n C.hx C.hb dX4_boardErrors_74 rfl (lv_at hl9 4 rfl) ?_
                refine k_get (v := .ref (ad 11)) C clX4 (hW7.get 0 0 rfl rfl) 11 (Nat.le_of_ble_eq_true rfl) rfl q2335 rfl rfl dX4_boardErrors_75 ?_
                refine lv_iload_n C.hx C.hb dX4_boardErrors_78 rfl (lv_at hl9 2 rfl) ?_
                refine k_lald C (f := (fun i => lN ((s2 σ 37 0 0) 11 i))) rfl (hW7.get 12 0 rfl rfl) (by omega) (by decide) dX4_boardErrors_79 ?_
                refine k_op (y := .long (lN (σ 11 b1))) (by simp [s2_rd]) ?_
                refine kl_ne (tgt := 104) C (Nat.lt_of_lt_of_le (hB.lt 11 (by decide) b1) (by decide)) (Nat.lt_of_lt_of_le (hB.lt 11 (by decide) b1) (by decide)) dX4_boardErrors_80 dX4_boardErrors_81 (by decide) (fun c80 => (absurd rfl c80)) (fun c80 => ?_)
                refine lv_iload C.hx C.hb dX4_boardErrors_84 (lv_at hl9 0 rfl) ?_
                refine lv_aload_n C.hx C.hb dX4_boardErrors_86 rfl (lv_at hl9 4 rfl) ?_
                refine k_get (v := .ref (ad 7)) C clX4 (hW7.get 0 0 rfl rfl) 7 (Nat.le_of_ble_eq_true rfl) rfl q2331 rfl rfl dX4_boardErrors_87 ?_
                refine lv_iload_n C.hx C.hb dX4_boardErrors_90 rfl (lv_at hl9 2 rfl) ?_
                refine k_iald C (f := (fun i => nI ((s2 σ 37 0 0) 7 i))) rfl (hW7.get 8 0 rfl rfl) (by omega) (by decide) dX4_boardErrors_91 ?_
                refine k_op (y := .int (nI (σ 7 b1))) (by simp [s2_rd]) ?_
                refine kn_iconst (a := 3) C (by decide) dX4_boardErrors_92 ?_
                refine kn_icmp_ne (tgt := 100) C (Nat.lt_of_lt_of_le (hB.lt 7 (by decide) b1) (by decide)) (by decide) dX4_boardErrors_93 (by decide) (fun c93 => ?_) (fun c93 => ?_)
                · refine kn_iconst (a := 0) C (by decide) dX4_boardErrors_100 ?_
                  refine kn_icmp_eq (tgt := 108) C (by decide) (by decide) dX4_boardErrors_101 (by decide) (fun cq => ?_) (fun cq => absurd cq (by decide))
                  refine kn_iconst (a := 0) C (by decide) dX4_boardErrors_108 ?_
                  refine kn_iadd C  dX4_boardErrors_109 ?_
                  refine lv_istore_n (lv' := [(1, .int (nI (0 + 0))), (6, .int (nI 0)), (4, .long (lN (σ 11 b1))), (3, .int (nI b1)), (2, .int (nI (σ 32 0))), (0, .ref h)]) C.hx C.hb dX4_boardErrors_110 rfl hl9 (Nat.le_of_ble_eq_true rfl) rfl (fun ls10 hl10 => ?_)
                  clear hl9
                  refine kn_iinc (lv' := [(3, .int (nI (b1 + 1))), (1, .int (nI (0 + 0))), (6, .int (nI 0)), (4, .long (lN (σ 11 b1))), (2, .int (nI (σ 32 0))), (0, .ref h)]) (k := 3) C dX4_boardErrors_111 hl10 rfl (Nat.le_of_ble_eq_true rfl) rfl (fun ls11 hl11 => ?_)
                  clear hl10
                  refine lv_goto (tgt := 32) C.hx C.hb dX4_boardErrors_114 (by decide) ?_
                  have e12 : 0 = (0 + 0) := by first | rfl | exact (allN_all hB).symm | (rw [← allN_all hB, show k1 = 5 by omega])
                  exact ih7 (b1 + 1) (by omega) (by omega) _ _ _ hW7 (by rw [e12]; exact (lv_sub hl11 [0, 4, 5, 1] rfl))
                · exact absurd (ho3.mpr c93) (by omega)
              · refine kn_iconst (a := 1) C (by decide) dX4_boardErrors_64 ?_
                refine lv_goto (tgt := 69) C.hx C.hb dX4_boardErrors_65 (by decide) ?_
                refine lv_istore (lv' := [(6, .int (nI 1)), (4, .long (lN (σ 11 b1))), (3, .int (nI b1)), (2, .int (nI (σ 32 0))), (0, .ref h), (1, .int (nI 0))]) C.hx C.hb dX4_boardErrors_69 hl8 (Nat.le_of_ble_eq_true rfl) rfl (fun ls13 hl13 => ?_)
                clear hl8
                refine lv_iload_n C.hx C.hb dX4_boardErrors_71 rfl (lv_at hl13 5 rfl) ?_
                refine lv_lload C.hx C.hb dX4_boardErrors_72 (lv_at hl13 1 rfl) ?_
                refine lv_aload_n C.hx C.hb dX4_boardErrors_74 rfl (lv_at hl13 4 rfl) ?_
                refine k_get (v := .ref (ad 11)) C clX4 (hW7.get 0 0 rfl rfl) 11 (Nat.le_of_ble_eq_true rfl) rfl q2335 rfl rfl dX4_boardErrors_75 ?_
                refine lv_iload_n C.hx C.hb dX4_boardErrors_78 rfl (lv_at hl13 2 rfl) ?_
                refine k_lald C (f := (fun i => lN ((s2 σ 37 0 0) 11 i))) rfl (hW7.get 12 0 rfl rfl) (by omega) (by decide) dX4_boardErrors_79 ?_
                refine k_op (y := .long (lN (σ 11 b1))) (by simp [s2_rd]) ?_
                refine kl_ne (tgt := 104) C (Nat.lt_of_lt_of_le (hB.lt 11 (by decide) b1) (by decide)) (Nat.lt_of_lt_of_le (hB.lt 11 (by decide) b1) (by decide)) dX4_boardErrors_80 dX4_boardErrors_81 (by decide) (fun c80 => (absurd rfl c80)) (fun c80 => ?_)
                refine lv_iload C.hx C.hb dX4_boardErrors_84 (lv_at hl13 0 rfl) ?_
                refine lv_aload_n C.hx C.hb dX4_boardErrors_86 rfl (lv_at hl13 4 rfl) ?_
                refine k_get (v := .ref (ad 7)) C clX4 (hW7.get 0 0 rfl rfl) 7 (Nat.le_of_ble_eq_true rfl) rfl q2331 rfl rfl dX4_boardErrors_87 ?_
                refine lv_iload_n C.hx C.hb dX4_boardErrors_90 rfl (lv_at hl13 2 rfl) ?_
                refine k_iald C (f := (fun i => nI ((s2 σ 37 0 0) 7 i))) rfl (hW7.get 8 0 rfl rfl) (by omega) (by decide) dX4_boardErrors_91 ?_
                refine k_op (y := .int (nI (σ 7 b1))) (by simp [s2_rd]) ?_
                refine kn_iconst (a := 3) C (by decide) dX4_boardErrors_92 ?_
                refine kn_icmp_ne (tgt := 100) C (Nat.lt_of_lt_of_le (hB.lt 7 (by decide) b1) (by decide)) (by decide) dX4_boardErrors_93 (by decide) (fun c93 => ?_) (fun c93 => ?_)
                · exact absurd (ho3.mp (by omega)) c93
                · refine kn_iconst (a := 1) C (by decide) dX4_boardErrors_96 ?_
                  refine lv_goto (tgt := 101) C.hx C.hb dX4_boardErrors_97 (by decide) ?_
                  refine kn_icmp_eq (tgt := 108) C (by decide) (by decide) dX4_boardErrors_101 (by decide) (fun cq => ?_) (fun cq => absurd cq (by decide))
                  refine kn_iconst (a := 0) C (by decide) dX4_boardErrors_108 ?_
                  refine kn_iadd C  dX4_boardErrors_109 ?_
                  refine lv_istore_n (lv' := [(1, .int (nI (0 + 0))), (6, .int (nI 1)), (4, .long (lN (σ 11 b1))), (3, .int (nI b1)), (2, .int (nI (σ 32 0))), (0, .ref h)]) C.hx C.hb dX4_boardErrors_110 rfl hl13 (Nat.le_of_ble_eq_true rfl) rfl (fun ls14 hl14 => ?_)
                  clear hl13
                  refine kn_iinc (lv' := [(3, .int (nI (b1 + 1))), (1, .int (nI (0 + 0))), (6, .int (nI 1)), (4, .long (lN (σ 11 b1))), (2, .int (nI (σ 32 0))), (0, .ref h)]) (k := 3) C dX4_boardErrors_111 hl14 rfl (Nat.le_of_ble_eq_true rfl) rfl (fun ls15 hl15 => ?_)
                  clear hl14
                  refine lv_goto (tgt := 32) C.hx C.hb dX4_boardErrors_114 (by decide) ?_
                  have e16 : 0 = (0 + 0) := by first | rfl | exact (allN_all hB).symm | (rw [← allN_all hB, show k1 = 5 by omega])
                  exact ih7 (b1 + 1) (by omega) (by omega) _ _ _ hW7 (by rw [e16]; exact (lv_sub hl15 [0, 4, 5, 1] rfl))
        have e17 : (σ 32 0) = (allN σ k1) := by first | rfl | exact (allN_all hB).symm | (rw [← allN_all hB, show k1 = 5 by omega])
        exact Lb (σ 32 0 - 0 + 1) 0 (Nat.zero_le _) (Nat.lt_succ_self _) _ _ _ hW5 (by rw [e17]; exact (lv_sub hl6 [0, 1, 2, 3] rfl))
      · refine lv_iload_n C.hx C.hb dX4_boardErrors_16 rfl (lv_at hl5 1 rfl) ?_
        refine lv_aload_n C.hx C.hb dX4_boardErrors_17 rfl (lv_at hl5 2 rfl) ?_
        refine lv_iload_n C.hx C.hb dX4_boardErrors_18 rfl (lv_at hl5 0 rfl) ?_
        refine k_callV (Sc := mW G h ad (s2 σ 37 0 0)) (Sr := []) (As := [.int (nI k1)]) (rest := [.int (nI (allN σ k1))]) C (ctX4_count l G h ad (s2 σ 37 0 0) k1 (hS.s2o (by decide) (Or.inr (by decide))) (by omega)) hW5 clX4 (hW5.get 0 0 rfl rfl) q2469 q2471 qs51 q85 q2472 rfl rfl ⟨by decide, by decide, Eq.trans (b := some 1) (by decide +kernel) rfl⟩ (Nat.le_of_ble_eq_true rfl) (Nat.le_of_ble_eq_true rfl) (Nat.le_refl _) (Nat.le_refl _) hl5.1 rfl (Nat.le_of_ble_eq_true rfl) dX4_boardErrors_19 (List.Perm.refl _) (fun _ h => h.elim) (fun v H18 locs18 S1 hQ hz18 hW18 => ?_)
        obtain ⟨rfl, rfl⟩ := hQ
        have hW18 : Ws G A s (mW G h ad (s2 σ 37 0 0)) H18 locs18 := hW18
        clear hW5
        refine W.eq (g2 := F0 m 22 ls5 [.int (nI (countN σ k1 (σ 32 0))), .int (nI (allN σ k1))]) rfl ?_
        refine kn_iadd C  dX4_boardErrors_22 ?_
        refine lv_istore_n (lv' := [(2, .int (nI ((allN σ k1) + (countN σ k1 (σ 32 0))))), (3, .int (nI k1)), (0, .ref h), (1, .int (nI 0))]) C.hx C.hb dX4_boardErrors_23 rfl hl5 (Nat.le_of_ble_eq_true rfl) rfl (fun ls19 hl19 => ?_)
        clear hl5
        refine kn_iinc (lv' := [(3, .int (nI (k1 + 1))), (2, .int (nI ((allN σ k1) + (countN σ k1 (σ 32 0))))), (0, .ref h), (1, .int (nI 0))]) (k := 1) C dX4_boardErrors_24 hl19 rfl (Nat.le_of_ble_eq_true rfl) rfl (fun ls20 hl20 => ?_)
        clear hl19
        refine lv_goto (tgt := 11) C.hx C.hb dX4_boardErrors_27 (by decide) ?_
        have e21 : (allN σ (k1 + 1)) = ((allN σ k1) + (countN σ k1 (σ 32 0))) := by rfl
        exact ih5 (k1 + 1) (by omega) (by omega) _ _ _ hW18 (by rw [e21]; exact (lv_sub hl20 [0, 1, 2, 3] rfl))
  have e22 : (allN σ 0) = 0 := by rfl
  exact La (5 - 0 + 1) 0 (Nat.zero_le _) (Nat.lt_succ_self _) _ _ _ hW1 (by rw [e22]; exact (lv_sub hl4 [0, 1, 3, 2] rfl))

def Q_ctX4_meanDepth (G : GT) (h : Nat) (ad : Nat → Nat) (σ : Sg)  : Option Value → List va_W → Prop := fun v S1 => v = some (.double (meanV σ)) ∧ S1 = mW G h ad (k0 σ 0)
set_option maxHeartbeats 4000000 in
set_option maxRecDepth 100000 in
theorem ctX4_meanDepth (l : Launch) (G : GT) (h : Nat) (ad : Nat → Nat) (σ : Sg)  (hS : Sf σ) : Ct l G yX4_meanDepth cX4_meanDepth 4 (some .double) 1 23 0 0 [.ref h] (mW G h ad σ) noR (Q_ctX4_meanDepth G h ad σ) := by
  refine Ct.of (by decide +kernel) (Nat.le_of_ble_eq_true rfl) ?_
  intro p e s m below meth c A ls C hW hRo hl
  have hl : lv_has ls 4 [(0, .ref h)] := hl
  have hB : Bd σ := hS.1
  have h32 : σ 32 0 ≤ 200 := Nat.lt_succ_iff.mp (hB.lt 32 (by decide) 0)
  have h34 : σ 34 0 ≤ 480 := Nat.lt_succ_iff.mp (hB.lt 34 (by decide) 0)
  have h35 : σ 35 0 ≤ 64 := Nat.lt_succ_iff.mp (hB.lt 35 (by decide) 0)
  have h36 : σ 36 0 ≤ 60 := Nat.lt_succ_iff.mp (hB.lt 36 (by decide) 0)
  have h30 : σ 30 0 ≤ 5000 := Nat.lt_succ_iff.mp (hB.lt 30 (by decide) 0)
  refine lv_aload_n C.hx C.hb dX4_meanDepth_0 rfl (lv_at hl 0 rfl) ?_
  refine kn_iconst (a := 0) C (by decide) dX4_meanDepth_1 ?_
  refine k_put (S' := mW G h ad (s2 σ 37 0 0)) C clX4 hW 0 0 rfl rfl 37 (Nat.le_of_ble_eq_true rfl) rfl q2361 rfl (fun _ h => h) (Or.inl rfl) (fty := .int) (v := .int (nI 0)) (by decide +kernel) rfl rfl (Nat.le_of_ble_eq_true rfl) dX4_meanDepth_2 (mput37 G h ad _ _) (fun H1 locs1 hW1 => ?_)
  clear hW
  refine kn_lconst (a := 0) C rfl dX4_meanDepth_5 ?_
  refine lv_lstore_n (lv' := [(1, .long (lN 0)), (0, .ref h)]) C.hx C.hb dX4_meanDepth_6 rfl hl (Nat.le_of_ble_eq_true rfl) rfl (fun ls2 hl2 => ?_)
  clear hl
  refine kn_iconst (a := 0) C (by decide) dX4_meanDepth_7 ?_
  refine lv_istore_n (lv' := [(3, .int (nI 0)), (1, .long (lN 0)), (0, .ref h)]) C.hx C.hb dX4_meanDepth_8 rfl hl2 (Nat.le_of_ble_eq_true rfl) rfl (fun ls3 hl3 => ?_)
  clear hl2
  have La : ∀ (k4 : Nat) (b1 : Nat), (b1 ≤ σ 32 0) → σ 32 0 - b1 < k4 → ∀ (H4 : Heap) (locs4 : List Loc) (ls4 : Array Slot), Ws G A s (mW G h ad (s2 σ 37 0 0)) H4 locs4 → lv_has ls4 4 [(1, .long (lN (mdSum σ b1))), (3, .int (nI b1)), (0, .ref h)] → W p l e ({ frames := 1, cells := 0, slots := 0, locals := 23 } : Room) s m ([.ref h] : List Value).toArray below meth c H4 locs4 0 0 (MQ below (cQ G A (Q_ctX4_meanDepth G h ad σ)) ([.ref h] : List Value).toArray s 0 0 A) (F0 m 9 ls4 []) := by
    intro k4
    induction k4 with
    | zero => intro b1 hLa_0 hm4; exact absurd hm4 (Nat.not_lt_zero _)
    | succ k4 ih4 =>
      intro b1 hLa_0 hm4 H4 locs4 ls4 hW4 hl4
      refine lv_iload_n C.hx C.hb dX4_meanDepth_9 rfl (lv_at hl4 1 rfl) ?_
      refine lv_aload_n C.hx C.hb dX4_meanDepth_10 rfl (lv_at hl4 2 rfl) ?_
      refine k_get (v := .int (nI (σ 32 0))) C clX4 (hW4.get 0 0 rfl rfl) 32 (Nat.le_of_ble_eq_true rfl) rfl q2356 rfl rfl dX4_meanDepth_11 ?_
      refine kn_icmp_ge (tgt := 46) C (by omega) (Nat.lt_of_lt_of_le (hB.lt 32 (by decide) 0) (by decide)) dX4_meanDepth_14 (by decide) (fun c14 => ?_) (fun c14 => ?_)
      · obtain rfl : b1 = σ 32 0 := by omega
        have hcl := count_le σ 2 (σ 32 0)
        refine lv_aload_n C.hx C.hb dX4_meanDepth_46 rfl (lv_at hl4 2 rfl) ?_
        refine kn_iconst (a := 2) C (by decide) dX4_meanDepth_47 ?_
        refine k_callV (Sc := mW G h ad (s2 σ 37 0 0)) (Sr := []) (As := [.int (nI 2)]) (rest := []) C (ctX4_count l G h ad (s2 σ 37 0 0) 2 (hS.s2o (by decide) (Or.inr (by decide))) (by decide)) hW4 clX4 (hW4.get 0 0 rfl rfl) q2469 q2471 qs51 q85 q2472 rfl rfl ⟨by decide, by decide, Eq.trans (b := some 1) (by decide +kernel) rfl⟩ (Nat.le_of_ble_eq_true rfl) (Nat.le_of_ble_eq_true rfl) (Nat.le_refl _) (Nat.le_refl _) hl4.1 rfl (Nat.le_of_ble_eq_true rfl) dX4_meanDepth_48 (List.Perm.refl _) (fun _ h => h.elim) (fun v H5 locs5 S1 hQ hz5 hW5 => ?_)
        obtain ⟨rfl, rfl⟩ := hQ
        have hW5 : Ws G A s (mW G h ad (s2 σ 37 0 0)) H5 locs5 := hW5
        clear hW4
        refine W.eq (g2 := F0 m 51 ls4 [.int (nI (countN σ 2 (σ 32 0)))]) rfl ?_
        refine kn_if_ne (tgt := 58) C (by have : σ 2 (σ 32 0) < 4294967296 := hB.lt 2 (by decide) (σ 32 0); omega) dX4_meanDepth_51 (by decide) (fun c51 => ?_) (fun c51 => ?_)
        · refine lv_lload_n C.hx C.hb dX4_meanDepth_58 rfl (lv_at hl4 0 rfl) ?_
          refine lv_l2d C.hx C.hb dX4_meanDepth_59 ?_
          refine lv_aload_n C.hx C.hb dX4_meanDepth_60 rfl (lv_at hl4 2 rfl) ?_
          refine kn_iconst (a := 2) C (by decide) dX4_meanDepth_61 ?_
          refine k_callV (Sc := mW G h ad (s2 σ 37 0 0)) (Sr := []) (As := [.int (nI 2)]) (rest := [.double (FP.l2d (lN (mdSum σ (σ 32 0))))]) C (ctX4_count l G h ad (s2 σ 37 0 0) 2 (hS.s2o (by decide) (Or.inr (by decide))) (by decide)) hW5 clX4 (hW5.get 0 0 rfl rfl) q2469 q2471 qs51 q85 q2472 rfl rfl ⟨by decide, by decide, Eq.trans (b := some 1) (by decide +kernel) rfl⟩ (Nat.le_of_ble_eq_true rfl) (Nat.le_of_ble_eq_true rfl) (Nat.le_refl _) (Nat.le_refl _) hl4.1 rfl (Nat.le_of_ble_eq_true rfl) dX4_meanDepth_62 (List.Perm.refl _) (fun _ h => h.elim) (fun v H6 locs6 S1 hQ hz6 hW6 => ?_)
          obtain ⟨rfl, rfl⟩ := hQ
          have hW6 : Ws G A s (mW G h ad (s2 σ 37 0 0)) H6 locs6 := hW6
          clear hW5
          refine W.eq (g2 := F0 m 65 ls4 [.int (nI (countN σ 2 (σ 32 0))), .double (FP.l2d (lN (mdSum σ (σ 32 0))))]) rfl ?_
          refine lv_i2d C.hx C.hb dX4_meanDepth_65 ?_
          refine lv_ddiv C.hx C.hb dX4_meanDepth_66 (mean_ok (by omega) (by omega)) ?_
          exact k_dret C hW6 rfl ⟨by unfold meanV; rw [if_neg c51], rfl⟩ (Nat.le_refl _) (Nat.le_refl _) dX4_meanDepth_67
        · refine lv_dconst0 C.hx C.hb dX4_meanDepth_54 ?_
          refine lv_goto (tgt := 67) C.hx C.hb dX4_meanDepth_55 (by decide) ?_
          exact k_dret C hW5 rfl ⟨by unfold meanV; rw [if_pos c51], rfl⟩ (Nat.le_refl _) (Nat.le_refl _) dX4_meanDepth_67
      · refine lv_lload_n C.hx C.hb dX4_meanDepth_17 rfl (lv_at hl4 0 rfl) ?_
        refine lv_aload_n C.hx C.hb dX4_meanDepth_18 rfl (lv_at hl4 2 rfl) ?_
        refine k_get (v := .ref (ad 7)) C clX4 (hW4.get 0 0 rfl rfl) 7 (Nat.le_of_ble_eq_true rfl) rfl q2331 rfl rfl dX4_meanDepth_19 ?_
        refine lv_iload_n C.hx C.hb dX4_meanDepth_22 rfl (lv_at hl4 1 rfl) ?_
        refine k_iald C (f := (fun i => nI ((s2 σ 37 0 0) 7 i))) rfl (hW4.get 8 0 rfl rfl) (by omega) (by decide) dX4_meanDepth_23 ?_
        refine k_op (y := .int (nI (σ 7 b1))) (by simp [s2_rd]) ?_
        refine kn_iconst (a := 2) C (by decide) dX4_meanDepth_24 ?_
        refine kn_icmp_ne (tgt := 37) C (Nat.lt_of_lt_of_le (hB.lt 7 (by decide) b1) (by decide)) (by decide) dX4_meanDepth_25 (by decide) (fun c25 => ?_) (fun c25 => ?_)
        · refine kn_lconst (a := 0) C rfl dX4_meanDepth_37 ?_
          refine kn_ladd C  dX4_meanDepth_38 ?_
          refine lv_lstore_n (lv' := [(1, .long (lN ((mdSum σ b1) + 0))), (3, .int (nI b1)), (0, .ref h)]) C.hx C.hb dX4_meanDepth_39 rfl hl4 (Nat.le_of_ble_eq_true rfl) rfl (fun ls7 hl7 => ?_)
          clear hl4
          refine kn_iinc (lv' := [(3, .int (nI (b1 + 1))), (1, .long (lN ((mdSum σ b1) + 0))), (0, .ref h)]) (k := 1) C dX4_meanDepth_40 hl7 rfl (Nat.le_of_ble_eq_true rfl) rfl (fun ls8 hl8 => ?_)
          clear hl7
          refine lv_goto (tgt := 9) C.hx C.hb dX4_meanDepth_43 (by decide) ?_
          have e9 : (mdSum σ (b1 + 1)) = ((mdSum σ b1) + 0) := by first | rfl | simp [mdSum, lp, c14, c25]
          exact ih4 (b1 + 1) (by omega) (by omega) _ _ _ hW4 (by rw [e9]; exact (lv_sub hl8 [1, 0, 2] rfl))
        · refine lv_aload_n C.hx C.hb dX4_meanDepth_28 rfl (lv_at hl4 2 rfl) ?_
          refine k_get (v := .ref (ad 11)) C clX4 (hW4.get 0 0 rfl rfl) 11 (Nat.le_of_ble_eq_true rfl) rfl q2335 rfl rfl dX4_meanDepth_29 ?_
          refine lv_iload_n C.hx C.hb dX4_meanDepth_32 rfl (lv_at hl4 1 rfl) ?_
          refine k_lald C (f := (fun i => lN ((s2 σ 37 0 0) 11 i))) rfl (hW4.get 12 0 rfl rfl) (by omega) (by decide) dX4_meanDepth_33 ?_
          refine k_op (y := .long (lN (σ 11 b1))) (by simp [s2_rd]) ?_
          refine lv_goto (tgt := 38) C.hx C.hb dX4_meanDepth_34 (by decide) ?_
          refine kn_ladd C  dX4_meanDepth_38 ?_
          refine lv_lstore_n (lv' := [(1, .long (lN ((mdSum σ b1) + (σ 11 b1)))), (3, .int (nI b1)), (0, .ref h)]) C.hx C.hb dX4_meanDepth_39 rfl hl4 (Nat.le_of_ble_eq_true rfl) rfl (fun ls10 hl10 => ?_)
          clear hl4
          refine kn_iinc (lv' := [(3, .int (nI (b1 + 1))), (1, .long (lN ((mdSum σ b1) + (σ 11 b1)))), (0, .ref h)]) (k := 1) C dX4_meanDepth_40 hl10 rfl (Nat.le_of_ble_eq_true rfl) rfl (fun ls11 hl11 => ?_)
          clear hl10
          refine lv_goto (tgt := 9) C.hx C.hb dX4_meanDepth_43 (by decide) ?_
          have e12 : (mdSum σ (b1 + 1)) = ((mdSum σ b1) + (σ 11 b1)) := by first | rfl | simp [mdSum, lp, c14, c25]
          exact ih4 (b1 + 1) (by omega) (by omega) _ _ _ hW4 (by rw [e12]; exact (lv_sub hl11 [1, 0, 2] rfl))
  have e13 : (mdSum σ 0) = 0 := by first | rfl | simp [mdSum, lp, ]
  exact La (σ 32 0 - 0 + 1) 0 (Nat.zero_le _) (Nat.lt_succ_self _) _ _ _ hW1 (by rw [e13]; exact (lv_sub hl3 [1, 0, 2] rfl))

def Q_ctX4_doubtedShare (G : GT) (h : Nat) (ad : Nat → Nat) (σ : Sg)  : Option Value → List va_W → Prop := fun v S1 => v = some (.float (FP.fdiv (FP.i2f (nI (dbN σ 6))) 1086324736)) ∧ S1 = mW G h ad (k0 σ 0)
set_option maxHeartbeats 4000000 in
set_option maxRecDepth 100000 in
theorem ctX4_doubtedShare (l : Launch) (G : GT) (h : Nat) (ad : Nat → Nat) (σ : Sg)  (hS : Sf σ) (hF : ∀ s, σ 2 s = NONE ∨ σ 2 s < 2 ^ 30) : Ct l G yX4_doubtedShare cX4_doubtedShare 3 (some .float) 3 67 0 0 [.ref h] (mW G h ad σ) noR (Q_ctX4_doubtedShare G h ad σ) := by
  refine Ct.of (by decide +kernel) (Nat.le_of_ble_eq_true rfl) ?_
  intro p e s m below meth c A ls C hW hRo hl
  have hl : lv_has ls 3 [(0, .ref h)] := hl
  have hB : Bd σ := hS.1
  have h32 : σ 32 0 ≤ 200 := Nat.lt_succ_iff.mp (hB.lt 32 (by decide) 0)
  have h34 : σ 34 0 ≤ 480 := Nat.lt_succ_iff.mp (hB.lt 34 (by decide) 0)
  have h35 : σ 35 0 ≤ 64 := Nat.lt_succ_iff.mp (hB.lt 35 (by decide) 0)
  have h36 : σ 36 0 ≤ 60 := Nat.lt_succ_iff.mp (hB.lt 36 (by decide) 0)
  have h30 : σ 30 0 ≤ 5000 := Nat.lt_succ_iff.mp (hB.lt 30 (by decide) 0)
  refine lv_aload_n C.hx C.hb dX4_doubtedShare_0 rfl (lv_at hl 0 rfl) ?_
  refine kn_iconst (a := 0) C (by decide) dX4_doubtedShare_1 ?_
  refine k_put (S' := mW G h ad (s2 σ 37 0 0)) C clX4 hW 0 0 rfl rfl 37 (Nat.le_of_ble_eq_true rfl) rfl q2361 rfl (fun _ h => h) (Or.inl rfl) (fty := .int) (v := .int (nI 0)) (by decide +kernel) rfl rfl (Nat.le_of_ble_eq_true rfl) dX4_doubtedShare_2 (mput37 G h ad _ _) (fun H1 locs1 hW1 => ?_)
  clear hW
  refine kn_iconst (a := 0) C (by decide) dX4_doubtedShare_5 ?_
  refine lv_istore_n (lv' := [(1, .int (nI 0)), (0, .ref h)]) C.hx C.hb dX4_doubtedShare_6 rfl hl (Nat.le_of_ble_eq_true rfl) rfl (fun ls2 hl2 => ?_)
  clear hl
  refine kn_iconst (a := 0) C (by decide) dX4_doubtedShare_7 ?_
  refine lv_istore_n (lv' := [(2, .int (nI 0)), (1, .int (nI 0)), (0, .ref h)]) C.hx C.hb dX4_doubtedShare_8 rfl hl2 (Nat.le_of_ble_eq_true rfl) rfl (fun ls3 hl3 => ?_)
  clear hl2
  have La : ∀ (k4 : Nat) (k1 : Nat), (k1 ≤ 6) → 6 - k1 < k4 → ∀ (H4 : Heap) (locs4 : List Loc) (ls4 : Array Slot), Ws G A s (mW G h ad (s2 σ 37 0 0)) H4 locs4 → lv_has ls4 3 [(1, .int (nI (dbN σ k1))), (2, .int (nI k1)), (0, .ref h)] → W p l e ({ frames := 3, cells := 0, slots := 0, locals := 67 } : Room) s m ([.ref h] : List Value).toArray below meth c H4 locs4 0 0 (MQ below (cQ G A (Q_ctX4_doubtedShare G h ad σ)) ([.ref h] : List Value).toArray s 0 0 A) (F0 m 9 ls4 []) := by
    intro k4
    induction k4 with
    | zero => intro k1 hLa_0 hm4; exact absurd hm4 (Nat.not_lt_zero _)
    | succ k4 ih4 =>
      intro k1 hLa_0 hm4 H4 locs4 ls4 hW4 hl4
      refine lv_iload_n C.hx C.hb dX4_doubtedShare_9 rfl (lv_at hl4 1 rfl) ?_
      refine kn_bipush (a := 6) C (by decide) dX4_doubtedShare_10 ?_
      refine kn_icmp_ge (tgt := 37) C (by omega) (by decide) dX4_doubtedShare_12 (by decide) (fun c12 => ?_) (fun c12 => ?_)
      · obtain rfl : k1 = 6 := by omega
        have hcl := dbN_le σ 6
        refine lv_iload_n C.hx C.hb dX4_doubtedShare_37 rfl (lv_at hl4 0 rfl) ?_
        refine lv_i2f C.hx C.hb dX4_doubtedShare_38 ?_
        refine lv_ldcf (own := "BogsignModel") (v := 1086324736) C.hx C.hb C.hown (C.hts _ q2655) dX4_doubtedShare_39 ?_
        refine lv_fdiv C.hx C.hb dX4_doubtedShare_41 (share_ok _ (by omega)) ?_
        exact k_fret C hW4 rfl ⟨rfl, rfl⟩ (Nat.le_refl _) (Nat.le_refl _) dX4_doubtedShare_42
      · refine lv_iload_n C.hx C.hb dX4_doubtedShare_15 rfl (lv_at hl4 0 rfl) ?_
        refine lv_aload_n C.hx C.hb dX4_doubtedShare_16 rfl (lv_at hl4 2 rfl) ?_
        refine lv_iload_n C.hx C.hb dX4_doubtedShare_17 rfl (lv_at hl4 1 rfl) ?_
        refine k_callV (Sc := mW G h ad (s2 σ 37 0 0)) (Sr := []) (As := [.int (nI k1)]) (rest := [.int (nI (dbN σ k1))]) C (ctX4_isDoubted l G h ad (s2 σ 37 0 0) k1 (hS.s2o (by decide) (Or.inr (by decide))) (by omega) hF) hW4 clX4 (hW4.get 0 0 rfl rfl) q2623 q2625 qs69 q85 q2626 rfl rfl ⟨by decide, by decide, Eq.trans (b := some 1) (by decide +kernel) rfl⟩ (Nat.le_of_ble_eq_true rfl) (Nat.le_of_ble_eq_true rfl) (Nat.le_refl _) (Nat.le_refl _) hl4.1 rfl (Nat.le_of_ble_eq_true rfl) dX4_doubtedShare_18 (List.Perm.refl _) (fun _ h => h.elim) (fun v H5 locs5 S1 hQ hz5 hW5 => ?_)
        obtain ⟨rfl, rfl⟩ := hQ
        have hW5 : Ws G A s (mW G h ad (s2 σ 37 0 0)) H5 locs5 := hW5
        clear hW4
        refine W.eq (g2 := F0 m 21 ls4 [.int (b01 (doubtF σ k1)), .int (nI (dbN σ k1))]) rfl ?_
        refine kb_if_eq (tgt := 28) C dX4_doubtedShare_21 (by decide) (fun c21 => ?_) (fun c21 => ?_)
        · refine kn_iconst (a := 0) C (by decide) dX4_doubtedShare_28 ?_
          refine kn_iadd C  dX4_doubtedShare_29 ?_
          refine lv_istore_n (lv' := [(1, .int (nI ((dbN σ k1) + 0))), (2, .int (nI k1)), (0, .ref h)]) C.hx C.hb dX4_doubtedShare_30 rfl hl4 (Nat.le_of_ble_eq_true rfl) rfl (fun ls6 hl6 => ?_)
          clear hl4
          refine kn_iinc (lv' := [(2, .int (nI (k1 + 1))), (1, .int (nI ((dbN σ k1) + 0))), (0, .ref h)]) (k := 1) C dX4_doubtedShare_31 hl6 rfl (Nat.le_of_ble_eq_true rfl) rfl (fun ls7 hl7 => ?_)
          clear hl6
          refine lv_goto (tgt := 9) C.hx C.hb dX4_doubtedShare_34 (by decide) ?_
          have e8 : (dbN σ (k1 + 1)) = ((dbN σ k1) + 0) := by first | rfl | simp [dbN, lp, c12, c21]
          exact ih4 (k1 + 1) (by omega) (by omega) _ _ _ hW5 (by rw [e8]; exact (lv_sub hl7 [1, 0, 2] rfl))
        · refine kn_iconst (a := 1) C (by decide) dX4_doubtedShare_24 ?_
          refine lv_goto (tgt := 29) C.hx C.hb dX4_doubtedShare_25 (by decide) ?_
          refine kn_iadd C  dX4_doubtedShare_29 ?_
          refine lv_istore_n (lv' := [(1, .int (nI ((dbN σ k1) + 1))), (2, .int (nI k1)), (0, .ref h)]) C.hx C.hb dX4_doubtedShare_30 rfl hl4 (Nat.le_of_ble_eq_true rfl) rfl (fun ls9 hl9 => ?_)
          clear hl4
          refine kn_iinc (lv' := [(2, .int (nI (k1 + 1))), (1, .int (nI ((dbN σ k1) + 1))), (0, .ref h)]) (k := 1) C dX4_doubtedShare_31 hl9 rfl (Nat.le_of_ble_eq_true rfl) rfl (fun ls10 hl10 => ?_)
          clear hl9
          refine lv_goto (tgt := 9) C.hx C.hb dX4_doubtedShare_34 (by decide) ?_
          have e11 : (dbN σ (k1 + 1)) = ((dbN σ k1) + 1) := by first | rfl | simp [dbN, lp, c12, c21]
          exact ih4 (k1 + 1) (by omega) (by omega) _ _ _ hW5 (by rw [e11]; exact (lv_sub hl10 [1, 0, 2] rfl))
  have e12 : (dbN σ 0) = 0 := by first | rfl | simp [dbN, lp, ]
  exact La (6 - 0 + 1) 0 (Nat.zero_le _) (Nat.lt_succ_self _) _ _ _ hW1 (by rw [e12]; exact (lv_sub hl3 [1, 0, 2] rfl))
