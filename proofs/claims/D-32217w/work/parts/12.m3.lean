def Q_ctX4_cutCome (G : GT) (h : Nat) (ad : Nat → Nat) (σ : Sg) (n1 : Nat) : Option Value → List va_W → Prop := fun v S1 => v = none ∧ S1 = mW G h ad (cutComeF σ n1)
set_option maxHeartbeats 4000000 in
set_option maxRecDepth 100000 in
theorem ctX4_cutCome (l : Launch) (G : GT) (h : Nat) (ad : Nat → Nat) (σ : Sg) (n1 : Nat) (hV : Sv σ) (hn : σ 32 0 + n1 ≤ 200) (he : σ 34 0 + countN σ 0 (σ 32 0) + n1 ≤ 480) : Ct l G yX4_cutCome cX4_cutCome 3 none 3 72 0 0 [.ref h, .int (nI n1)] (mW G h ad σ) noR (Q_ctX4_cutCome G h ad σ n1) := by
  refine Ct.of (by decide +kernel) (Nat.le_of_ble_eq_true rfl) ?_
  intro p e s m below meth c A ls C hW hRo hl
  have hl : lv_has ls 3 [(0, .ref h), (1, .int (nI n1))] := hl
  have hS : Sf σ := hV.1
  have hB : Bd σ := hS.1
  have h32 : σ 32 0 ≤ 200 := Nat.lt_succ_iff.mp (hB.lt 32 (by decide) 0)
  have h34 : σ 34 0 ≤ 480 := Nat.lt_succ_iff.mp (hB.lt 34 (by decide) 0)
  have h35 : σ 35 0 ≤ 64 := Nat.lt_succ_iff.mp (hB.lt 35 (by decide) 0)
  have h36 : σ 36 0 ≤ 60 := Nat.lt_succ_iff.mp (hB.lt 36 (by decide) 0)
  have h30 : σ 30 0 ≤ 5000 := Nat.lt_succ_iff.mp (hB.lt 30 (by decide) 0)
  refine kn_iconst (a := 0) C (by decide) dX4_cutCome_0 ?_
  refine lv_istore_n (lv' := [(2, .int (nI 0)), (0, .ref h), (1, .int (nI n1))]) C.hx C.hb dX4_cutCome_1 rfl hl (Nat.le_of_ble_eq_true rfl) rfl (fun ls1 hl1 => ?_)
  clear hl
  have La : ∀ (k2 : Nat) (k1 : Nat) (τ : Sg), (k1 ≤ n1) → (τ = lp cutB k1 σ) → n1 - k1 < k2 → ∀ (H2 : Heap) (locs2 : List Loc) (ls2 : Array Slot), Ws G A s (mW G h ad τ) H2 locs2 → lv_has ls2 3 [(2, .int (nI k1)), (0, .ref h), (1, .int (nI n1))] → W p l e ({ frames := 3, cells := 0, slots := 0, locals := 72 } : Room) s m ([.ref h, .int (nI n1)] : List Value).toArray below meth c H2 locs2 0 0 (MQ below (cQ G A (Q_ctX4_cutCome G h ad σ n1)) ([.ref h, .int (nI n1)] : List Value).toArray s 0 0 A) (F0 m 2 ls2 []) := by
    intro k2
    induction k2 with
    | zero => intro k1 τ hLa_0 hLa_1 hm2; exact absurd hm2 (Nat.not_lt_zero _)
    | succ k2 ih2 =>
      intro k1 τ hLa_0 hLa_1 hm2 H2 locs2 ls2 hW2 hl2
      have hST : Sf τ := by rw [hLa_1]; exact hS.cuts (by omega)
      have hT : Bd τ := hST.1
      have t32 : τ 32 0 = σ 32 0 + k1 := by rw [hLa_1]; exact cuts_32 σ k1
      refine lv_iload_n C.hx C.hb dX4_cutCome_2 rfl (lv_at hl2 0 rfl) ?_
      refine lv_iload_n C.hx C.hb dX4_cutCome_3 rfl (lv_at hl2 2 rfl) ?_
      refine kn_icmp_ge (tgt := 56) C (by omega) (by omega) dX4_cutCome_4 (by decide) (fun c4 => ?_) (fun c4 => ?_)
      · refine lv_aload_n C.hx C.hb dX4_cutCome_56 rfl (lv_at hl2 1 rfl) ?_
        refine k_callV (Sc := mW G h ad τ) (Sr := []) (As := []) (rest := []) C (ctX4_serves l G h ad τ (by rw [hLa_1, show k1 = n1 by omega]; exact hV.cuts hn he)) hW2 clX4 (hW2.get 0 0 rfl rfl) q2465 q2467 qs50 q85 q2468 rfl rfl ⟨by decide, by decide, Eq.trans (b := some 0) (by decide +kernel) rfl⟩ (Nat.le_of_ble_eq_true rfl) (Nat.le_of_ble_eq_true rfl) (Nat.le_refl _) (Nat.le_refl _) hl2.1 rfl (Nat.le_of_ble_eq_true rfl) dX4_cutCome_57 (List.Perm.refl _) (fun _ h => h.elim) (fun v H3 locs3 S1 hQ hz3 hW3 => ?_)
        obtain ⟨rfl, rfl⟩ := hQ
        have hW3 : Ws G A s (mW G h ad (servesF τ)) H3 locs3 := hW3
        clear hW2
        refine W.eq (g2 := F0 m 60 ls2 []) rfl ?_
        exact k_vret C hW3 rfl ⟨rfl, by rw [hLa_1, show k1 = n1 by omega]; rfl⟩ (Nat.le_refl _) (Nat.le_refl _) dX4_cutCome_60
      · refine lv_aload_n C.hx C.hb dX4_cutCome_7 rfl (lv_at hl2 1 rfl) ?_
        refine k_get (v := .ref (ad 7)) C clX4 (hW2.get 0 0 rfl rfl) 7 (Nat.le_of_ble_eq_true rfl) rfl q2331 rfl rfl dX4_cutCome_8 ?_
        refine lv_aload_n C.hx C.hb dX4_cutCome_11 rfl (lv_at hl2 1 rfl) ?_
        refine k_get (v := .int (nI (τ 32 0))) C clX4 (hW2.get 0 0 rfl rfl) 32 (Nat.le_of_ble_eq_true rfl) rfl q2356 rfl rfl dX4_cutCome_12 ?_
        refine kn_iconst (a := 0) C (by decide) dX4_cutCome_15 ?_
        refine k_iast (S' := mW G h ad (s2 τ 7 (τ 32 0) 0)) C hW2 8 0 rfl rfl rfl (by have : τ 32 0 < 201 := hT.lt 32 (by decide) 0; omega) (by decide) dX4_cutCome_16 (mset7 G h ad _ (τ 32 0) 0) (fun H4 locs4 hW4 => ?_)
        clear hW2
        refine lv_aload_n C.hx C.hb dX4_cutCome_17 rfl (lv_at hl2 1 rfl) ?_
        refine k_get (v := .ref (ad 8)) C clX4 (hW4.get 0 0 rfl rfl) 8 (Nat.le_of_ble_eq_true rfl) rfl q2332 rfl rfl dX4_cutCome_18 ?_
        refine lv_aload_n C.hx C.hb dX4_cutCome_21 rfl (lv_at hl2 1 rfl) ?_
        refine k_get (v := .int (nI (τ 32 0))) C clX4 (hW4.get 0 0 rfl rfl) 32 (Nat.le_of_ble_eq_true rfl) rfl q2356 rfl rfl dX4_cutCome_22 ?_
        refine lv_iconst (v := nI NONE) C.hx C.hb dX4_cutCome_25 (by decide) ?_
        refine k_iast (S' := mW G h ad (s2 (s2 τ 7 (τ 32 0) 0) 8 (τ 32 0) NONE)) C hW4 9 0 rfl rfl rfl (by have : τ 32 0 < 201 := hT.lt 32 (by decide) 0; omega) (by decide) dX4_cutCome_26 (mset8 G h ad _ (τ 32 0) NONE) (fun H5 locs5 hW5 => ?_)
        clear hW4
        refine lv_aload_n C.hx C.hb dX4_cutCome_27 rfl (lv_at hl2 1 rfl) ?_
        refine k_get (v := .ref (ad 9)) C clX4 (hW5.get 0 0 rfl rfl) 9 (Nat.le_of_ble_eq_true rfl) rfl q2333 rfl rfl dX4_cutCome_28 ?_
        refine lv_aload_n C.hx C.hb dX4_cutCome_31 rfl (lv_at hl2 1 rfl) ?_
        refine k_get (v := .int (nI (τ 32 0))) C clX4 (hW5.get 0 0 rfl rfl) 32 (Nat.le_of_ble_eq_true rfl) rfl q2356 rfl rfl dX4_cutCome_32 ?_
        refine lv_aload_n C.hx C.hb dX4_cutCome_35 rfl (lv_at hl2 1 rfl) ?_
        refine k_get (v := .int (nI (τ 30 0))) C clX4 (hW5.get 0 0 rfl rfl) 30 (Nat.le_of_ble_eq_true rfl) rfl q2354 rfl rfl dX4_cutCome_36 ?_
        refine k_iast (S' := mW G h ad (s2 (s2 (s2 τ 7 (τ 32 0) 0) 8 (τ 32 0) NONE) 9 (τ 32 0) (τ 30 0))) C hW5 10 0 rfl rfl rfl (by have : τ 32 0 < 201 := hT.lt 32 (by decide) 0; omega) (by decide) dX4_cutCome_39 (mset9 G h ad _ (τ 32 0) (τ 30 0)) (fun H6 locs6 hW6 => ?_)
        clear hW5
        refine lv_aload_n C.hx C.hb dX4_cutCome_40 rfl (lv_at hl2 1 rfl) ?_
        refine lv_dup C.hx C.hb dX4_cutCome_41 rfl ?_
        refine k_get (v := .int (nI (τ 32 0))) C clX4 (hW6.get 0 0 rfl rfl) 32 (Nat.le_of_ble_eq_true rfl) rfl q2356 rfl rfl dX4_cutCome_42 ?_
        refine kn_iconst (a := 1) C (by decide) dX4_cutCome_45 ?_
        refine kn_iadd C  dX4_cutCome_46 ?_
        refine k_put (S' := mW G h ad (s2 (s2 (s2 (s2 τ 7 (τ 32 0) 0) 8 (τ 32 0) NONE) 9 (τ 32 0) (τ 30 0)) 32 0 ((τ 32 0) + 1))) C clX4 hW6 0 0 rfl rfl 32 (Nat.le_of_ble_eq_true rfl) rfl q2356 rfl (fun _ h => h) (Or.inl rfl) (fty := .int) (v := .int (nI ((τ 32 0) + 1))) (by decide +kernel) rfl rfl (Nat.le_of_ble_eq_true rfl) dX4_cutCome_47 (mput32 G h ad _ _) (fun H7 locs7 hW7 => ?_)
        clear hW6
        refine kn_iinc (lv' := [(2, .int (nI (k1 + 1))), (0, .ref h), (1, .int (nI n1))]) (k := 0) C dX4_cutCome_50 hl2 rfl (Nat.le_of_ble_eq_true rfl) rfl (fun ls8 hl8 => ?_)
        clear hl2
        refine lv_goto (tgt := 2) C.hx C.hb dX4_cutCome_53 (by decide) ?_
        exact ih2 (k1 + 1) (s2 (s2 (s2 (s2 τ 7 (τ 32 0) 0) 8 (τ 32 0) NONE) 9 (τ 32 0) (τ 30 0)) 32 0 ((τ 32 0) + 1)) (by omega) (by show _ = cutB k1 (lp cutB k1 σ); rw [← hLa_1]; rfl) (by omega) _ _ _ hW7 (lv_sub hl8 [0, 1, 2] rfl)
  exact La (n1 - 0 + 1) 0 σ (Nat.zero_le _) rfl (Nat.lt_succ_self _) _ _ _ hW (lv_sub hl1 [0, 1, 2] rfl)

def Q_ctX4_laid (G : GT) (h : Nat) (ad : Nat → Nat) (σ : Sg) (e1 : Nat) : Option Value → List va_W → Prop := fun v S1 => v = none ∧ S1 = mW G h ad (laidF σ e1)
set_option maxHeartbeats 4000000 in
set_option maxRecDepth 100000 in
theorem ctX4_laid (l : Launch) (G : GT) (h : Nat) (ad : Nat → Nat) (σ : Sg) (e1 : Nat) (hS : Sf σ) (he1 : e1 < 2 ^ 31) : Ct l G yX4_laid cX4_laid 3 none 0 0 0 0 [.ref h, .int (nI e1)] (mW G h ad σ) noR (Q_ctX4_laid G h ad σ e1) := by
  refine Ct.of (by decide +kernel) (Nat.le_of_ble_eq_true rfl) ?_
  intro p e s m below meth c A ls C hW hRo hl
  have hl : lv_has ls 3 [(0, .ref h), (1, .int (nI e1))] := hl
  have hB : Bd σ := hS.1
  have h32 : σ 32 0 ≤ 200 := Nat.lt_succ_iff.mp (hB.lt 32 (by decide) 0)
  have h34 : σ 34 0 ≤ 480 := Nat.lt_succ_iff.mp (hB.lt 34 (by decide) 0)
  have h35 : σ 35 0 ≤ 64 := Nat.lt_succ_iff.mp (hB.lt 35 (by decide) 0)
  have h36 : σ 36 0 ≤ 60 := Nat.lt_succ_iff.mp (hB.lt 36 (by decide) 0)
  have h30 : σ 30 0 ≤ 5000 := Nat.lt_succ_iff.mp (hB.lt 30 (by decide) 0)
  refine kn_iconst (a := 0) C (by decide) dX4_laid_0 ?_
  refine lv_istore_n (lv' := [(2, .int (nI 0)), (0, .ref h), (1, .int (nI e1))]) C.hx C.hb dX4_laid_1 rfl hl (Nat.le_of_ble_eq_true rfl) rfl (fun ls1 hl1 => ?_)
  clear hl
  have La : ∀ (k2 : Nat) (b : Nat) (τ : Sg), (b ≤ σ 32 0) → (τ = lp (laidB e1) b σ) → σ 32 0 - b < k2 → ∀ (H2 : Heap) (locs2 : List Loc) (ls2 : Array Slot), Ws G A s (mW G h ad τ) H2 locs2 → lv_has ls2 3 [(2, .int (nI b)), (0, .ref h), (1, .int (nI e1))] → W p l e ({ frames := 0, cells := 0, slots := 0, locals := 0 } : Room) s m ([.ref h, .int (nI e1)] : List Value).toArray below meth c H2 locs2 0 0 (MQ below (cQ G A (Q_ctX4_laid G h ad σ e1)) ([.ref h, .int (nI e1)] : List Value).toArray s 0 0 A) (F0 m 2 ls2 []) := by
    intro k2
    induction k2 with
    | zero => intro b τ hLa_0 hLa_1 hm2; exact absurd hm2 (Nat.not_lt_zero _)
    | succ k2 ih2 =>
      intro b τ hLa_0 hLa_1 hm2 H2 locs2 ls2 hW2 hl2
      have hST : Sf τ := by rw [hLa_1]; exact lp_inv hS (fun i a q => q.laid) b
      have hT : Bd τ := hST.1
      have t32 : τ 32 0 = σ 32 0 := by rw [hLa_1]; exact laids_o _ _ _ _ _ (by decide)
      have t8 := hST.2.2.1 b
      refine lv_iload_n C.hx C.hb dX4_laid_2 rfl (lv_at hl2 0 rfl) ?_
      refine lv_aload_n C.hx C.hb dX4_laid_3 rfl (lv_at hl2 1 rfl) ?_
      refine k_get (v := .int (nI (τ 32 0))) C clX4 (hW2.get 0 0 rfl rfl) 32 (Nat.le_of_ble_eq_true rfl) rfl q2356 rfl rfl dX4_laid_4 ?_
      refine kn_icmp_ge (tgt := 75) C (by omega) (Nat.lt_of_lt_of_le (hT.lt 32 (by decide) 0) (by decide)) dX4_laid_7 (by decide) (fun c7 => ?_) (fun c7 => ?_)
      · exact k_vret C hW2 rfl ⟨rfl, by rw [hLa_1, show b = σ 32 0 by omega]; rfl⟩ (Nat.le_refl _) (Nat.le_refl _) dX4_laid_75
      · refine lv_aload_n C.hx C.hb dX4_laid_10 rfl (lv_at hl2 1 rfl) ?_
        refine k_get (v := .ref (ad 7)) C clX4 (hW2.get 0 0 rfl rfl) 7 (Nat.le_of_ble_eq_true rfl) rfl q2331 rfl rfl dX4_laid_11 ?_
        refine lv_iload_n C.hx C.hb dX4_laid_14 rfl (lv_at hl2 0 rfl) ?_
        refine k_iald C (f := (fun i => nI (τ 7 i))) rfl (hW2.get 8 0 rfl rfl) (by omega) (by decide) dX4_laid_15 ?_
        refine kn_iconst (a := 1) C (by decide) dX4_laid_16 ?_
        refine kn_icmp_ne (tgt := 69) C (Nat.lt_of_lt_of_le (hT.lt 7 (by decide) b) (by decide)) (by decide) dX4_laid_17 (by decide) (fun c17 => ?_) (fun c17 => ?_)
        · refine kn_iinc (lv' := [(2, .int (nI (b + 1))), (0, .ref h), (1, .int (nI e1))]) (k := 0) C dX4_laid_69 hl2 rfl (Nat.le_of_ble_eq_true rfl) rfl (fun ls3 hl3 => ?_)
          clear hl2
          refine lv_goto (tgt := 2) C.hx C.hb dX4_laid_72 (by decide) ?_
          exact ih2 (b + 1) τ (by omega) (by show _ = laidB e1 b (lp (laidB e1) b σ); rw [← hLa_1]; simp [laidB, c7, c17]) (by omega) _ _ _ hW2 (lv_sub hl3 [0, 1, 2] rfl)
        · refine lv_aload_n C.hx C.hb dX4_laid_20 rfl (lv_at hl2 1 rfl) ?_
          refine k_get (v := .ref (ad 10)) C clX4 (hW2.get 0 0 rfl rfl) 10 (Nat.le_of_ble_eq_true rfl) rfl q2334 rfl rfl dX4_laid_21 ?_
          refine lv_iload_n C.hx C.hb dX4_laid_24 rfl (lv_at hl2 0 rfl) ?_
          refine k_iald C (f := (fun i => nI (τ 10 i))) rfl (hW2.get 11 0 rfl rfl) (by omega) (by decide) dX4_laid_25 ?_
          refine lv_iload_n C.hx C.hb dX4_laid_26 rfl (lv_at hl2 2 rfl) ?_
          refine kn_icmp_eq (tgt := 33) C (Nat.lt_of_lt_of_le (hT.lt 10 (by decide) b) (by decide)) (by omega) dX4_laid_27 (by decide) (fun c27 => ?_) (fun c27 => ?_)
          · refine lv_aload_n C.hx C.hb dX4_laid_33 rfl (lv_at hl2 1 rfl) ?_
            refine k_get (v := .ref (ad 7)) C clX4 (hW2.get 0 0 rfl rfl) 7 (Nat.le_of_ble_eq_true rfl) rfl q2331 rfl rfl dX4_laid_34 ?_
            refine lv_iload_n C.hx C.hb dX4_laid_37 rfl (lv_at hl2 0 rfl) ?_
            refine kn_iconst (a := 2) C (by decide) dX4_laid_38 ?_
            refine k_iast (S' := mW G h ad (s2 τ 7 b 2)) C hW2 8 0 rfl rfl rfl (by omega) (by decide) dX4_laid_39 (mset7 G h ad _ b 2) (fun H4 locs4 hW4 => ?_)
            clear hW2
            refine lv_aload_n C.hx C.hb dX4_laid_40 rfl (lv_at hl2 1 rfl) ?_
            refine k_get (v := .ref (ad 5)) C clX4 (hW4.get 0 0 rfl rfl) 5 (Nat.le_of_ble_eq_true rfl) rfl q2329 rfl rfl dX4_laid_41 ?_
            refine lv_iload_n C.hx C.hb dX4_laid_44 rfl (lv_at hl2 0 rfl) ?_
            refine lv_aload_n C.hx C.hb dX4_laid_45 rfl (lv_at hl2 1 rfl) ?_
            refine k_get (v := .ref (ad 4)) C clX4 (hW4.get 0 0 rfl rfl) 4 (Nat.le_of_ble_eq_true rfl) rfl q2328 rfl rfl dX4_laid_46 ?_
            refine lv_aload_n C.hx C.hb dX4_laid_49 rfl (lv_at hl2 1 rfl) ?_
            refine k_get (v := .ref (ad 8)) C clX4 (hW4.get 0 0 rfl rfl) 8 (Nat.le_of_ble_eq_true rfl) rfl q2332 rfl rfl dX4_laid_50 ?_
            refine lv_iload_n C.hx C.hb dX4_laid_53 rfl (lv_at hl2 0 rfl) ?_
            refine k_iald C (f := (fun i => nI ((s2 τ 7 b 2) 8 i))) rfl (hW4.get 9 0 rfl rfl) (by omega) (by decide) dX4_laid_54 ?_
            refine k_op (y := .int (nI (τ 8 b))) (by simp [s2_rd]) ?_
            refine k_lald C (f := (fun i => lN ((s2 τ 7 b 2) 4 i))) rfl (hW4.get 5 0 rfl rfl) (by have : τ 8 b < 4294967296 := hT.lt 8 (by decide) b; omega) (by decide) dX4_laid_55 ?_
            refine k_op (y := .long (lN (τ 4 (τ 8 b)))) (by simp [s2_rd]) ?_
            refine k_last (S' := mW G h ad (s2 (s2 τ 7 b 2) 5 b (τ 4 (τ 8 b)))) C hW4 6 0 rfl rfl rfl (by omega) (by decide) dX4_laid_56 (mset5 G h ad _ b (τ 4 (τ 8 b))) (fun H5 locs5 hW5 => ?_)
            clear hW4
            refine lv_aload_n C.hx C.hb dX4_laid_57 rfl (lv_at hl2 1 rfl) ?_
            refine k_get (v := .ref (ad 6)) C clX4 (hW5.get 0 0 rfl rfl) 6 (Nat.le_of_ble_eq_true rfl) rfl q2330 rfl rfl dX4_laid_58 ?_
            refine lv_iload_n C.hx C.hb dX4_laid_61 rfl (lv_at hl2 0 rfl) ?_
            refine lv_aload_n C.hx C.hb dX4_laid_62 rfl (lv_at hl2 1 rfl) ?_
            refine k_get (v := .ref (ad 5)) C clX4 (hW5.get 0 0 rfl rfl) 5 (Nat.le_of_ble_eq_true rfl) rfl q2329 rfl rfl dX4_laid_63 ?_
            refine lv_iload_n C.hx C.hb dX4_laid_66 rfl (lv_at hl2 0 rfl) ?_
            refine k_lald C (f := (fun i => lN ((s2 (s2 τ 7 b 2) 5 b (τ 4 (τ 8 b))) 5 i))) rfl (hW5.get 6 0 rfl rfl) (by omega) (by decide) dX4_laid_67 ?_
            refine k_op (y := .long (lN (τ 4 (τ 8 b)))) (by simp [s2_rd]) ?_
            refine k_last (S' := mW G h ad (s2 (s2 (s2 τ 7 b 2) 5 b (τ 4 (τ 8 b))) 6 b (τ 4 (τ 8 b)))) C hW5 7 0 rfl rfl rfl (by omega) (by decide) dX4_laid_68 (mset6 G h ad _ b (τ 4 (τ 8 b))) (fun H6 locs6 hW6 => ?_)
            clear hW5
            refine kn_iinc (lv' := [(2, .int (nI (b + 1))), (0, .ref h), (1, .int (nI e1))]) (k := 0) C dX4_laid_69 hl2 rfl (Nat.le_of_ble_eq_true rfl) rfl (fun ls7 hl7 => ?_)
            clear hl2
            refine lv_goto (tgt := 2) C.hx C.hb dX4_laid_72 (by decide) ?_
            exact ih2 (b + 1) (s2 (s2 (s2 τ 7 b 2) 5 b (τ 4 (τ 8 b))) 6 b (τ 4 (τ 8 b))) (by omega) (by show _ = laidB e1 b (lp (laidB e1) b σ); rw [← hLa_1]; simp [laidB, c7, c17, c27]) (by omega) _ _ _ hW6 (lv_sub hl7 [0, 1, 2] rfl)
          · refine lv_goto (tgt := 69) C.hx C.hb dX4_laid_30 (by decide) ?_
            refine kn_iinc (lv' := [(2, .int (nI (b + 1))), (0, .ref h), (1, .int (nI e1))]) (k := 0) C dX4_laid_69 hl2 rfl (Nat.le_of_ble_eq_true rfl) rfl (fun ls8 hl8 => ?_)
            clear hl2
            refine lv_goto (tgt := 2) C.hx C.hb dX4_laid_72 (by decide) ?_
            exact ih2 (b + 1) τ (by omega) (by show _ = laidB e1 b (lp (laidB e1) b σ); rw [← hLa_1]; simp [laidB, c7, c17, c27]) (by omega) _ _ _ hW2 (lv_sub hl8 [0, 1, 2] rfl)
  exact La (σ 32 0 - 0 + 1) 0 σ (Nat.zero_le _) rfl (Nat.lt_succ_self _) _ _ _ hW (lv_sub hl1 [0, 1, 2] rfl)

def Q_ctX4_messageComes (G : GT) (h : Nat) (ad : Nat → Nat) (σ : Sg) (m1 : Nat) : Option Value → List va_W → Prop := fun v S1 => v = none ∧ S1 = mW G h ad (msgF σ m1)
set_option maxHeartbeats 4000000 in
set_option maxRecDepth 100000 in
theorem ctX4_messageComes (l : Launch) (G : GT) (h : Nat) (ad : Nat → Nat) (σ : Sg) (m1 : Nat) (hV : Sv σ) (hm1 : m1 < 60) (hr : σ 35 0 < 64) : Ct l G yX4_messageComes cX4_messageComes 4 none 3 72 0 0 [.ref h, .int (nI m1)] (mW G h ad σ) noR (Q_ctX4_messageComes G h ad σ m1) := by
  refine Ct.of (by decide +kernel) (Nat.le_of_ble_eq_true rfl) ?_
  intro p e s m below meth c A ls C hW hRo hl
  have hl : lv_has ls 4 [(0, .ref h), (1, .int (nI m1))] := hl
  have hS : Sf σ := hV.1
  have hB : Bd σ := hS.1
  have h32 : σ 32 0 ≤ 200 := Nat.lt_succ_iff.mp (hB.lt 32 (by decide) 0)
  have h34 : σ 34 0 ≤ 480 := Nat.lt_succ_iff.mp (hB.lt 34 (by decide) 0)
  have h35 : σ 35 0 ≤ 64 := Nat.lt_succ_iff.mp (hB.lt 35 (by decide) 0)
  have h36 : σ 36 0 ≤ 60 := Nat.lt_succ_iff.mp (hB.lt 36 (by decide) 0)
  have h30 : σ 30 0 ≤ 5000 := Nat.lt_succ_iff.mp (hB.lt 30 (by decide) 0)
  have hS1 : Sf (s2 σ 22 m1 1) := hS.s2o (by decide) (Or.inr (by decide))
  have h28 : σ 28 (σ 19 m1) < 5 := hB.lt 28 (by decide) _
  have h19 : σ 19 m1 < 4 := hB.lt 19 (by decide) _
  have ec : countN (s2 σ 22 m1 1) 0 (σ 32 0) = countN σ 0 (σ 32 0) := count_cg (fun j _ => rfl)
  have ec2 := count_le σ 0 (σ 32 0)
  have ev := hV.2.2
  refine lv_aload_n C.hx C.hb dX4_messageComes_0 rfl (lv_at hl 0 rfl) ?_
  refine k_get (v := .ref (ad 22)) C clX4 (hW.get 0 0 rfl rfl) 22 (Nat.le_of_ble_eq_true rfl) rfl q2346 rfl rfl dX4_messageComes_1 ?_
  refine lv_iload_n C.hx C.hb dX4_messageComes_4 rfl (lv_at hl 1 rfl) ?_
  refine kn_iconst (a := 1) C (by decide) dX4_messageComes_5 ?_
  refine k_zast (S' := mW G h ad (s2 σ 22 m1 1)) C hW 23 0 rfl rfl rfl (by omega) (by decide) dX4_messageComes_6 (mset22 G h ad _ m1) (fun H1 locs1 hW1 => ?_)
  clear hW
  refine lv_aload_n C.hx C.hb dX4_messageComes_7 rfl (lv_at hl 0 rfl) ?_
  refine k_get (v := .ref (ad 28)) C clX4 (hW1.get 0 0 rfl rfl) 28 (Nat.le_of_ble_eq_true rfl) rfl q2352 rfl rfl dX4_messageComes_8 ?_
  refine lv_aload_n C.hx C.hb dX4_messageComes_11 rfl (lv_at hl 0 rfl) ?_
  refine k_get (v := .ref (ad 19)) C clX4 (hW1.get 0 0 rfl rfl) 19 (Nat.le_of_ble_eq_true rfl) rfl q2343 rfl rfl dX4_messageComes_12 ?_
  refine lv_iload_n C.hx C.hb dX4_messageComes_15 rfl (lv_at hl 1 rfl) ?_
  refine k_iald C (f := (fun i => nI ((s2 σ 22 m1 1) 19 i))) rfl (hW1.get 20 0 rfl rfl) (by omega) (by decide) dX4_messageComes_16 ?_
  refine k_op (y := .int (nI (σ 19 m1))) (by simp [s2_rd]) ?_
  refine k_iald C (f := (fun i => nI ((s2 σ 22 m1 1) 28 i))) rfl (hW1.get 29 0 rfl rfl) (Nat.lt_of_lt_of_le (hB.lt 19 (by decide) m1) (by decide)) (by decide) dX4_messageComes_17 ?_
  refine k_op (y := .int (nI (σ 28 (σ 19 m1)))) (by simp [s2_rd]) ?_
  refine lv_istore_n (lv' := [(2, .int (nI (σ 28 (σ 19 m1)))), (0, .ref h), (1, .int (nI m1))]) C.hx C.hb dX4_messageComes_18 rfl hl (Nat.le_of_ble_eq_true rfl) rfl (fun ls2 hl2 => ?_)
  clear hl
  refine lv_iload_n C.hx C.hb dX4_messageComes_19 rfl (lv_at hl2 0 rfl) ?_
  refine kn_if_ne (tgt := 24) C (Nat.lt_of_lt_of_le (hB.lt 28 (by decide) (σ 19 m1)) (by decide)) dX4_messageComes_20 (by decide) (fun c20 => ?_) (fun c20 => ?_)
  · refine lv_aload_n C.hx C.hb dX4_messageComes_24 rfl (lv_at hl2 1 rfl) ?_
    refine k_get (v := .int (nI (σ 35 0))) C clX4 (hW1.get 0 0 rfl rfl) 35 (Nat.le_of_ble_eq_true rfl) rfl q2359 rfl rfl dX4_messageComes_25 ?_
    refine kn_if_ne (tgt := 53) C (Nat.lt_of_lt_of_le (hB.lt 35 (by decide) 0) (by decide)) dX4_messageComes_28 (by decide) (fun c28 => ?_) (fun c28 => ?_)
    · refine lv_aload_n C.hx C.hb dX4_messageComes_53 rfl (lv_at hl2 1 rfl) ?_
      refine k_get (v := .ref (ad 15)) C clX4 (hW1.get 0 0 rfl rfl) 15 (Nat.le_of_ble_eq_true rfl) rfl q2339 rfl rfl dX4_messageComes_54 ?_
      refine lv_aload_n C.hx C.hb dX4_messageComes_57 rfl (lv_at hl2 1 rfl) ?_
      refine k_get (v := .int (nI (σ 35 0))) C clX4 (hW1.get 0 0 rfl rfl) 35 (Nat.le_of_ble_eq_true rfl) rfl q2359 rfl rfl dX4_messageComes_58 ?_
      refine lv_aload_n C.hx C.hb dX4_messageComes_61 rfl (lv_at hl2 1 rfl) ?_
      refine k_get (v := .ref (ad 18)) C clX4 (hW1.get 0 0 rfl rfl) 18 (Nat.le_of_ble_eq_true rfl) rfl q2342 rfl rfl dX4_messageComes_62 ?_
      refine lv_iload_n C.hx C.hb dX4_messageComes_65 rfl (lv_at hl2 2 rfl) ?_
      refine k_iald C (f := (fun i => nI ((s2 σ 22 m1 1) 18 i))) rfl (hW1.get 19 0 rfl rfl) (by omega) (by decide) dX4_messageComes_66 ?_
      refine k_op (y := .int (nI (σ 18 m1))) (by simp [s2_rd]) ?_
      refine k_iast (S' := mW G h ad (s2 (s2 σ 22 m1 1) 15 (σ 35 0) (σ 18 m1))) C hW1 16 0 rfl rfl rfl (by have : σ 35 0 < 65 := hB.lt 35 (by decide) 0; omega) (by decide) dX4_messageComes_67 (mset15 G h ad _ (σ 35 0) (σ 18 m1)) (fun H3 locs3 hW3 => ?_)
      clear hW1
      refine lv_aload_n C.hx C.hb dX4_messageComes_68 rfl (lv_at hl2 1 rfl) ?_
      refine k_get (v := .ref (ad 16)) C clX4 (hW3.get 0 0 rfl rfl) 16 (Nat.le_of_ble_eq_true rfl) rfl q2340 rfl rfl dX4_messageComes_69 ?_
      refine lv_aload_n C.hx C.hb dX4_messageComes_72 rfl (lv_at hl2 1 rfl) ?_
      refine k_get (v := .int (nI (σ 35 0))) C clX4 (hW3.get 0 0 rfl rfl) 35 (Nat.le_of_ble_eq_true rfl) rfl q2359 rfl rfl dX4_messageComes_73 ?_
      refine lv_iload_n C.hx C.hb dX4_messageComes_76 rfl (lv_at hl2 0 rfl) ?_
      refine k_iast (S' := mW G h ad (s2 (s2 (s2 σ 22 m1 1) 15 (σ 35 0) (σ 18 m1)) 16 (σ 35 0) (σ 28 (σ 19 m1)))) C hW3 17 0 rfl rfl rfl (by have : σ 35 0 < 65 := hB.lt 35 (by decide) 0; omega) (by decide) dX4_messageComes_77 (mset16 G h ad _ (σ 35 0) (σ 28 (σ 19 m1))) (fun H4 locs4 hW4 => ?_)
      clear hW3
      refine lv_aload_n C.hx C.hb dX4_messageComes_78 rfl (lv_at hl2 1 rfl) ?_
      refine lv_dup C.hx C.hb dX4_messageComes_79 rfl ?_
      refine k_get (v := .int (nI (σ 35 0))) C clX4 (hW4.get 0 0 rfl rfl) 35 (Nat.le_of_ble_eq_true rfl) rfl q2359 rfl rfl dX4_messageComes_80 ?_
      refine kn_iconst (a := 1) C (by decide) dX4_messageComes_83 ?_
      refine kn_iadd C  dX4_messageComes_84 ?_
      refine k_put (S' := mW G h ad (s2 (s2 (s2 (s2 σ 22 m1 1) 15 (σ 35 0) (σ 18 m1)) 16 (σ 35 0) (σ 28 (σ 19 m1))) 35 0 ((σ 35 0) + 1))) C clX4 hW4 0 0 rfl rfl 35 (Nat.le_of_ble_eq_true rfl) rfl q2359 rfl (fun _ h => h) (Or.inl rfl) (fty := .int) (v := .int (nI ((σ 35 0) + 1))) (by decide +kernel) rfl rfl (Nat.le_of_ble_eq_true rfl) dX4_messageComes_85 (mput35 G h ad _ _) (fun H5 locs5 hW5 => ?_)
      clear hW4
      refine lv_aload_n C.hx C.hb dX4_messageComes_88 rfl (lv_at hl2 1 rfl) ?_
      have hv9 : Sv (s2 (s2 (s2 (s2 σ 22 m1 1) 15 (σ 35 0) (σ 18 m1)) 16 (σ 35 0) (σ 28 (σ 19 m1))) 35 0 ((σ 35 0) + 1)) := by
        have e9 : countN (s2 (s2 (s2 (s2 σ 22 m1 1) 15 (σ 35 0) (σ 18 m1)) 16 (σ 35 0) (σ 28 (σ 19 m1))) 35 0 ((σ 35 0) + 1)) 0 (σ 32 0) = countN σ 0 (σ 32 0) := count_cg (fun j _ => rfl)
        refine ⟨((hS1.s2o (f := 15) (by decide) (Or.inr (hB.lt 18 (by decide) m1))).s2o (f := 16) (by decide) (Or.inr (by show _ < 5; omega))).s2o (f := 35) (by decide) (Or.inr (by show _ < 65; omega)), fun k hk => ?_, ?_⟩
        · simp [s2_rd] at hk ⊢
          split
          · omega
          · exact hV.2.1 k (by omega)
        · show σ 34 0 + countN (s2 (s2 (s2 (s2 σ 22 m1 1) 15 (σ 35 0) (σ 18 m1)) 16 (σ 35 0) (σ 28 (σ 19 m1))) 35 0 ((σ 35 0) + 1)) 0 (σ 32 0) ≤ 480
          rw [e9]; exact ev
      refine k_callV (Sc := mW G h ad (s2 (s2 (s2 (s2 σ 22 m1 1) 15 (σ 35 0) (σ 18 m1)) 16 (σ 35 0) (σ 28 (σ 19 m1))) 35 0 ((σ 35 0) + 1))) (Sr := []) (As := []) (rest := []) C (ctX4_serves l G h ad (s2 (s2 (s2 (s2 σ 22 m1 1) 15 (σ 35 0) (σ 18 m1)) 16 (σ 35 0) (σ 28 (σ 19 m1))) 35 0 ((σ 35 0) + 1)) hv9) hW5 clX4 (hW5.get 0 0 rfl rfl) q2465 q2467 qs50 q85 q2468 rfl rfl ⟨by decide, by decide, Eq.trans (b := some 0) (by decide +kernel) rfl⟩ (Nat.le_of_ble_eq_true rfl) (Nat.le_of_ble_eq_true rfl) (Nat.le_refl _) (Nat.le_refl _) hl2.1 rfl (Nat.le_of_ble_eq_true rfl) dX4_messageComes_89 (List.Perm.refl _) (fun _ h => h.elim) (fun v H6 locs6 S1 hQ hz6 hW6 => ?_)
      obtain ⟨rfl, rfl⟩ := hQ
      have hW6 : Ws G A s (mW G h ad (servesF (s2 (s2 (s2 (s2 σ 22 m1 1) 15 (σ 35 0) (σ 18 m1)) 16 (σ 35 0) (σ 28 (σ 19 m1))) 35 0 ((σ 35 0) + 1)))) H6 locs6 := hW6
      clear hW5
      refine W.eq (g2 := F0 m 92 ls2 []) rfl ?_
      exact k_vret C hW6 rfl ⟨rfl, by rw [msgF, if_neg c20, if_neg (by omega)]⟩ (Nat.le_refl _) (Nat.le_refl _) dX4_messageComes_92
    · refine lv_aload_n C.hx C.hb dX4_messageComes_31 rfl (lv_at hl2 1 rfl) ?_
      refine kn_iconst (a := 0) C (by decide) dX4_messageComes_32 ?_
      refine k_callV (Sc := mW G h ad (s2 σ 22 m1 1)) (Sr := []) (As := [.int (nI 0)]) (rest := []) C (ctX4_count l G h ad (s2 σ 22 m1 1) 0 hS1 (by omega)) hW1 clX4 (hW1.get 0 0 rfl rfl) q2469 q2471 qs51 q85 q2472 rfl rfl ⟨by decide, by decide, Eq.trans (b := some 1) (by decide +kernel) rfl⟩ (Nat.le_of_ble_eq_true rfl) (Nat.le_of_ble_eq_true rfl) (Nat.le_refl _) (Nat.le_refl _) hl2.1 rfl (Nat.le_of_ble_eq_true rfl) dX4_messageComes_33 (List.Perm.refl _) (fun _ h => h.elim) (fun v H7 locs7 S1 hQ hz7 hW7 => ?_)
      obtain ⟨rfl, rfl⟩ := hQ
      have hW7 : Ws G A s (mW G h ad (s2 σ 22 m1 1)) H7 locs7 := hW7
      clear hW1
      refine W.eq (g2 := F0 m 36 ls2 [.int (nI (countN (s2 σ 22 m1 1) 0 (σ 32 0)))]) rfl ?_
      refine lv_iload_n C.hx C.hb dX4_messageComes_36 rfl (lv_at hl2 0 rfl) ?_
      refine kn_icmp_lt (tgt := 53) C (by have : σ 32 0 < 201 := hB.lt 32 (by decide) 0; have : σ 22 m1 < 2 := hB.lt 22 (by decide) m1; omega) (Nat.lt_of_lt_of_le (hB.lt 28 (by decide) (σ 19 m1)) (by decide)) dX4_messageComes_37 (by decide) (fun c37 => ?_) (fun c37 => ?_)
      · refine lv_aload_n C.hx C.hb dX4_messageComes_53 rfl (lv_at hl2 1 rfl) ?_
        refine k_get (v := .ref (ad 15)) C clX4 (hW7.get 0 0 rfl rfl) 15 (Nat.le_of_ble_eq_true rfl) rfl q2339 rfl rfl dX4_messageComes_54 ?_
        refine lv_aload_n C.hx C.hb dX4_messageComes_57 rfl (lv_at hl2 1 rfl) ?_
        refine k_get (v := .int (nI (σ 35 0))) C clX4 (hW7.get 0 0 rfl rfl) 35 (Nat.le_of_ble_eq_true rfl) rfl q2359 rfl rfl dX4_messageComes_58 ?_
        refine lv_aload_n C.hx C.hb dX4_messageComes_61 rfl (lv_at hl2 1 rfl) ?_
        refine k_get (v := .ref (ad 18)) C clX4 (hW7.get 0 0 rfl rfl) 18 (Nat.le_of_ble_eq_true rfl) rfl q2342 rfl rfl dX4_messageComes_62 ?_
        refine lv_iload_n C.hx C.hb dX4_messageComes_65 rfl (lv_at hl2 2 rfl) ?_
        refine k_iald C (f := (fun i => nI ((s2 σ 22 m1 1) 18 i))) rfl (hW7.get 19 0 rfl rfl) (by omega) (by decide) dX4_messageComes_66 ?_
        refine k_op (y := .int (nI (σ 18 m1))) (by simp [s2_rd]) ?_
        refine k_iast (S' := mW G h ad (s2 (s2 σ 22 m1 1) 15 (σ 35 0) (σ 18 m1))) C hW7 16 0 rfl rfl rfl (by have : σ 35 0 < 65 := hB.lt 35 (by decide) 0; omega) (by decide) dX4_messageComes_67 (mset15 G h ad _ (σ 35 0) (σ 18 m1)) (fun H8 locs8 hW8 => ?_)
        clear hW7
        refine lv_aload_n C.hx C.hb dX4_messageComes_68 rfl (lv_at hl2 1 rfl) ?_
        refine k_get (v := .ref (ad 16)) C clX4 (hW8.get 0 0 rfl rfl) 16 (Nat.le_of_ble_eq_true rfl) rfl q2340 rfl rfl dX4_messageComes_69 ?_
        refine lv_aload_n C.hx C.hb dX4_messageComes_72 rfl (lv_at hl2 1 rfl) ?_
        refine k_get (v := .int (nI (σ 35 0))) C clX4 (hW8.get 0 0 rfl rfl) 35 (Nat.le_of_ble_eq_true rfl) rfl q2359 rfl rfl dX4_messageComes_73 ?_
        refine lv_iload_n C.hx C.hb dX4_messageComes_76 rfl (lv_at hl2 0 rfl) ?_
        refine k_iast (S' := mW G h ad (s2 (s2 (s2 σ 22 m1 1) 15 (σ 35 0) (σ 18 m1)) 16 (σ 35 0) (σ 28 (σ 19 m1)))) C hW8 17 0 rfl rfl rfl (by have : σ 35 0 < 65 := hB.lt 35 (by decide) 0; omega) (by decide) dX4_messageComes_77 (mset16 G h ad _ (σ 35 0) (σ 28 (σ 19 m1))) (fun H9 locs9 hW9 => ?_)
        clear hW8
        refine lv_aload_n C.hx C.hb dX4_messageComes_78 rfl (lv_at hl2 1 rfl) ?_
        refine lv_dup C.hx C.hb dX4_messageComes_79 rfl ?_
        refine k_get (v := .int (nI (σ 35 0))) C clX4 (hW9.get 0 0 rfl rfl) 35 (Nat.le_of_ble_eq_true rfl) rfl q2359 rfl rfl dX4_messageComes_80 ?_
        refine kn_iconst (a := 1) C (by decide) dX4_messageComes_83 ?_
        refine kn_iadd C  dX4_messageComes_84 ?_
        refine k_put (S' := mW G h ad (s2 (s2 (s2 (s2 σ 22 m1 1) 15 (σ 35 0) (σ 18 m1)) 16 (σ 35 0) (σ 28 (σ 19 m1))) 35 0 ((σ 35 0) + 1))) C clX4 hW9 0 0 rfl rfl 35 (Nat.le_of_ble_eq_true rfl) rfl q2359 rfl (fun _ h => h) (Or.inl rfl) (fty := .int) (v := .int (nI ((σ 35 0) + 1))) (by decide +kernel) rfl rfl (Nat.le_of_ble_eq_true rfl) dX4_messageComes_85 (mput35 G h ad _ _) (fun H10 locs10 hW10 => ?_)
        clear hW9
        refine lv_aload_n C.hx C.hb dX4_messageComes_88 rfl (lv_at hl2 1 rfl) ?_
        have hv9 : Sv (s2 (s2 (s2 (s2 σ 22 m1 1) 15 (σ 35 0) (σ 18 m1)) 16 (σ 35 0) (σ 28 (σ 19 m1))) 35 0 ((σ 35 0) + 1)) := by
          have e9 : countN (s2 (s2 (s2 (s2 σ 22 m1 1) 15 (σ 35 0) (σ 18 m1)) 16 (σ 35 0) (σ 28 (σ 19 m1))) 35 0 ((σ 35 0) + 1)) 0 (σ 32 0) = countN σ 0 (σ 32 0) := count_cg (fun j _ => rfl)
          refine ⟨((hS1.s2o (f := 15) (by decide) (Or.inr (hB.lt 18 (by decide) m1))).s2o (f := 16) (by decide) (Or.inr (by show _ < 5; omega))).s2o (f := 35) (by decide) (Or.inr (by show _ < 65; omega)), fun k hk => ?_, ?_⟩
          · simp [s2_rd] at hk ⊢
            split
            · omega
            · exact hV.2.1 k (by omega)
          · show σ 34 0 + countN (s2 (s2 (s2 (s2 σ 22 m1 1) 15 (σ 35 0) (σ 18 m1)) 16 (σ 35 0) (σ 28 (σ 19 m1))) 35 0 ((σ 35 0) + 1)) 0 (σ 32 0) ≤ 480
            rw [e9]; exact ev
        refine k_callV (Sc := mW G h ad (s2 (s2 (s2 (s2 σ 22 m1 1) 15 (σ 35 0) (σ 18 m1)) 16 (σ 35 0) (σ 28 (σ 19 m1))) 35 0 ((σ 35 0) + 1))) (Sr := []) (As := []) (rest := []) C (ctX4_serves l G h ad (s2 (s2 (s2 (s2 σ 22 m1 1) 15 (σ 35 0) (σ 18 m1)) 16 (σ 35 0) (σ 28 (σ 19 m1))) 35 0 ((σ 35 0) + 1)) hv9) hW10 clX4 (hW10.get 0 0 rfl rfl) q2465 q2467 qs50 q85 q2468 rfl rfl ⟨by decide, by decide, Eq.trans (b := some 0) (by decide +kernel) rfl⟩ (Nat.le_of_ble_eq_true rfl) (Nat.le_of_ble_eq_true rfl) (Nat.le_refl _) (Nat.le_refl _) hl2.1 rfl (Nat.le_of_ble_eq_true rfl) dX4_messageComes_89 (List.Perm.refl _) (fun _ h => h.elim) (fun v H11 locs11 S1 hQ hz11 hW11 => ?_)
        obtain ⟨rfl, rfl⟩ := hQ
        have hW11 : Ws G A s (mW G h ad (servesF (s2 (s2 (s2 (s2 σ 22 m1 1) 15 (σ 35 0) (σ 18 m1)) 16 (σ 35 0) (σ 28 (σ 19 m1))) 35 0 ((σ 35 0) + 1)))) H11 locs11 := hW11
        clear hW10
        refine W.eq (g2 := F0 m 92 ls2 []) rfl ?_
        exact k_vret C hW11 rfl ⟨rfl, by rw [msgF, if_neg c20, if_neg (by omega)]⟩ (Nat.le_refl _) (Nat.le_refl _) dX4_messageComes_92
      · refine lv_aload_n C.hx C.hb dX4_messageComes_40 rfl (lv_at hl2 1 rfl) ?_
        refine lv_aload_n C.hx C.hb dX4_messageComes_41 rfl (lv_at hl2 1 rfl) ?_
        refine k_get (v := .ref (ad 18)) C clX4 (hW7.get 0 0 rfl rfl) 18 (Nat.le_of_ble_eq_true rfl) rfl q2342 rfl rfl dX4_messageComes_42 ?_
        refine lv_iload_n C.hx C.hb dX4_messageComes_45 rfl (lv_at hl2 2 rfl) ?_
        refine k_iald C (f := (fun i => nI ((s2 σ 22 m1 1) 18 i))) rfl (hW7.get 19 0 rfl rfl) (by omega) (by decide) dX4_messageComes_46 ?_
        refine k_op (y := .int (nI (σ 18 m1))) (by simp [s2_rd]) ?_
        refine lv_iload_n C.hx C.hb dX4_messageComes_47 rfl (lv_at hl2 0 rfl) ?_
        refine k_callV (Sc := mW G h ad (s2 σ 22 m1 1)) (Sr := []) (As := [.int (nI (σ 18 m1)), .int (nI (σ 28 (σ 19 m1)))]) (rest := []) C (ctX4_sends l G h ad (s2 σ 22 m1 1) (σ 18 m1) (σ 28 (σ 19 m1)) hS1 (hB.lt 18 (by decide) m1) (by omega) (by show σ 34 0 < 480; omega)) hW7 clX4 (hW7.get 0 0 rfl rfl) q2473 q2475 qs52 q85 q2476 rfl rfl ⟨by decide, by decide, Eq.trans (b := some 2) (by decide +kernel) rfl⟩ (Nat.le_of_ble_eq_true rfl) (Nat.le_of_ble_eq_true rfl) (Nat.le_refl _) (Nat.le_refl _) hl2.1 rfl (Nat.le_of_ble_eq_true rfl) dX4_messageComes_48 (List.Perm.refl _) (fun _ h => h.elim) (fun v H12 locs12 S1 hQ hz12 hW12 => ?_)
        obtain ⟨rfl, rfl⟩ := hQ
        have hW12 : Ws G A s (mW G h ad (sendsF (s2 σ 22 m1 1) (σ 18 m1) (σ 28 (σ 19 m1)))) H12 locs12 := hW12
        clear hW7
        refine W.eq (g2 := F0 m 51 ls2 [.int (nI (σ 30 0 + 1 + σ 18 m1 % 6))]) rfl ?_
        refine lv_istore_n (lv' := [(3, .int (nI (σ 30 0 + 1 + σ 18 m1 % 6))), (2, .int (nI (σ 28 (σ 19 m1)))), (0, .ref h), (1, .int (nI m1))]) C.hx C.hb dX4_messageComes_51 rfl hl2 (Nat.le_of_ble_eq_true rfl) rfl (fun ls13 hl13 => ?_)
        clear hl2
        exact k_vret C hW12 rfl ⟨rfl, by rw [msgF, if_neg c20, if_pos ⟨by omega, by omega⟩]⟩ (Nat.le_refl _) (Nat.le_refl _) dX4_messageComes_52
  · exact k_vret C hW1 rfl ⟨rfl, by rw [msgF, if_pos c20]⟩ (Nat.le_refl _) (Nat.le_refl _) dX4_messageComes_23
