def Q_ctX4_week (G : GT) (h : Nat) (ad : Nat → Nat) (σ : Sg)  : Option Value → List va_W → Prop := fun v S1 => v = none ∧ S1 = mW G h ad (weekF σ)
set_option maxHeartbeats 4000000 in
set_option maxRecDepth 100000 in
theorem ctX4_week (l : Launch) (G : GT) (h : Nat) (ad : Nat → Nat) (σ : Sg)  (hS : Sf σ) : Ct l G yX4_week cX4_week 2 none 1 24 0 0 [.ref h] (mW G h ad σ) noR (Q_ctX4_week G h ad σ) := by
  refine Ct.of (by decide +kernel) (Nat.le_of_ble_eq_true rfl) ?_
  intro p e s m below meth c A ls C hW hRo hl
  have hl : lv_has ls 2 [(0, .ref h)] := hl
  have hB : Bd σ := hS.1
  have h32 : σ 32 0 ≤ 200 := Nat.lt_succ_iff.mp (hB.lt 32 (by decide) 0)
  have h34 : σ 34 0 ≤ 480 := Nat.lt_succ_iff.mp (hB.lt 34 (by decide) 0)
  have h35 : σ 35 0 ≤ 64 := Nat.lt_succ_iff.mp (hB.lt 35 (by decide) 0)
  have h36 : σ 36 0 ≤ 60 := Nat.lt_succ_iff.mp (hB.lt 36 (by decide) 0)
  have h30 : σ 30 0 ≤ 5000 := Nat.lt_succ_iff.mp (hB.lt 30 (by decide) 0)
  refine kn_iconst (a := 0) C (by decide) dX4_week_0 ?_
  refine lv_istore_n (lv' := [(1, .int (nI 0)), (0, .ref h)]) C.hx C.hb dX4_week_1 rfl hl (Nat.le_of_ble_eq_true rfl) rfl (fun ls1 hl1 => ?_)
  clear hl
  have La : ∀ (k2 : Nat) (s0 : Nat) (τ : Sg), (s0 ≤ 12) → (τ = lp (fun s σ => sinksF σ s (σ 0 s)) s0 σ) → 12 - s0 < k2 → ∀ (H2 : Heap) (locs2 : List Loc) (ls2 : Array Slot), Ws G A s (mW G h ad τ) H2 locs2 → lv_has ls2 2 [(1, .int (nI s0)), (0, .ref h)] → W p l e ({ frames := 1, cells := 0, slots := 0, locals := 24 } : Room) s m ([.ref h] : List Value).toArray below meth c H2 locs2 0 0 (MQ below (cQ G A (Q_ctX4_week G h ad σ)) ([.ref h] : List Value).toArray s 0 0 A) (F0 m 2 ls2 []) := by
    intro k2
    induction k2 with
    | zero => intro s0 τ hLa_0 hLa_1 hm2; exact absurd hm2 (Nat.not_lt_zero _)
    | succ k2 ih2 =>
      intro s0 τ hLa_0 hLa_1 hm2 H2 locs2 ls2 hW2 hl2
      have hST : Sf τ := by rw [hLa_1]; exact hS.week1 _
      have hT : Bd τ := hST.1
      have ht0 : τ 0 s0 < 51 := hT.lt 0 (by decide) s0
      refine lv_iload_n C.hx C.hb dX4_week_2 rfl (lv_at hl2 0 rfl) ?_
      refine kn_bipush (a := 12) C (by decide) dX4_week_3 ?_
      refine kn_icmp_ge (tgt := 26) C (by omega) (by decide) dX4_week_5 (by decide) (fun c5 => ?_) (fun c5 => ?_)
      · refine kn_iconst (a := 0) C (by decide) dX4_week_26 ?_
        refine lv_istore_n (lv' := [(1, .int (nI 0)), (0, .ref h)]) C.hx C.hb dX4_week_27 rfl hl2 (Nat.le_of_ble_eq_true rfl) rfl (fun ls3 hl3 => ?_)
        clear hl2
        have Lb : ∀ (k4 : Nat) (b : Nat) (ρ : Sg), (b ≤ (week1F σ) 32 0) → (ρ = lp rotB b (week1F σ)) → (week1F σ) 32 0 - b < k4 → ∀ (H4 : Heap) (locs4 : List Loc) (ls4 : Array Slot), Ws G A s (mW G h ad ρ) H4 locs4 → lv_has ls4 2 [(1, .int (nI b)), (0, .ref h)] → W p l e ({ frames := 1, cells := 0, slots := 0, locals := 24 } : Room) s m ([.ref h] : List Value).toArray below meth c H4 locs4 0 0 (MQ below (cQ G A (Q_ctX4_week G h ad σ)) ([.ref h] : List Value).toArray s 0 0 A) (F0 m 28 ls4 []) := by
          intro k4
          induction k4 with
          | zero => intro b ρ hLb_0 hLb_1 hm4; exact absurd hm4 (Nat.not_lt_zero _)
          | succ k4 ih4 =>
            intro b ρ hLb_0 hLb_1 hm4 H4 locs4 ls4 hW4 hl4
            have hSR : Sf ρ := by rw [hLb_1]; exact (hS.week1 12).rots hLb_0
            have hR : Bd ρ := hSR.1
            have hρ32 : ρ 32 0 = (week1F σ) 32 0 := by rw [hLb_1]; exact rots_o _ _ _ _ (by decide)
            have hρb : ρ 32 0 < 201 := hR.lt 32 (by decide) 0
            have hr9 : b < ρ 32 0 → ρ 9 b ≤ ρ 30 0 := hSR.2.2.2.1 b
            have hr4 := seasonN_lt (ρ 9 b)
            refine lv_iload_n C.hx C.hb dX4_week_28 rfl (lv_at hl4 0 rfl) ?_
            refine lv_aload_n C.hx C.hb dX4_week_29 rfl (lv_at hl4 1 rfl) ?_
            refine k_get (v := .int (nI (ρ 32 0))) C clX4 (hW4.get 0 0 rfl rfl) 32 (Nat.le_of_ble_eq_true rfl) rfl q2356 rfl rfl dX4_week_30 ?_
            refine kn_icmp_ge (tgt := 87) C (by omega) (Nat.lt_of_lt_of_le (hR.lt 32 (by decide) 0) (by decide)) dX4_week_33 (by decide) (fun c33 => ?_) (fun c33 => ?_)
            · exact k_vret C hW4 rfl ⟨rfl, by rw [hLb_1, show b = (week1F σ) 32 0 by omega]; rfl⟩ (Nat.le_refl _) (Nat.le_refl _) dX4_week_87
            · refine lv_aload_n C.hx C.hb dX4_week_36 rfl (lv_at hl4 1 rfl) ?_
              refine k_get (v := .ref (ad 7)) C clX4 (hW4.get 0 0 rfl rfl) 7 (Nat.le_of_ble_eq_true rfl) rfl q2331 rfl rfl dX4_week_37 ?_
              refine lv_iload_n C.hx C.hb dX4_week_40 rfl (lv_at hl4 0 rfl) ?_
              refine k_iald C (f := (fun i => nI (ρ 7 i))) rfl (hW4.get 8 0 rfl rfl) (by omega) (by decide) dX4_week_41 ?_
              refine kn_iconst (a := 2) C (by decide) dX4_week_42 ?_
              refine kn_icmp_gt (tgt := 81) C (Nat.lt_of_lt_of_le (hR.lt 7 (by decide) b) (by decide)) (by decide) dX4_week_43 (by decide) (fun c43 => ?_) (fun c43 => ?_)
              · refine kn_iinc (lv' := [(1, .int (nI (b + 1))), (0, .ref h)]) (k := 0) C dX4_week_81 hl4 rfl (Nat.le_of_ble_eq_true rfl) rfl (fun ls5 hl5 => ?_)
                clear hl4
                refine lv_goto (tgt := 28) C.hx C.hb dX4_week_84 (by decide) ?_
                exact ih4 (b + 1) ρ (by omega) (by show _ = rotB b (lp rotB b _); rw [← hLb_1]; first | (simp [rotB, c33, c43]; done) | (rw [rotB, if_neg (by omega)]; done) | (rw [rotB, if_pos (by omega)]; done)) (by omega) _ _ _ hW4 (lv_sub hl5 [0, 1] rfl)
              · refine lv_aload_n C.hx C.hb dX4_week_46 rfl (lv_at hl4 1 rfl) ?_
                refine k_get (v := .int (nI (ρ 30 0))) C clX4 (hW4.get 0 0 rfl rfl) 30 (Nat.le_of_ble_eq_true rfl) rfl q2354 rfl rfl dX4_week_47 ?_
                refine lv_aload_n C.hx C.hb dX4_week_50 rfl (lv_at hl4 1 rfl) ?_
                refine k_get (v := .ref (ad 9)) C clX4 (hW4.get 0 0 rfl rfl) 9 (Nat.le_of_ble_eq_true rfl) rfl q2333 rfl rfl dX4_week_51 ?_
                refine lv_iload_n C.hx C.hb dX4_week_54 rfl (lv_at hl4 0 rfl) ?_
                refine k_iald C (f := (fun i => nI (ρ 9 i))) rfl (hW4.get 10 0 rfl rfl) (by omega) (by decide) dX4_week_55 ?_
                refine kn_isub C (by have : ρ 30 0 < 5001 := hR.lt 30 (by decide) 0; have : ρ 9 b < 5001 := hR.lt 9 (by decide) b; omega) dX4_week_56 ?_
                refine lv_aload_n C.hx C.hb dX4_week_57 rfl (lv_at hl4 1 rfl) ?_
                refine k_get (v := .ref (ad 26)) C clX4 (hW4.get 0 0 rfl rfl) 26 (Nat.le_of_ble_eq_true rfl) rfl q2350 rfl rfl dX4_week_58 ?_
                refine lv_aload_n C.hx C.hb dX4_week_61 rfl (lv_at hl4 1 rfl) ?_
                refine k_get (v := .ref (ad 9)) C clX4 (hW4.get 0 0 rfl rfl) 9 (Nat.le_of_ble_eq_true rfl) rfl q2333 rfl rfl dX4_week_62 ?_
                refine lv_iload_n C.hx C.hb dX4_week_65 rfl (lv_at hl4 0 rfl) ?_
                refine k_iald C (f := (fun i => nI (ρ 9 i))) rfl (hW4.get 10 0 rfl rfl) (by omega) (by decide) dX4_week_66 ?_
                refine k_callS (Sc := []) (Sr := mW G h ad ρ) (As := [.int (nI (ρ 9 b))]) (rest := [.ref (ad 26), .int (nI ((ρ 30 0) - (ρ 9 b)))]) C (ctX4_seasonOf l G (ρ 9 b) (Nat.lt_of_lt_of_le (hR.lt 9 (by decide) b) (by decide))) hW4 q2498 q2499 q85 q2500 rfl ⟨by decide, by decide, Eq.trans (b := some 1) (by decide +kernel) rfl⟩ (Nat.le_of_ble_eq_true rfl) (Nat.le_of_ble_eq_true rfl) (Nat.le_refl _) (Nat.le_refl _) hl4.1 rfl (Nat.le_of_ble_eq_true rfl) dX4_week_67 (k_permR _) (fun _ h => h.elim) (fun v H6 locs6 S1 hQ hz6 hW6 => ?_)
                obtain ⟨rfl, rfl⟩ := hQ
                have hW6 : Ws G A s (mW G h ad ρ) H6 locs6 := hW6
                clear hW4
                refine W.eq (g2 := F0 m 70 ls4 [.int (nI (seasonN (ρ 9 b))), .ref (ad 26), .int (nI ((ρ 30 0) - (ρ 9 b)))]) rfl ?_
                refine k_iald C (f := (fun i => nI (ρ 26 i))) rfl (hW6.get 27 0 rfl rfl) (by have : ρ 9 b < 5001 := hR.lt 9 (by decide) b; omega) (by decide) dX4_week_70 ?_
                refine kn_icmp_lt (tgt := 81) C (by have : ρ 30 0 < 5001 := hR.lt 30 (by decide) 0; have : ρ 9 b < 5001 := hR.lt 9 (by decide) b; omega) (Nat.lt_of_lt_of_le (hR.lt 26 (by decide) (seasonN (ρ 9 b))) (by decide)) dX4_week_71 (by decide) (fun c71 => ?_) (fun c71 => ?_)
                · refine kn_iinc (lv' := [(1, .int (nI (b + 1))), (0, .ref h)]) (k := 0) C dX4_week_81 hl4 rfl (Nat.le_of_ble_eq_true rfl) rfl (fun ls7 hl7 => ?_)
                  clear hl4
                  refine lv_goto (tgt := 28) C.hx C.hb dX4_week_84 (by decide) ?_
                  exact ih4 (b + 1) ρ (by omega) (by show _ = rotB b (lp rotB b _); rw [← hLb_1]; first | (simp [rotB, c33, c43, c71]; done) | (rw [rotB, if_neg (by omega)]; done) | (rw [rotB, if_pos (by omega)]; done)) (by omega) _ _ _ hW6 (lv_sub hl7 [0, 1] rfl)
                · refine lv_aload_n C.hx C.hb dX4_week_74 rfl (lv_at hl4 1 rfl) ?_
                  refine k_get (v := .ref (ad 7)) C clX4 (hW6.get 0 0 rfl rfl) 7 (Nat.le_of_ble_eq_true rfl) rfl q2331 rfl rfl dX4_week_75 ?_
                  refine lv_iload_n C.hx C.hb dX4_week_78 rfl (lv_at hl4 0 rfl) ?_
                  refine kn_iconst (a := 4) C (by decide) dX4_week_79 ?_
                  refine k_iast (S' := mW G h ad (s2 ρ 7 b 4)) C hW6 8 0 rfl rfl rfl (by omega) (by decide) dX4_week_80 (mset7 G h ad _ b 4) (fun H8 locs8 hW8 => ?_)
                  clear hW6
                  refine kn_iinc (lv' := [(1, .int (nI (b + 1))), (0, .ref h)]) (k := 0) C dX4_week_81 hl4 rfl (Nat.le_of_ble_eq_true rfl) rfl (fun ls9 hl9 => ?_)
                  clear hl4
                  refine lv_goto (tgt := 28) C.hx C.hb dX4_week_84 (by decide) ?_
                  exact ih4 (b + 1) (s2 ρ 7 b 4) (by omega) (by show _ = rotB b (lp rotB b _); rw [← hLb_1]; first | (simp [rotB, c33, c43, c71]; done) | (rw [rotB, if_neg (by omega)]; done) | (rw [rotB, if_pos (by omega)]; done)) (by omega) _ _ _ hW8 (lv_sub hl9 [0, 1] rfl)
        exact Lb ((week1F σ) 32 0 - 0 + 1) 0 τ (Nat.zero_le _) (by rw [hLa_1, show s0 = 12 by omega]; rfl) (Nat.lt_succ_self _) _ _ _ hW2 (lv_sub hl3 [0, 1] rfl)
      · refine lv_aload_n C.hx C.hb dX4_week_8 rfl (lv_at hl2 1 rfl) ?_
        refine lv_iload_n C.hx C.hb dX4_week_9 rfl (lv_at hl2 0 rfl) ?_
        refine lv_aload_n C.hx C.hb dX4_week_10 rfl (lv_at hl2 1 rfl) ?_
        refine k_get (v := .ref (ad 0)) C clX4 (hW2.get 0 0 rfl rfl) 0 (Nat.le_of_ble_eq_true rfl) rfl q2324 rfl rfl dX4_week_11 ?_
        refine lv_iload_n C.hx C.hb dX4_week_14 rfl (lv_at hl2 0 rfl) ?_
        refine k_iald C (f := (fun i => nI (τ 0 i))) rfl (hW2.get 1 0 rfl rfl) (by omega) (by decide) dX4_week_15 ?_
        refine kn_i2l C (Nat.lt_of_lt_of_le (hT.lt 0 (by decide) s0) (by decide)) dX4_week_16 ?_
        refine k_callV (Sc := mW G h ad τ) (Sr := []) (As := [.int (nI s0), .long (lN (τ 0 s0))]) (rest := []) C (ctX4_sinks l G h ad τ s0 (τ 0 s0) hST (by omega) (by omega)) hW2 clX4 (hW2.get 0 0 rfl rfl) q2493 q2495 qs57 q85 q2496 rfl rfl ⟨by decide, by decide, Eq.trans (b := some 2) (by decide +kernel) rfl⟩ (Nat.le_of_ble_eq_true rfl) (Nat.le_of_ble_eq_true rfl) (Nat.le_refl _) (Nat.le_refl _) hl2.1 rfl (Nat.le_of_ble_eq_true rfl) dX4_week_17 (List.Perm.refl _) (fun _ h => h.elim) (fun v H10 locs10 S1 hQ hz10 hW10 => ?_)
        obtain ⟨rfl, rfl⟩ := hQ
        have hW10 : Ws G A s (mW G h ad (sinksF τ s0 (τ 0 s0))) H10 locs10 := hW10
        clear hW2
        refine W.eq (g2 := F0 m 20 ls2 []) rfl ?_
        refine kn_iinc (lv' := [(1, .int (nI (s0 + 1))), (0, .ref h)]) (k := 0) C dX4_week_20 hl2 rfl (Nat.le_of_ble_eq_true rfl) rfl (fun ls11 hl11 => ?_)
        clear hl2
        refine lv_goto (tgt := 2) C.hx C.hb dX4_week_23 (by decide) ?_
        exact ih2 (s0 + 1) (sinksF τ s0 (τ 0 s0)) (by omega) (by rw [hLa_1]; rfl) (by omega) _ _ _ hW10 (lv_sub hl11 [0, 1] rfl)
  exact La (12 - 0 + 1) 0 σ (Nat.zero_le _) rfl (Nat.lt_succ_self _) _ _ _ hW (lv_sub hl1 [0, 1] rfl)

def Q_ctX4_comes (G : GT) (h : Nat) (ad : Nat → Nat) (σ : Sg) (on1 wh1 wi1 : Nat) : Option Value → List va_W → Prop := fun v S1 => v = some (.int (nI (σ 34 0))) ∧ S1 = mW G h ad (comesF σ on1 wh1 wi1)
set_option maxHeartbeats 4000000 in
set_option maxRecDepth 100000 in
theorem ctX4_comes (l : Launch) (G : GT) (h : Nat) (ad : Nat → Nat) (σ : Sg) (on1 wh1 wi1 : Nat) (hS : Sf σ) (he : σ 34 0 < 480) : Ct l G yX4_comes cX4_comes 4 (some .int) 0 0 0 0 [.ref h, .int (nI on1), .int (nI wh1), .int (nI wi1)] (mW G h ad σ) noR (Q_ctX4_comes G h ad σ on1 wh1 wi1) := by
  refine Ct.of (by decide +kernel) (Nat.le_of_ble_eq_true rfl) ?_
  intro p e s m below meth c A ls C hW hRo hl
  have hl : lv_has ls 4 [(0, .ref h), (1, .int (nI on1)), (2, .int (nI wh1)), (3, .int (nI wi1))] := hl
  have hB : Bd σ := hS.1
  have h32 : σ 32 0 ≤ 200 := Nat.lt_succ_iff.mp (hB.lt 32 (by decide) 0)
  have h34 : σ 34 0 ≤ 480 := Nat.lt_succ_iff.mp (hB.lt 34 (by decide) 0)
  have h35 : σ 35 0 ≤ 64 := Nat.lt_succ_iff.mp (hB.lt 35 (by decide) 0)
  have h36 : σ 36 0 ≤ 60 := Nat.lt_succ_iff.mp (hB.lt 36 (by decide) 0)
  have h30 : σ 30 0 ≤ 5000 := Nat.lt_succ_iff.mp (hB.lt 30 (by decide) 0)
  refine lv_aload_n C.hx C.hb dX4_comes_0 rfl (lv_at hl 0 rfl) ?_
  refine k_get (v := .ref (ad 12)) C clX4 (hW.get 0 0 rfl rfl) 12 (Nat.le_of_ble_eq_true rfl) rfl q2336 rfl rfl dX4_comes_1 ?_
  refine lv_aload_n C.hx C.hb dX4_comes_4 rfl (lv_at hl 0 rfl) ?_
  refine k_get (v := .int (nI (σ 34 0))) C clX4 (hW.get 0 0 rfl rfl) 34 (Nat.le_of_ble_eq_true rfl) rfl q2358 rfl rfl dX4_comes_5 ?_
  refine lv_iload_n C.hx C.hb dX4_comes_8 rfl (lv_at hl 1 rfl) ?_
  refine k_iast (S' := mW G h ad (s2 σ 12 (σ 34 0) on1)) C hW 13 0 rfl rfl rfl (by have : σ 34 0 < 481 := hB.lt 34 (by decide) 0; omega) (by decide) dX4_comes_9 (mset12 G h ad _ (σ 34 0) on1) (fun H1 locs1 hW1 => ?_)
  clear hW
  refine lv_aload_n C.hx C.hb dX4_comes_10 rfl (lv_at hl 0 rfl) ?_
  refine k_get (v := .ref (ad 13)) C clX4 (hW1.get 0 0 rfl rfl) 13 (Nat.le_of_ble_eq_true rfl) rfl q2337 rfl rfl dX4_comes_11 ?_
  refine lv_aload_n C.hx C.hb dX4_comes_14 rfl (lv_at hl 0 rfl) ?_
  refine k_get (v := .int (nI (σ 34 0))) C clX4 (hW1.get 0 0 rfl rfl) 34 (Nat.le_of_ble_eq_true rfl) rfl q2358 rfl rfl dX4_comes_15 ?_
  refine lv_iload_n C.hx C.hb dX4_comes_18 rfl (lv_at hl 2 rfl) ?_
  refine k_iast (S' := mW G h ad (s2 (s2 σ 12 (σ 34 0) on1) 13 (σ 34 0) wh1)) C hW1 14 0 rfl rfl rfl (by have : σ 34 0 < 481 := hB.lt 34 (by decide) 0; omega) (by decide) dX4_comes_19 (mset13 G h ad _ (σ 34 0) wh1) (fun H2 locs2 hW2 => ?_)
  clear hW1
  refine lv_aload_n C.hx C.hb dX4_comes_20 rfl (lv_at hl 0 rfl) ?_
  refine k_get (v := .ref (ad 14)) C clX4 (hW2.get 0 0 rfl rfl) 14 (Nat.le_of_ble_eq_true rfl) rfl q2338 rfl rfl dX4_comes_21 ?_
  refine lv_aload_n C.hx C.hb dX4_comes_24 rfl (lv_at hl 0 rfl) ?_
  refine k_get (v := .int (nI (σ 34 0))) C clX4 (hW2.get 0 0 rfl rfl) 34 (Nat.le_of_ble_eq_true rfl) rfl q2358 rfl rfl dX4_comes_25 ?_
  refine lv_iload_n C.hx C.hb dX4_comes_28 rfl (lv_at hl 3 rfl) ?_
  refine k_iast (S' := mW G h ad (s2 (s2 (s2 σ 12 (σ 34 0) on1) 13 (σ 34 0) wh1) 14 (σ 34 0) wi1)) C hW2 15 0 rfl rfl rfl (by have : σ 34 0 < 481 := hB.lt 34 (by decide) 0; omega) (by decide) dX4_comes_29 (mset14 G h ad _ (σ 34 0) wi1) (fun H3 locs3 hW3 => ?_)
  clear hW2
  refine lv_aload_n C.hx C.hb dX4_comes_30 rfl (lv_at hl 0 rfl) ?_
  refine lv_dup C.hx C.hb dX4_comes_31 rfl ?_
  refine k_get (v := .int (nI (σ 34 0))) C clX4 (hW3.get 0 0 rfl rfl) 34 (Nat.le_of_ble_eq_true rfl) rfl q2358 rfl rfl dX4_comes_32 ?_
  refine kn_iconst (a := 1) C (by decide) dX4_comes_35 ?_
  refine kn_iadd C  dX4_comes_36 ?_
  refine k_put (S' := mW G h ad (s2 (s2 (s2 (s2 σ 12 (σ 34 0) on1) 13 (σ 34 0) wh1) 14 (σ 34 0) wi1) 34 0 ((σ 34 0) + 1))) C clX4 hW3 0 0 rfl rfl 34 (Nat.le_of_ble_eq_true rfl) rfl q2358 rfl (fun _ h => h) (Or.inl rfl) (fty := .int) (v := .int (nI ((σ 34 0) + 1))) (by decide +kernel) rfl rfl (Nat.le_of_ble_eq_true rfl) dX4_comes_37 (mput34 G h ad _ _) (fun H4 locs4 hW4 => ?_)
  clear hW3
  refine lv_aload_n C.hx C.hb dX4_comes_40 rfl (lv_at hl 0 rfl) ?_
  refine k_get (v := .int (nI ((σ 34 0) + 1))) C clX4 (hW4.get 0 0 rfl rfl) 34 (Nat.le_of_ble_eq_true rfl) rfl q2358 rfl rfl dX4_comes_41 ?_
  refine kn_iconst (a := 1) C (by decide) dX4_comes_44 ?_
  refine kn_isub C (by have : σ 34 0 < 481 := hB.lt 34 (by decide) 0; omega) dX4_comes_45 ?_
  exact k_iret C hW4 rfl ⟨by simp, rfl⟩ (Nat.le_refl _) (Nat.le_refl _) dX4_comes_46

def Q_ctX4_sends (G : GT) (h : Nat) (ad : Nat → Nat) (σ : Sg) (s1 n1 : Nat) : Option Value → List va_W → Prop := fun v S1 => v = some (.int (nI (σ 30 0 + 1 + s1 % 6))) ∧ S1 = mW G h ad (sendsF σ s1 n1)
set_option maxHeartbeats 4000000 in
set_option maxRecDepth 100000 in
theorem ctX4_sends (l : Launch) (G : GT) (h : Nat) (ad : Nat → Nat) (σ : Sg) (s1 n1 : Nat) (hS : Sf σ) (hs1 : s1 < 12) (hn1 : n1 < 1000) (he : σ 34 0 < 480) : Ct l G yX4_sends cX4_sends 7 (some .int) 1 23 0 0 [.ref h, .int (nI s1), .int (nI n1)] (mW G h ad σ) noR (Q_ctX4_sends G h ad σ s1 n1) := by
  refine Ct.of (by decide +kernel) (Nat.le_of_ble_eq_true rfl) ?_
  intro p e s m below meth c A ls C hW hRo hl
  have hl : lv_has ls 7 [(0, .ref h), (1, .int (nI s1)), (2, .int (nI n1))] := hl
  have hB : Bd σ := hS.1
  have h32 : σ 32 0 ≤ 200 := Nat.lt_succ_iff.mp (hB.lt 32 (by decide) 0)
  have h34 : σ 34 0 ≤ 480 := Nat.lt_succ_iff.mp (hB.lt 34 (by decide) 0)
  have h35 : σ 35 0 ≤ 64 := Nat.lt_succ_iff.mp (hB.lt 35 (by decide) 0)
  have h36 : σ 36 0 ≤ 60 := Nat.lt_succ_iff.mp (hB.lt 36 (by decide) 0)
  have h30 : σ 30 0 ≤ 5000 := Nat.lt_succ_iff.mp (hB.lt 30 (by decide) 0)
  refine lv_aload_n C.hx C.hb dX4_sends_0 rfl (lv_at hl 0 rfl) ?_
  refine k_get (v := .int (nI (σ 30 0))) C clX4 (hW.get 0 0 rfl rfl) 30 (Nat.le_of_ble_eq_true rfl) rfl q2354 rfl rfl dX4_sends_1 ?_
  refine kn_iconst (a := 1) C (by decide) dX4_sends_4 ?_
  refine kn_iadd C  dX4_sends_5 ?_
  refine lv_iload_n C.hx C.hb dX4_sends_6 rfl (lv_at hl 1 rfl) ?_
  refine kn_bipush (a := 6) C (by decide) dX4_sends_7 ?_
  refine kn_irem C (by omega) (by decide) (by decide) dX4_sends_9 ?_
  refine kn_iadd C  dX4_sends_10 ?_
  refine lv_istore_n (lv' := [(3, .int (nI (((σ 30 0) + 1) + (s1 % 6)))), (0, .ref h), (1, .int (nI s1)), (2, .int (nI n1))]) C.hx C.hb dX4_sends_11 rfl hl (Nat.le_of_ble_eq_true rfl) rfl (fun ls1 hl1 => ?_)
  clear hl
  refine lv_aload_n C.hx C.hb dX4_sends_12 rfl (lv_at hl1 1 rfl) ?_
  refine lv_iload_n C.hx C.hb dX4_sends_13 rfl (lv_at hl1 0 rfl) ?_
  refine kn_iconst (a := 1) C (by decide) dX4_sends_14 ?_
  refine lv_iload_n C.hx C.hb dX4_sends_15 rfl (lv_at hl1 2 rfl) ?_
  refine k_callV (Sc := mW G h ad σ) (Sr := []) (As := [.int (nI (((σ 30 0) + 1) + (s1 % 6))), .int (nI 1), .int (nI s1)]) (rest := []) C (ctX4_comes l G h ad σ (σ 30 0 + 1 + s1 % 6) 1 s1 hS he) hW clX4 (hW.get 0 0 rfl rfl) q2477 q2479 qs53 q85 q2480 rfl rfl ⟨by decide, by decide, Eq.trans (b := some 3) (by decide +kernel) rfl⟩ (Nat.le_of_ble_eq_true rfl) (Nat.le_of_ble_eq_true rfl) (Nat.le_refl _) (Nat.le_refl _) hl1.1 rfl (Nat.le_of_ble_eq_true rfl) dX4_sends_16 (List.Perm.refl _) (fun _ h => h.elim) (fun v H2 locs2 S1 hQ hz2 hW2 => ?_)
  obtain ⟨rfl, rfl⟩ := hQ
  have hW2 : Ws G A s (mW G h ad (comesF σ (σ 30 0 + 1 + s1 % 6) 1 s1)) H2 locs2 := hW2
  clear hW
  refine W.eq (g2 := F0 m 19 ls1 [.int (nI (σ 34 0))]) rfl ?_
  refine lv_istore (lv' := [(4, .int (nI (σ 34 0))), (3, .int (nI (((σ 30 0) + 1) + (s1 % 6)))), (0, .ref h), (1, .int (nI s1)), (2, .int (nI n1))]) C.hx C.hb dX4_sends_19 hl1 (Nat.le_of_ble_eq_true rfl) rfl (fun ls3 hl3 => ?_)
  clear hl1
  refine lv_iload_n C.hx C.hb dX4_sends_21 rfl (lv_at hl3 4 rfl) ?_
  refine lv_istore (lv' := [(5, .int (nI n1)), (4, .int (nI (σ 34 0))), (3, .int (nI (((σ 30 0) + 1) + (s1 % 6)))), (0, .ref h), (1, .int (nI s1)), (2, .int (nI n1))]) C.hx C.hb dX4_sends_22 hl3 (Nat.le_of_ble_eq_true rfl) rfl (fun ls4 hl4 => ?_)
  clear hl3
  refine kn_iconst (a := 0) C (by decide) dX4_sends_24 ?_
  refine lv_istore (lv' := [(6, .int (nI 0)), (5, .int (nI n1)), (4, .int (nI (σ 34 0))), (3, .int (nI (((σ 30 0) + 1) + (s1 % 6)))), (0, .ref h), (1, .int (nI s1)), (2, .int (nI n1))]) C.hx C.hb dX4_sends_25 hl4 (Nat.le_of_ble_eq_true rfl) rfl (fun ls5 hl5 => ?_)
  clear hl4
  have La : ∀ (k6 : Nat) (b lf : Nat) (τ : Sg), (b ≤ σ 32 0) → ((lf, τ) = sendL σ s1 n1 b) → (lf ≤ n1) → σ 32 0 - b < k6 → ∀ (H6 : Heap) (locs6 : List Loc) (ls6 : Array Slot), Ws G A s (mW G h ad τ) H6 locs6 → lv_has ls6 7 [(6, .int (nI b)), (5, .int (nI lf)), (4, .int (nI (σ 34 0))), (3, .int (nI (σ 30 0 + 1 + s1 % 6))), (0, .ref h), (1, .int (nI s1)), (2, .int (nI n1))] → W p l e ({ frames := 1, cells := 0, slots := 0, locals := 23 } : Room) s m ([.ref h, .int (nI s1), .int (nI n1)] : List Value).toArray below meth c H6 locs6 0 0 (MQ below (cQ G A (Q_ctX4_sends G h ad σ s1 n1)) ([.ref h, .int (nI s1), .int (nI n1)] : List Value).toArray s 0 0 A) (F0 m 27 ls6 []) := by
    intro k6
    induction k6 with
    | zero => intro b lf τ hLa_0 hLa_1 hLa_2 hm6; exact absurd hm6 (Nat.not_lt_zero _)
    | succ k6 ih6 =>
      intro b lf τ hLa_0 hLa_1 hLa_2 hm6 H6 locs6 ls6 hW6 hl6
      have hST : Sf τ := by have := hS.sendL0 (n := n1) hs1 he hLa_0; rw [← hLa_1] at this; exact this
      have hT : Bd τ := hST.1
      have hτ32 : τ 32 0 = σ 32 0 := by have := sendL_o σ s1 n1 b 32 0 (by decide); rw [← hLa_1] at this; exact this
      have hτe : τ = (sendL σ s1 n1 b).2 := by rw [← hLa_1]
      have hle : lf = (sendL σ s1 n1 b).1 := by rw [← hLa_1]
      refine lv_iload C.hx C.hb dX4_sends_27 (lv_at hl6 0 rfl) ?_
      refine lv_aload_n C.hx C.hb dX4_sends_29 rfl (lv_at hl6 4 rfl) ?_
      refine k_get (v := .int (nI (τ 32 0))) C clX4 (hW6.get 0 0 rfl rfl) 32 (Nat.le_of_ble_eq_true rfl) rfl q2356 rfl rfl dX4_sends_30 ?_
      refine kn_icmp_ge (tgt := 88) C (by omega) (Nat.lt_of_lt_of_le (hT.lt 32 (by decide) 0) (by decide)) dX4_sends_33 (by decide) (fun c33 => ?_) (fun c33 => ?_)
      · refine lv_iload_n C.hx C.hb dX4_sends_88 rfl (lv_at hl6 3 rfl) ?_
        exact k_iret C hW6 rfl ⟨rfl, by rw [hτe, show b = σ 32 0 by omega]; rfl⟩ (Nat.le_refl _) (Nat.le_refl _) dX4_sends_89
      · refine lv_iload C.hx C.hb dX4_sends_36 (lv_at hl6 1 rfl) ?_
        refine kn_if_le (tgt := 88) C (by omega) dX4_sends_38 (by decide) (fun c38 => ?_) (fun c38 => ?_)
        · refine lv_iload_n C.hx C.hb dX4_sends_88 rfl (lv_at hl6 3 rfl) ?_
          exact k_iret C hW6 rfl ⟨rfl, by rw [hτe, sends_stop (by omega) hLa_0]⟩ (Nat.le_refl _) (Nat.le_refl _) dX4_sends_89
        · refine lv_aload_n C.hx C.hb dX4_sends_41 rfl (lv_at hl6 4 rfl) ?_
          refine k_get (v := .ref (ad 7)) C clX4 (hW6.get 0 0 rfl rfl) 7 (Nat.le_of_ble_eq_true rfl) rfl q2331 rfl rfl dX4_sends_42 ?_
          refine lv_iload C.hx C.hb dX4_sends_45 (lv_at hl6 0 rfl) ?_
          refine k_iald C (f := (fun i => nI (τ 7 i))) rfl (hW6.get 8 0 rfl rfl) (by omega) (by decide) dX4_sends_47 ?_
          refine kn_if_eq (tgt := 54) C (Nat.lt_of_lt_of_le (hT.lt 7 (by decide) b) (by decide)) dX4_sends_48 (by decide) (fun c48 => ?_) (fun c48 => ?_)
          · refine lv_aload_n C.hx C.hb dX4_sends_54 rfl (lv_at hl6 4 rfl) ?_
            refine k_get (v := .ref (ad 7)) C clX4 (hW6.get 0 0 rfl rfl) 7 (Nat.le_of_ble_eq_true rfl) rfl q2331 rfl rfl dX4_sends_55 ?_
            refine lv_iload C.hx C.hb dX4_sends_58 (lv_at hl6 0 rfl) ?_
            refine kn_iconst (a := 1) C (by decide) dX4_sends_60 ?_
            refine k_iast (S' := mW G h ad (s2 τ 7 b 1)) C hW6 8 0 rfl rfl rfl (by omega) (by decide) dX4_sends_61 (mset7 G h ad _ b 1) (fun H7 locs7 hW7 => ?_)
            clear hW6
            refine lv_aload_n C.hx C.hb dX4_sends_62 rfl (lv_at hl6 4 rfl) ?_
            refine k_get (v := .ref (ad 8)) C clX4 (hW7.get 0 0 rfl rfl) 8 (Nat.le_of_ble_eq_true rfl) rfl q2332 rfl rfl dX4_sends_63 ?_
            refine lv_iload C.hx C.hb dX4_sends_66 (lv_at hl6 0 rfl) ?_
            refine lv_iload_n C.hx C.hb dX4_sends_68 rfl (lv_at hl6 5 rfl) ?_
            refine k_iast (S' := mW G h ad (s2 (s2 τ 7 b 1) 8 b s1)) C hW7 9 0 rfl rfl rfl (by omega) (by decide) dX4_sends_69 (mset8 G h ad _ b s1) (fun H8 locs8 hW8 => ?_)
            clear hW7
            refine lv_aload_n C.hx C.hb dX4_sends_70 rfl (lv_at hl6 4 rfl) ?_
            refine k_get (v := .ref (ad 10)) C clX4 (hW8.get 0 0 rfl rfl) 10 (Nat.le_of_ble_eq_true rfl) rfl q2334 rfl rfl dX4_sends_71 ?_
            refine lv_iload C.hx C.hb dX4_sends_74 (lv_at hl6 0 rfl) ?_
            refine lv_iload C.hx C.hb dX4_sends_76 (lv_at hl6 2 rfl) ?_
            refine k_iast (S' := mW G h ad (s2 (s2 (s2 τ 7 b 1) 8 b s1) 10 b (σ 34 0))) C hW8 11 0 rfl rfl rfl (by omega) (by decide) dX4_sends_78 (mset10 G h ad _ b (σ 34 0)) (fun H9 locs9 hW9 => ?_)
            clear hW8
            refine kn_idec (lv' := [(5, .int (nI (lf - 1))), (6, .int (nI b)), (4, .int (nI (σ 34 0))), (3, .int (nI (σ 30 0 + 1 + s1 % 6))), (0, .ref h), (1, .int (nI s1)), (2, .int (nI n1))]) (k := 1) C (by omega) dX4_sends_79 hl6 rfl (Nat.le_of_ble_eq_true rfl) rfl (fun ls10 hl10 => ?_)
            clear hl6
            refine kn_iinc (lv' := [(6, .int (nI (b + 1))), (5, .int (nI (lf - 1))), (4, .int (nI (σ 34 0))), (3, .int (nI (σ 30 0 + 1 + s1 % 6))), (0, .ref h), (1, .int (nI s1)), (2, .int (nI n1))]) (k := 1) C dX4_sends_82 hl10 rfl (Nat.le_of_ble_eq_true rfl) rfl (fun ls11 hl11 => ?_)
            clear hl10
            refine lv_goto (tgt := 27) C.hx C.hb dX4_sends_85 (by decide) ?_
            exact ih6 (b + 1) (lf - 1) (s2 (s2 (s2 τ 7 b 1) 8 b s1) 10 b (σ 34 0)) (by omega) (by show _ = sendB s1 (σ 34 0) b (sendL σ s1 n1 b); rw [← hLa_1]; first | (simp [sendB, c33, c38, c48]; done) | (simp [sendB, c33, c38, c48]; omega)) (by omega) (by omega) _ _ _ hW9 (lv_sub hl11 [0, 1, 2, 3, 4, 5, 6] rfl)
          · refine lv_goto (tgt := 82) C.hx C.hb dX4_sends_51 (by decide) ?_
            refine kn_iinc (lv' := [(6, .int (nI (b + 1))), (5, .int (nI lf)), (4, .int (nI (σ 34 0))), (3, .int (nI (σ 30 0 + 1 + s1 % 6))), (0, .ref h), (1, .int (nI s1)), (2, .int (nI n1))]) (k := 0) C dX4_sends_82 hl6 rfl (Nat.le_of_ble_eq_true rfl) rfl (fun ls12 hl12 => ?_)
            clear hl6
            refine lv_goto (tgt := 27) C.hx C.hb dX4_sends_85 (by decide) ?_
            exact ih6 (b + 1) lf τ (by omega) (by show _ = sendB s1 (σ 34 0) b (sendL σ s1 n1 b); rw [← hLa_1]; first | (simp [sendB, c33, c38, c48]; done) | (simp [sendB, c33, c38, c48]; omega)) (by omega) (by omega) _ _ _ hW6 (lv_sub hl12 [0, 1, 2, 3, 4, 5, 6] rfl)
  have e13 : (σ 30 0 + 1 + s1 % 6) = (((σ 30 0) + 1) + (s1 % 6)) := by rfl
  exact La (σ 32 0 - 0 + 1) 0 n1 (comesF σ (σ 30 0 + 1 + s1 % 6) 1 s1) (Nat.zero_le _) rfl (Nat.le_refl _) (Nat.lt_succ_self _) _ _ _ hW2 (by rw [e13]; exact (lv_sub hl5 [0, 1, 2, 3, 4, 5, 6] rfl))

def Q_ctX4_serves (G : GT) (h : Nat) (ad : Nat → Nat) (σ : Sg)  : Option Value → List va_W → Prop := fun v S1 => v = none ∧ S1 = mW G h ad (servesF σ)
set_option maxHeartbeats 4000000 in
set_option maxRecDepth 100000 in
theorem ctX4_serves (l : Launch) (G : GT) (h : Nat) (ad : Nat → Nat) (σ : Sg)  (hV : Sv σ) : Ct l G yX4_serves cX4_serves 4 none 2 49 0 0 [.ref h] (mW G h ad σ) noR (Q_ctX4_serves G h ad σ) := by
  refine Ct.of (by decide +kernel) (Nat.le_of_ble_eq_true rfl) ?_
  intro p e s m below meth c A ls C hW hRo hl
  have hl : lv_has ls 4 [(0, .ref h)] := hl
  have hS : Sf σ := hV.1
  have hB : Bd σ := hS.1
  have h32 : σ 32 0 ≤ 200 := Nat.lt_succ_iff.mp (hB.lt 32 (by decide) 0)
  have h34 : σ 34 0 ≤ 480 := Nat.lt_succ_iff.mp (hB.lt 34 (by decide) 0)
  have h35 : σ 35 0 ≤ 64 := Nat.lt_succ_iff.mp (hB.lt 35 (by decide) 0)
  have h36 : σ 36 0 ≤ 60 := Nat.lt_succ_iff.mp (hB.lt 36 (by decide) 0)
  have h30 : σ 30 0 ≤ 5000 := Nat.lt_succ_iff.mp (hB.lt 30 (by decide) 0)
  have Lo : ∀ (k1 : Nat) (k0 : Nat) (τ : Sg), (Sv τ) → (servesN k0 τ = servesF σ) → (countN τ 0 (τ 32 0) < k0) → k0 < k1 → ∀ (H1 : Heap) (locs1 : List Loc) (ls1 : Array Slot), Ws G A s (mW G h ad τ) H1 locs1 → lv_has ls1 4 [(0, .ref h)] → W p l e ({ frames := 2, cells := 0, slots := 0, locals := 49 } : Room) s m ([.ref h] : List Value).toArray below meth c H1 locs1 0 0 (MQ below (cQ G A (Q_ctX4_serves G h ad σ)) ([.ref h] : List Value).toArray s 0 0 A) (F0 m 0 ls1 []) := by
    intro k1
    induction k1 with
    | zero => intro k0 τ hLo_0 hLo_1 hLo_2 hm1; exact absurd hm1 (Nat.not_lt_zero _)
    | succ k1 ih1 =>
      intro k0 τ hLo_0 hLo_1 hLo_2 hm1 H1 locs1 ls1 hW1 hl1
      have hST : Sf τ := hLo_0.1
      have hT : Bd τ := hST.1
      have t32 : τ 32 0 < 201 := hT.lt 32 (by decide) 0
      have t35 : τ 35 0 < 65 := hT.lt 35 (by decide) 0
      have t16 : τ 16 0 < 5 := hT.lt 16 (by decide) 0
      have h15 : τ 15 0 < 12 := hT.lt 15 (by decide) 0
      have hcn : countN τ 0 (τ 32 0) ≤ 200 := Nat.le_trans (count_le _ _ _) (by omega)
      refine lv_aload_n C.hx C.hb dX4_serves_0 rfl (lv_at hl1 0 rfl) ?_
      refine k_get (v := .int (nI (τ 35 0))) C clX4 (hW1.get 0 0 rfl rfl) 35 (Nat.le_of_ble_eq_true rfl) rfl q2359 rfl rfl dX4_serves_1 ?_
      refine kn_if_le (tgt := 134) C (Nat.lt_of_lt_of_le (hT.lt 35 (by decide) 0) (by decide)) dX4_serves_4 (by decide) (fun c4 => ?_) (fun c4 => ?_)
      · exact k_vret C hW1 rfl ⟨rfl, by rw [← hLo_1]; obtain ⟨k2, rfl⟩ : ∃ k2, k0 = k2 + 1 := ⟨k0 - 1, by omega⟩; rw [servesN, if_neg (by omega)]⟩ (Nat.le_refl _) (Nat.le_refl _) dX4_serves_134
      · refine lv_aload_n C.hx C.hb dX4_serves_7 rfl (lv_at hl1 0 rfl) ?_
        refine kn_iconst (a := 0) C (by decide) dX4_serves_8 ?_
        have hrow : 0 < τ 35 0 := by omega
        refine k_callV (Sc := mW G h ad τ) (Sr := []) (As := [.int (nI 0)]) (rest := []) C (ctX4_count l G h ad τ 0 hST (by omega)) hW1 clX4 (hW1.get 0 0 rfl rfl) q2469 q2471 qs51 q85 q2472 rfl rfl ⟨by decide, by decide, Eq.trans (b := some 1) (by decide +kernel) rfl⟩ (Nat.le_of_ble_eq_true rfl) (Nat.le_of_ble_eq_true rfl) (Nat.le_refl _) (Nat.le_refl _) hl1.1 rfl (Nat.le_of_ble_eq_true rfl) dX4_serves_9 (List.Perm.refl _) (fun _ h => h.elim) (fun v H2 locs2 S1 hQ hz2 hW2 => ?_)
        obtain ⟨rfl, rfl⟩ := hQ
        have hW2 : Ws G A s (mW G h ad τ) H2 locs2 := hW2
        clear hW1
        refine W.eq (g2 := F0 m 12 ls1 [.int (nI (countN τ 0 (τ 32 0)))]) rfl ?_
        refine kn_if_le (tgt := 134) C (by have : τ 0 (τ 32 0) < 51 := hT.lt 0 (by decide) (τ 32 0); omega) dX4_serves_12 (by decide) (fun c12 => ?_) (fun c12 => ?_)
        · exact k_vret C hW2 rfl ⟨rfl, by rw [← hLo_1]; obtain ⟨k2, rfl⟩ : ∃ k2, k0 = k2 + 1 := ⟨k0 - 1, by omega⟩; rw [servesN, if_neg (by omega)]⟩ (Nat.le_refl _) (Nat.le_refl _) dX4_serves_134
        · refine lv_aload_n C.hx C.hb dX4_serves_15 rfl (lv_at hl1 0 rfl) ?_
          refine k_get (v := .ref (ad 16)) C clX4 (hW2.get 0 0 rfl rfl) 16 (Nat.le_of_ble_eq_true rfl) rfl q2340 rfl rfl dX4_serves_16 ?_
          refine kn_iconst (a := 0) C (by decide) dX4_serves_19 ?_
          refine k_iald C (f := (fun i => nI (τ 16 i))) rfl (hW2.get 17 0 rfl rfl) (by decide) (by decide) dX4_serves_20 ?_
          refine lv_aload_n C.hx C.hb dX4_serves_21 rfl (lv_at hl1 0 rfl) ?_
          refine kn_iconst (a := 0) C (by decide) dX4_serves_22 ?_
          have hcnt : 0 < countN τ 0 (τ 32 0) := by omega
          refine k_callV (Sc := mW G h ad τ) (Sr := []) (As := [.int (nI 0)]) (rest := [.int (nI (τ 16 0))]) C (ctX4_count l G h ad τ 0 hST (by omega)) hW2 clX4 (hW2.get 0 0 rfl rfl) q2469 q2471 qs51 q85 q2472 rfl rfl ⟨by decide, by decide, Eq.trans (b := some 1) (by decide +kernel) rfl⟩ (Nat.le_of_ble_eq_true rfl) (Nat.le_of_ble_eq_true rfl) (Nat.le_refl _) (Nat.le_refl _) hl1.1 rfl (Nat.le_of_ble_eq_true rfl) dX4_serves_23 (List.Perm.refl _) (fun _ h => h.elim) (fun v H3 locs3 S1 hQ hz3 hW3 => ?_)
          obtain ⟨rfl, rfl⟩ := hQ
          have hW3 : Ws G A s (mW G h ad τ) H3 locs3 := hW3
          clear hW2
          refine W.eq (g2 := F0 m 26 ls1 [.int (nI (countN τ 0 (τ 32 0))), .int (nI (τ 16 0))]) rfl ?_
          refine kn_icmp_ge (tgt := 38) C (Nat.lt_of_lt_of_le (hT.lt 16 (by decide) 0) (by decide)) (by have : τ 0 (τ 32 0) < 51 := hT.lt 0 (by decide) (τ 32 0); omega) dX4_serves_26 (by decide) (fun c26 => ?_) (fun c26 => ?_)
          · refine lv_aload_n C.hx C.hb dX4_serves_38 rfl (lv_at hl1 0 rfl) ?_
            refine kn_iconst (a := 0) C (by decide) dX4_serves_39 ?_
            refine k_callV (Sc := mW G h ad τ) (Sr := []) (As := [.int (nI 0)]) (rest := []) C (ctX4_count l G h ad τ 0 hST (by omega)) hW3 clX4 (hW3.get 0 0 rfl rfl) q2469 q2471 qs51 q85 q2472 rfl rfl ⟨by decide, by decide, Eq.trans (b := some 1) (by decide +kernel) rfl⟩ (Nat.le_of_ble_eq_true rfl) (Nat.le_of_ble_eq_true rfl) (Nat.le_refl _) (Nat.le_refl _) hl1.1 rfl (Nat.le_of_ble_eq_true rfl) dX4_serves_40 (List.Perm.refl _) (fun _ h => h.elim) (fun v H4 locs4 S1 hQ hz4 hW4 => ?_)
            obtain ⟨rfl, rfl⟩ := hQ
            have hW4 : Ws G A s (mW G h ad τ) H4 locs4 := hW4
            clear hW3
            refine W.eq (g2 := F0 m 43 ls1 [.int (nI (countN τ 0 (τ 32 0)))]) rfl ?_
            refine lv_istore_n (lv' := [(1, .int (nI (countN τ 0 (τ 32 0)))), (0, .ref h)]) C.hx C.hb dX4_serves_43 rfl hl1 (Nat.le_of_ble_eq_true rfl) rfl (fun ls5 hl5 => ?_)
            clear hl1
            refine lv_aload_n C.hx C.hb dX4_serves_44 rfl (lv_at hl5 1 rfl) ?_
            refine k_get (v := .ref (ad 15)) C clX4 (hW4.get 0 0 rfl rfl) 15 (Nat.le_of_ble_eq_true rfl) rfl q2339 rfl rfl dX4_serves_45 ?_
            refine kn_iconst (a := 0) C (by decide) dX4_serves_48 ?_
            refine k_iald C (f := (fun i => nI (τ 15 i))) rfl (hW4.get 16 0 rfl rfl) (by decide) (by decide) dX4_serves_49 ?_
            refine lv_istore_n (lv' := [(2, .int (nI (τ 15 0))), (1, .int (nI (countN τ 0 (τ 32 0)))), (0, .ref h)]) C.hx C.hb dX4_serves_50 rfl hl5 (Nat.le_of_ble_eq_true rfl) rfl (fun ls6 hl6 => ?_)
            clear hl5
            refine lv_aload_n C.hx C.hb dX4_serves_51 rfl (lv_at hl6 2 rfl) ?_
            refine k_get (v := .ref (ad 16)) C clX4 (hW4.get 0 0 rfl rfl) 16 (Nat.le_of_ble_eq_true rfl) rfl q2340 rfl rfl dX4_serves_52 ?_
            refine kn_iconst (a := 0) C (by decide) dX4_serves_55 ?_
            refine lv_dup2_11 C.hx C.hb dX4_serves_56 rfl rfl ?_
            refine k_iald C (f := (fun i => nI (τ 16 i))) rfl (hW4.get 17 0 rfl rfl) (by decide) (by decide) dX4_serves_57 ?_
            refine lv_iload_n C.hx C.hb dX4_serves_58 rfl (lv_at hl6 1 rfl) ?_
            refine kn_isub C (by have : τ 0 (τ 32 0) < 51 := hT.lt 0 (by decide) (τ 32 0); have : τ 16 0 < 5 := hT.lt 16 (by decide) 0; omega) dX4_serves_59 ?_
            refine k_iast (S' := mW G h ad (s2 τ 16 0 ((τ 16 0) - (countN τ 0 (τ 32 0))))) C hW4 17 0 rfl rfl rfl (by decide) (by decide) dX4_serves_60 (mset16 G h ad _ 0 ((τ 16 0) - (countN τ 0 (τ 32 0)))) (fun H7 locs7 hW7 => ?_)
            clear hW4
            refine lv_aload_n C.hx C.hb dX4_serves_61 rfl (lv_at hl6 2 rfl) ?_
            refine k_get (v := .ref (ad 16)) C clX4 (hW7.get 0 0 rfl rfl) 16 (Nat.le_of_ble_eq_true rfl) rfl q2340 rfl rfl dX4_serves_62 ?_
            refine kn_iconst (a := 0) C (by decide) dX4_serves_65 ?_
            refine k_iald C (f := (fun i => nI ((s2 τ 16 0 ((τ 16 0) - (countN τ 0 (τ 32 0)))) 16 i))) rfl (hW7.get 17 0 rfl rfl) (by decide) (by decide) dX4_serves_66 ?_
            refine k_op (y := .int (nI ((τ 16 0) - (countN τ 0 (τ 32 0))))) (by simp [s2_rd]) ?_
            refine kn_if_ne (tgt := 124) C (by have : τ 0 (τ 32 0) < 51 := hT.lt 0 (by decide) (τ 32 0); have : τ 16 0 < 5 := hT.lt 16 (by decide) 0; omega) dX4_serves_67 (by decide) (fun c67 => ?_) (fun c67 => ?_)
            · refine lv_aload_n C.hx C.hb dX4_serves_124 rfl (lv_at hl6 2 rfl) ?_
              refine lv_iload_n C.hx C.hb dX4_serves_125 rfl (lv_at hl6 0 rfl) ?_
              refine lv_iload_n C.hx C.hb dX4_serves_126 rfl (lv_at hl6 1 rfl) ?_
              have eN : (countN τ 0 (τ 32 0)) = serveN τ := by simp only [serveN]; first | (rw [if_pos (by omega)]; done) | (rw [if_neg (by omega)]; done)
              have e1 : (s2 τ 16 0 ((τ 16 0) - (countN τ 0 (τ 32 0)))) = serve1 τ := by rw [serve1, if_neg (by rw [← eN]; omega), serve0, ← eN]
              have hok := serve_ok hLo_0 hrow hcnt
              have f34 : (s2 τ 16 0 ((τ 16 0) - (countN τ 0 (τ 32 0)))) 34 0 = τ 34 0 := by rw [e1]; exact serve1_o _ _ _ (by decide)
              refine k_callV (Sc := mW G h ad (s2 τ 16 0 ((τ 16 0) - (countN τ 0 (τ 32 0))))) (Sr := []) (As := [.int (nI (τ 15 0)), .int (nI (countN τ 0 (τ 32 0)))]) (rest := []) C (ctX4_sends l G h ad (s2 τ 16 0 ((τ 16 0) - (countN τ 0 (τ 32 0)))) (τ 15 0) (countN τ 0 (τ 32 0)) (by rw [e1]; exact hST.serve1) h15 (by omega) (by rw [f34]; have := hLo_0.2.2; omega)) hW7 clX4 (hW7.get 0 0 rfl rfl) q2473 q2475 qs52 q85 q2476 rfl rfl ⟨by decide, by decide, Eq.trans (b := some 2) (by decide +kernel) rfl⟩ (Nat.le_of_ble_eq_true rfl) (Nat.le_of_ble_eq_true rfl) (Nat.le_refl _) (Nat.le_refl _) hl6.1 rfl (Nat.le_of_ble_eq_true rfl) dX4_serves_127 (List.Perm.refl _) (fun _ h => h.elim) (fun v H8 locs8 S1 hQ hz8 hW8 => ?_)
              obtain ⟨rfl, rfl⟩ := hQ
              have hW8 : Ws G A s (mW G h ad (sendsF (s2 τ 16 0 ((τ 16 0) - (countN τ 0 (τ 32 0)))) (τ 15 0) (countN τ 0 (τ 32 0)))) H8 locs8 := hW8
              clear hW7
              refine W.eq (g2 := F0 m 130 ls6 [.int (nI ((s2 τ 16 0 ((τ 16 0) - (countN τ 0 (τ 32 0)))) 30 0 + 1 + τ 15 0 % 6))]) rfl ?_
              refine lv_istore_n (lv' := [(3, .int (nI ((s2 τ 16 0 ((τ 16 0) - (countN τ 0 (τ 32 0)))) 30 0 + 1 + τ 15 0 % 6))), (2, .int (nI (τ 15 0))), (1, .int (nI (countN τ 0 (τ 32 0)))), (0, .ref h)]) C.hx C.hb dX4_serves_130 rfl hl6 (Nat.le_of_ble_eq_true rfl) rfl (fun ls9 hl9 => ?_)
              clear hl6
              refine lv_goto (tgt := 0) C.hx C.hb dX4_serves_131 (by decide) ?_
              exact ih1 (k0 - 1) (sendsF (s2 τ 16 0 ((τ 16 0) - (countN τ 0 (τ 32 0)))) (τ 15 0) (countN τ 0 (τ 32 0))) (by rw [e1, eN]; exact hok.1) (by rw [← hLo_1]; obtain ⟨k2, rfl⟩ : ∃ k2, k0 = k2 + 1 := ⟨k0 - 1, by omega⟩; rw [e1, eN, servesN, if_pos ⟨hrow, hcnt⟩]; rfl) (by rw [e1, eN]; have := hok.2.1; rw [← serveF_of] at this; omega) (by omega) _ _ _ hW8 (lv_sub hl9 [3] rfl)
            · refine kn_iconst (a := 1) C (by decide) dX4_serves_70 ?_
              refine lv_istore_n (lv' := [(3, .int (nI 1)), (2, .int (nI (τ 15 0))), (1, .int (nI (countN τ 0 (τ 32 0)))), (0, .ref h)]) C.hx C.hb dX4_serves_71 rfl hl6 (Nat.le_of_ble_eq_true rfl) rfl (fun ls10 hl10 => ?_)
              clear hl6
              have Li : ∀ (k11 : Nat) (k1 : Nat) (ρ : Sg), (1 ≤ k1) → (k1 ≤ τ 35 0) → (ρ = lp shiftB (k1 - 1) (s2 τ 16 0 (τ 16 0 - (countN τ 0 (τ 32 0))))) → τ 35 0 - k1 < k11 → ∀ (H11 : Heap) (locs11 : List Loc) (ls11 : Array Slot), Ws G A s (mW G h ad ρ) H11 locs11 → lv_has ls11 4 [(3, .int (nI k1)), (2, .int (nI (τ 15 0))), (1, .int (nI (countN τ 0 (τ 32 0)))), (0, .ref h)] → W p l e ({ frames := 2, cells := 0, slots := 0, locals := 49 } : Room) s m ([.ref h] : List Value).toArray below meth c H11 locs11 0 0 (MQ below (cQ G A (Q_ctX4_serves G h ad σ)) ([.ref h] : List Value).toArray s 0 0 A) (F0 m 72 ls11 []) := by
                intro k11
                induction k11 with
                | zero => intro k1 ρ hLi_0 hLi_1 hLi_2 hm11; exact absurd hm11 (Nat.not_lt_zero _)
                | succ k11 ih11 =>
                  intro k1 ρ hLi_0 hLi_1 hLi_2 hm11 H11 locs11 ls11 hW11 hl11
                  have hρ35 : ρ 35 0 = τ 35 0 := by rw [hLi_2]; exact (shifts_o _ _ _ _ (by decide))
                  have hR : Bd ρ := by rw [hLi_2]; exact (Sf.shifts (hST.s2o (by decide) (Or.inr (by show _ < 5; omega))) _).1
                  have hn16 : (countN τ 0 (τ 32 0)) ≤ 200 := by first | exact hcn | omega
                  refine lv_iload_n C.hx C.hb dX4_serves_72 rfl (lv_at hl11 0 rfl) ?_
                  refine lv_aload_n C.hx C.hb dX4_serves_73 rfl (lv_at hl11 3 rfl) ?_
                  refine k_get (v := .int (nI (ρ 35 0))) C clX4 (hW11.get 0 0 rfl rfl) 35 (Nat.le_of_ble_eq_true rfl) rfl q2359 rfl rfl dX4_serves_74 ?_
                  refine kn_icmp_ge (tgt := 114) C (by omega) (Nat.lt_of_lt_of_le (hR.lt 35 (by decide) 0) (by decide)) dX4_serves_77 (by decide) (fun c77 => ?_) (fun c77 => ?_)
                  · refine lv_aload_n C.hx C.hb dX4_serves_114 rfl (lv_at hl11 3 rfl) ?_
                    refine lv_dup C.hx C.hb dX4_serves_115 rfl ?_
                    refine k_get (v := .int (nI (ρ 35 0))) C clX4 (hW11.get 0 0 rfl rfl) 35 (Nat.le_of_ble_eq_true rfl) rfl q2359 rfl rfl dX4_serves_116 ?_
                    refine kn_iconst (a := 1) C (by decide) dX4_serves_119 ?_
                    refine kn_isub C (by have : ρ 35 0 < 65 := hR.lt 35 (by decide) 0; omega) dX4_serves_120 ?_
                    refine k_put (S' := mW G h ad (s2 ρ 35 0 ((ρ 35 0) - 1))) C clX4 hW11 0 0 rfl rfl 35 (Nat.le_of_ble_eq_true rfl) rfl q2359 rfl (fun _ h => h) (Or.inl rfl) (fty := .int) (v := .int (nI ((ρ 35 0) - 1))) (by decide +kernel) rfl rfl (Nat.le_of_ble_eq_true rfl) dX4_serves_121 (mput35 G h ad _ _) (fun H12 locs12 hW12 => ?_)
                    clear hW11
                    refine lv_aload_n C.hx C.hb dX4_serves_124 rfl (lv_at hl11 3 rfl) ?_
                    refine lv_iload_n C.hx C.hb dX4_serves_125 rfl (lv_at hl11 1 rfl) ?_
                    refine lv_iload_n C.hx C.hb dX4_serves_126 rfl (lv_at hl11 2 rfl) ?_
                    have eN : (countN τ 0 (τ 32 0)) = serveN τ := by simp only [serveN]; first | (rw [if_pos (by omega)]; done) | (rw [if_neg (by omega)]; done)
                    have e1 : (s2 ρ 35 0 ((ρ 35 0) - 1)) = serve1 τ := by rw [hLi_2, show k1 = τ 35 0 by omega]; rw [shifts_o _ _ _ _ (by decide), s2_rd, if_neg (by decide)]; rw [serve1, if_pos (by rw [← eN]; omega), serve0, ← eN]
                    have hok := serve_ok hLo_0 hrow hcnt
                    have f34 : (s2 ρ 35 0 ((ρ 35 0) - 1)) 34 0 = τ 34 0 := by rw [e1]; exact serve1_o _ _ _ (by decide)
                    refine k_callV (Sc := mW G h ad (s2 ρ 35 0 ((ρ 35 0) - 1))) (Sr := []) (As := [.int (nI (τ 15 0)), .int (nI (countN τ 0 (τ 32 0)))]) (rest := []) C (ctX4_sends l G h ad (s2 ρ 35 0 ((ρ 35 0) - 1)) (τ 15 0) (countN τ 0 (τ 32 0)) (by rw [e1]; exact hST.serve1) h15 (by omega) (by rw [f34]; have := hLo_0.2.2; omega)) hW12 clX4 (hW12.get 0 0 rfl rfl) q2473 q2475 qs52 q85 q2476 rfl rfl ⟨by decide, by decide, Eq.trans (b := some 2) (by decide +kernel) rfl⟩ (Nat.le_of_ble_eq_true rfl) (Nat.le_of_ble_eq_true rfl) (Nat.le_refl _) (Nat.le_refl _) hl11.1 rfl (Nat.le_of_ble_eq_true rfl) dX4_serves_127 (List.Perm.refl _) (fun _ h => h.elim) (fun v H13 locs13 S1 hQ hz13 hW13 => ?_)
                    obtain ⟨rfl, rfl⟩ := hQ
                    have hW13 : Ws G A s (mW G h ad (sendsF (s2 ρ 35 0 ((ρ 35 0) - 1)) (τ 15 0) (countN τ 0 (τ 32 0)))) H13 locs13 := hW13
                    clear hW12
                    refine W.eq (g2 := F0 m 130 ls11 [.int (nI ((s2 ρ 35 0 ((ρ 35 0) - 1)) 30 0 + 1 + τ 15 0 % 6))]) rfl ?_
                    refine lv_istore_n (lv' := [(3, .int (nI ((s2 ρ 35 0 ((ρ 35 0) - 1)) 30 0 + 1 + τ 15 0 % 6))), (2, .int (nI (τ 15 0))), (1, .int (nI (countN τ 0 (τ 32 0)))), (0, .ref h)]) C.hx C.hb dX4_serves_130 rfl hl11 (Nat.le_of_ble_eq_true rfl) rfl (fun ls14 hl14 => ?_)
                    clear hl11
                    refine lv_goto (tgt := 0) C.hx C.hb dX4_serves_131 (by decide) ?_
                    exact ih1 (k0 - 1) (sendsF (s2 ρ 35 0 ((ρ 35 0) - 1)) (τ 15 0) (countN τ 0 (τ 32 0))) (by rw [e1, eN]; exact hok.1) (by rw [← hLo_1]; obtain ⟨k2, rfl⟩ : ∃ k2, k0 = k2 + 1 := ⟨k0 - 1, by omega⟩; rw [e1, eN, servesN, if_pos ⟨hrow, hcnt⟩]; rfl) (by rw [e1, eN]; have := hok.2.1; rw [← serveF_of] at this; omega) (by omega) _ _ _ hW13 (lv_sub hl14 [3] rfl)
                  · refine lv_aload_n C.hx C.hb dX4_serves_80 rfl (lv_at hl11 3 rfl) ?_
                    refine k_get (v := .ref (ad 15)) C clX4 (hW11.get 0 0 rfl rfl) 15 (Nat.le_of_ble_eq_true rfl) rfl q2339 rfl rfl dX4_serves_81 ?_
                    refine lv_iload_n C.hx C.hb dX4_serves_84 rfl (lv_at hl11 0 rfl) ?_
                    refine kn_iconst (a := 1) C (by decide) dX4_serves_85 ?_
                    refine kn_isub C (by omega) dX4_serves_86 ?_
                    refine lv_aload_n C.hx C.hb dX4_serves_87 rfl (lv_at hl11 3 rfl) ?_
                    refine k_get (v := .ref (ad 15)) C clX4 (hW11.get 0 0 rfl rfl) 15 (Nat.le_of_ble_eq_true rfl) rfl q2339 rfl rfl dX4_serves_88 ?_
                    refine lv_iload_n C.hx C.hb dX4_serves_91 rfl (lv_at hl11 0 rfl) ?_
                    refine k_iald C (f := (fun i => nI (ρ 15 i))) rfl (hW11.get 16 0 rfl rfl) (by omega) (by decide) dX4_serves_92 ?_
                    refine k_iast (S' := mW G h ad (s2 ρ 15 (k1 - 1) (ρ 15 k1))) C hW11 16 0 rfl rfl rfl (by omega) (by decide) dX4_serves_93 (mset15 G h ad _ (k1 - 1) (ρ 15 k1)) (fun H15 locs15 hW15 => ?_)
                    clear hW11
                    refine lv_aload_n C.hx C.hb dX4_serves_94 rfl (lv_at hl11 3 rfl) ?_
                    refine k_get (v := .ref (ad 16)) C clX4 (hW15.get 0 0 rfl rfl) 16 (Nat.le_of_ble_eq_true rfl) rfl q2340 rfl rfl dX4_serves_95 ?_
                    refine lv_iload_n C.hx C.hb dX4_serves_98 rfl (lv_at hl11 0 rfl) ?_
                    refine kn_iconst (a := 1) C (by decide) dX4_serves_99 ?_
                    refine kn_isub C (by omega) dX4_serves_100 ?_
                    refine lv_aload_n C.hx C.hb dX4_serves_101 rfl (lv_at hl11 3 rfl) ?_
                    refine k_get (v := .ref (ad 16)) C clX4 (hW15.get 0 0 rfl rfl) 16 (Nat.le_of_ble_eq_true rfl) rfl q2340 rfl rfl dX4_serves_102 ?_
                    refine lv_iload_n C.hx C.hb dX4_serves_105 rfl (lv_at hl11 0 rfl) ?_
                    refine k_iald C (f := (fun i => nI ((s2 ρ 15 (k1 - 1) (ρ 15 k1)) 16 i))) rfl (hW15.get 17 0 rfl rfl) (by omega) (by decide) dX4_serves_106 ?_
                    refine k_op (y := .int (nI (ρ 16 k1))) (by simp [s2_rd]) ?_
                    refine k_iast (S' := mW G h ad (s2 (s2 ρ 15 (k1 - 1) (ρ 15 k1)) 16 (k1 - 1) (ρ 16 k1))) C hW15 17 0 rfl rfl rfl (by omega) (by decide) dX4_serves_107 (mset16 G h ad _ (k1 - 1) (ρ 16 k1)) (fun H16 locs16 hW16 => ?_)
                    clear hW15
                    refine kn_iinc (lv' := [(3, .int (nI (k1 + 1))), (2, .int (nI (τ 15 0))), (1, .int (nI (countN τ 0 (τ 32 0)))), (0, .ref h)]) (k := 0) C dX4_serves_108 hl11 rfl (Nat.le_of_ble_eq_true rfl) rfl (fun ls17 hl17 => ?_)
                    clear hl11
                    refine lv_goto (tgt := 72) C.hx C.hb dX4_serves_111 (by decide) ?_
                    exact ih11 (k1 + 1) (s2 (s2 ρ 15 (k1 - 1) (ρ 15 k1)) 16 (k1 - 1) (ρ 16 k1)) (by omega) (by omega) (by obtain ⟨k2, rfl⟩ : ∃ k2, k1 = k2 + 1 := ⟨k1 - 1, by omega⟩; show _ = shiftB k2 (lp shiftB k2 _); rw [show k2 = k2 + 1 - 1 from rfl, ← hLi_2]; simp [shiftB]) (by omega) _ _ _ hW16 (lv_sub hl17 [0, 1, 2, 3] rfl)
              exact Li (τ 35 0 - 1 + 1) 1 (s2 τ 16 0 ((τ 16 0) - (countN τ 0 (τ 32 0)))) (Nat.le_refl _) (by omega) rfl (Nat.lt_succ_self _) _ _ _ hW7 (lv_sub hl10 [0, 1, 2, 3] rfl)
          · refine lv_aload_n C.hx C.hb dX4_serves_29 rfl (lv_at hl1 0 rfl) ?_
            refine k_get (v := .ref (ad 16)) C clX4 (hW3.get 0 0 rfl rfl) 16 (Nat.le_of_ble_eq_true rfl) rfl q2340 rfl rfl dX4_serves_30 ?_
            refine kn_iconst (a := 0) C (by decide) dX4_serves_33 ?_
            refine k_iald C (f := (fun i => nI (τ 16 i))) rfl (hW3.get 17 0 rfl rfl) (by decide) (by decide) dX4_serves_34 ?_
            refine lv_goto (tgt := 43) C.hx C.hb dX4_serves_35 (by decide) ?_
            refine lv_istore_n (lv' := [(1, .int (nI (τ 16 0))), (0, .ref h)]) C.hx C.hb dX4_serves_43 rfl hl1 (Nat.le_of_ble_eq_true rfl) rfl (fun ls18 hl18 => ?_)
            clear hl1
            refine lv_aload_n C.hx C.hb dX4_serves_44 rfl (lv_at hl18 1 rfl) ?_
            refine k_get (v := .ref (ad 15)) C clX4 (hW3.get 0 0 rfl rfl) 15 (Nat.le_of_ble_eq_true rfl) rfl q2339 rfl rfl dX4_serves_45 ?_
            refine kn_iconst (a := 0) C (by decide) dX4_serves_48 ?_
            refine k_iald C (f := (fun i => nI (τ 15 i))) rfl (hW3.get 16 0 rfl rfl) (by decide) (by decide) dX4_serves_49 ?_
            refine lv_istore_n (lv' := [(2, .int (nI (τ 15 0))), (1, .int (nI (τ 16 0))), (0, .ref h)]) C.hx C.hb dX4_serves_50 rfl hl18 (Nat.le_of_ble_eq_true rfl) rfl (fun ls19 hl19 => ?_)
            clear hl18
            refine lv_aload_n C.hx C.hb dX4_serves_51 rfl (lv_at hl19 2 rfl) ?_
            refine k_get (v := .ref (ad 16)) C clX4 (hW3.get 0 0 rfl rfl) 16 (Nat.le_of_ble_eq_true rfl) rfl q2340 rfl rfl dX4_serves_52 ?_
            refine kn_iconst (a := 0) C (by decide) dX4_serves_55 ?_
            refine lv_dup2_11 C.hx C.hb dX4_serves_56 rfl rfl ?_
            refine k_iald C (f := (fun i => nI (τ 16 i))) rfl (hW3.get 17 0 rfl rfl) (by decide) (by decide) dX4_serves_57 ?_
            refine lv_iload_n C.hx C.hb dX4_serves_58 rfl (lv_at hl19 1 rfl) ?_
            refine kn_isub C (by have : τ 16 0 < 5 := hT.lt 16 (by decide) 0; omega) dX4_serves_59 ?_
            refine k_iast (S' := mW G h ad (s2 τ 16 0 ((τ 16 0) - (τ 16 0)))) C hW3 17 0 rfl rfl rfl (by decide) (by decide) dX4_serves_60 (mset16 G h ad _ 0 ((τ 16 0) - (τ 16 0))) (fun H20 locs20 hW20 => ?_)
            clear hW3
            refine lv_aload_n C.hx C.hb dX4_serves_61 rfl (lv_at hl19 2 rfl) ?_
            refine k_get (v := .ref (ad 16)) C clX4 (hW20.get 0 0 rfl rfl) 16 (Nat.le_of_ble_eq_true rfl) rfl q2340 rfl rfl dX4_serves_62 ?_
            refine kn_iconst (a := 0) C (by decide) dX4_serves_65 ?_
            refine k_iald C (f := (fun i => nI ((s2 τ 16 0 ((τ 16 0) - (τ 16 0))) 16 i))) rfl (hW20.get 17 0 rfl rfl) (by decide) (by decide) dX4_serves_66 ?_
            refine k_op (y := .int (nI ((τ 16 0) - (τ 16 0)))) (by simp [s2_rd]) ?_
            refine kn_if_ne (tgt := 124) C (by have : τ 16 0 < 5 := hT.lt 16 (by decide) 0; omega) dX4_serves_67 (by decide) (fun c67 => ?_) (fun c67 => ?_)
            · refine lv_aload_n C.hx C.hb dX4_serves_124 rfl (lv_at hl19 2 rfl) ?_
              refine lv_iload_n C.hx C.hb dX4_serves_125 rfl (lv_at hl19 0 rfl) ?_
              refine lv_iload_n C.hx C.hb dX4_serves_126 rfl (lv_at hl19 1 rfl) ?_
              have eN : (τ 16 0) = serveN τ := by simp only [serveN]; first | (rw [if_pos (by omega)]; done) | (rw [if_neg (by omega)]; done)
              have e1 : (s2 τ 16 0 ((τ 16 0) - (τ 16 0))) = serve1 τ := by rw [serve1, if_neg (by rw [← eN]; omega), serve0, ← eN]
              have hok := serve_ok hLo_0 hrow hcnt
              have f34 : (s2 τ 16 0 ((τ 16 0) - (τ 16 0))) 34 0 = τ 34 0 := by rw [e1]; exact serve1_o _ _ _ (by decide)
              refine k_callV (Sc := mW G h ad (s2 τ 16 0 ((τ 16 0) - (τ 16 0)))) (Sr := []) (As := [.int (nI (τ 15 0)), .int (nI (τ 16 0))]) (rest := []) C (ctX4_sends l G h ad (s2 τ 16 0 ((τ 16 0) - (τ 16 0))) (τ 15 0) (τ 16 0) (by rw [e1]; exact hST.serve1) h15 (by omega) (by rw [f34]; have := hLo_0.2.2; omega)) hW20 clX4 (hW20.get 0 0 rfl rfl) q2473 q2475 qs52 q85 q2476 rfl rfl ⟨by decide, by decide, Eq.trans (b := some 2) (by decide +kernel) rfl⟩ (Nat.le_of_ble_eq_true rfl) (Nat.le_of_ble_eq_true rfl) (Nat.le_refl _) (Nat.le_refl _) hl19.1 rfl (Nat.le_of_ble_eq_true rfl) dX4_serves_127 (List.Perm.refl _) (fun _ h => h.elim) (fun v H21 locs21 S1 hQ hz21 hW21 => ?_)
              obtain ⟨rfl, rfl⟩ := hQ
              have hW21 : Ws G A s (mW G h ad (sendsF (s2 τ 16 0 ((τ 16 0) - (τ 16 0))) (τ 15 0) (τ 16 0))) H21 locs21 := hW21
              clear hW20
              refine W.eq (g2 := F0 m 130 ls19 [.int (nI ((s2 τ 16 0 ((τ 16 0) - (τ 16 0))) 30 0 + 1 + τ 15 0 % 6))]) rfl ?_
              refine lv_istore_n (lv' := [(3, .int (nI ((s2 τ 16 0 ((τ 16 0) - (τ 16 0))) 30 0 + 1 + τ 15 0 % 6))), (2, .int (nI (τ 15 0))), (1, .int (nI (τ 16 0))), (0, .ref h)]) C.hx C.hb dX4_serves_130 rfl hl19 (Nat.le_of_ble_eq_true rfl) rfl (fun ls22 hl22 => ?_)
              clear hl19
              refine lv_goto (tgt := 0) C.hx C.hb dX4_serves_131 (by decide) ?_
              exact ih1 (k0 - 1) (sendsF (s2 τ 16 0 ((τ 16 0) - (τ 16 0))) (τ 15 0) (τ 16 0)) (by rw [e1, eN]; exact hok.1) (by rw [← hLo_1]; obtain ⟨k2, rfl⟩ : ∃ k2, k0 = k2 + 1 := ⟨k0 - 1, by omega⟩; rw [e1, eN, servesN, if_pos ⟨hrow, hcnt⟩]; rfl) (by rw [e1, eN]; have := hok.2.1; rw [← serveF_of] at this; omega) (by omega) _ _ _ hW21 (lv_sub hl22 [3] rfl)
            · refine kn_iconst (a := 1) C (by decide) dX4_serves_70 ?_
              refine lv_istore_n (lv' := [(3, .int (nI 1)), (2, .int (nI (τ 15 0))), (1, .int (nI (τ 16 0))), (0, .ref h)]) C.hx C.hb dX4_serves_71 rfl hl19 (Nat.le_of_ble_eq_true rfl) rfl (fun ls23 hl23 => ?_)
              clear hl19
              have Li : ∀ (k24 : Nat) (k1 : Nat) (ρ : Sg), (1 ≤ k1) → (k1 ≤ τ 35 0) → (ρ = lp shiftB (k1 - 1) (s2 τ 16 0 (τ 16 0 - (τ 16 0)))) → τ 35 0 - k1 < k24 → ∀ (H24 : Heap) (locs24 : List Loc) (ls24 : Array Slot), Ws G A s (mW G h ad ρ) H24 locs24 → lv_has ls24 4 [(3, .int (nI k1)), (2, .int (nI (τ 15 0))), (1, .int (nI (τ 16 0))), (0, .ref h)] → W p l e ({ frames := 2, cells := 0, slots := 0, locals := 49 } : Room) s m ([.ref h] : List Value).toArray below meth c H24 locs24 0 0 (MQ below (cQ G A (Q_ctX4_serves G h ad σ)) ([.ref h] : List Value).toArray s 0 0 A) (F0 m 72 ls24 []) := by
                intro k24
                induction k24 with
                | zero => intro k1 ρ hLi_0 hLi_1 hLi_2 hm24; exact absurd hm24 (Nat.not_lt_zero _)
                | succ k24 ih24 =>
                  intro k1 ρ hLi_0 hLi_1 hLi_2 hm24 H24 locs24 ls24 hW24 hl24
                  have hρ35 : ρ 35 0 = τ 35 0 := by rw [hLi_2]; exact (shifts_o _ _ _ _ (by decide))
                  have hR : Bd ρ := by rw [hLi_2]; exact (Sf.shifts (hST.s2o (by decide) (Or.inr (by show _ < 5; omega))) _).1
                  have hn16 : (τ 16 0) ≤ 200 := by first | exact hcn | omega
                  refine lv_iload_n C.hx C.hb dX4_serves_72 rfl (lv_at hl24 0 rfl) ?_
                  refine lv_aload_n C.hx C.hb dX4_serves_73 rfl (lv_at hl24 3 rfl) ?_
                  refine k_get (v := .int (nI (ρ 35 0))) C clX4 (hW24.get 0 0 rfl rfl) 35 (Nat.le_of_ble_eq_true rfl) rfl q2359 rfl rfl dX4_serves_74 ?_
                  refine kn_icmp_ge (tgt := 114) C (by omega) (Nat.lt_of_lt_of_le (hR.lt 35 (by decide) 0) (by decide)) dX4_serves_77 (by decide) (fun c77 => ?_) (fun c77 => ?_)
                  · refine lv_aload_n C.hx C.hb dX4_serves_114 rfl (lv_at hl24 3 rfl) ?_
                    refine lv_dup C.hx C.hb dX4_serves_115 rfl ?_
                    refine k_get (v := .int (nI (ρ 35 0))) C clX4 (hW24.get 0 0 rfl rfl) 35 (Nat.le_of_ble_eq_true rfl) rfl q2359 rfl rfl dX4_serves_116 ?_
                    refine kn_iconst (a := 1) C (by decide) dX4_serves_119 ?_
                    refine kn_isub C (by have : ρ 35 0 < 65 := hR.lt 35 (by decide) 0; omega) dX4_serves_120 ?_
                    refine k_put (S' := mW G h ad (s2 ρ 35 0 ((ρ 35 0) - 1))) C clX4 hW24 0 0 rfl rfl 35 (Nat.le_of_ble_eq_true rfl) rfl q2359 rfl (fun _ h => h) (Or.inl rfl) (fty := .int) (v := .int (nI ((ρ 35 0) - 1))) (by decide +kernel) rfl rfl (Nat.le_of_ble_eq_true rfl) dX4_serves_121 (mput35 G h ad _ _) (fun H25 locs25 hW25 => ?_)
                    clear hW24
                    refine lv_aload_n C.hx C.hb dX4_serves_124 rfl (lv_at hl24 3 rfl) ?_
                    refine lv_iload_n C.hx C.hb dX4_serves_125 rfl (lv_at hl24 1 rfl) ?_
                    refine lv_iload_n C.hx C.hb dX4_serves_126 rfl (lv_at hl24 2 rfl) ?_
                    have eN : (τ 16 0) = serveN τ := by simp only [serveN]; first | (rw [if_pos (by omega)]; done) | (rw [if_neg (by omega)]; done)
                    have e1 : (s2 ρ 35 0 ((ρ 35 0) - 1)) = serve1 τ := by rw [hLi_2, show k1 = τ 35 0 by omega]; rw [shifts_o _ _ _ _ (by decide), s2_rd, if_neg (by decide)]; rw [serve1, if_pos (by rw [← eN]; omega), serve0, ← eN]
                    have hok := serve_ok hLo_0 hrow hcnt
                    have f34 : (s2 ρ 35 0 ((ρ 35 0) - 1)) 34 0 = τ 34 0 := by rw [e1]; exact serve1_o _ _ _ (by decide)
                    refine k_callV (Sc := mW G h ad (s2 ρ 35 0 ((ρ 35 0) - 1))) (Sr := []) (As := [.int (nI (τ 15 0)), .int (nI (τ 16 0))]) (rest := []) C (ctX4_sends l G h ad (s2 ρ 35 0 ((ρ 35 0) - 1)) (τ 15 0) (τ 16 0) (by rw [e1]; exact hST.serve1) h15 (by omega) (by rw [f34]; have := hLo_0.2.2; omega)) hW25 clX4 (hW25.get 0 0 rfl rfl) q2473 q2475 qs52 q85 q2476 rfl rfl ⟨by decide, by decide, Eq.trans (b := some 2) (by decide +kernel) rfl⟩ (Nat.le_of_ble_eq_true rfl) (Nat.le_of_ble_eq_true rfl) (Nat.le_refl _) (Nat.le_refl _) hl24.1 rfl (Nat.le_of_ble_eq_true rfl) dX4_serves_127 (List.Perm.refl _) (fun _ h => h.elim) (fun v H26 locs26 S1 hQ hz26 hW26 => ?_)
                    obtain ⟨rfl, rfl⟩ := hQ
                    have hW26 : Ws G A s (mW G h ad (sendsF (s2 ρ 35 0 ((ρ 35 0) - 1)) (τ 15 0) (τ 16 0))) H26 locs26 := hW26
                    clear hW25
                    refine W.eq (g2 := F0 m 130 ls24 [.int (nI ((s2 ρ 35 0 ((ρ 35 0) - 1)) 30 0 + 1 + τ 15 0 % 6))]) rfl ?_
                    refine lv_istore_n (lv' := [(3, .int (nI ((s2 ρ 35 0 ((ρ 35 0) - 1)) 30 0 + 1 + τ 15 0 % 6))), (2, .int (nI (τ 15 0))), (1, .int (nI (τ 16 0))), (0, .ref h)]) C.hx C.hb dX4_serves_130 rfl hl24 (Nat.le_of_ble_eq_true rfl) rfl (fun ls27 hl27 => ?_)
                    clear hl24
                    refine lv_goto (tgt := 0) C.hx C.hb dX4_serves_131 (by decide) ?_
                    exact ih1 (k0 - 1) (sendsF (s2 ρ 35 0 ((ρ 35 0) - 1)) (τ 15 0) (τ 16 0)) (by rw [e1, eN]; exact hok.1) (by rw [← hLo_1]; obtain ⟨k2, rfl⟩ : ∃ k2, k0 = k2 + 1 := ⟨k0 - 1, by omega⟩; rw [e1, eN, servesN, if_pos ⟨hrow, hcnt⟩]; rfl) (by rw [e1, eN]; have := hok.2.1; rw [← serveF_of] at this; omega) (by omega) _ _ _ hW26 (lv_sub hl27 [3] rfl)
                  · refine lv_aload_n C.hx C.hb dX4_serves_80 rfl (lv_at hl24 3 rfl) ?_
                    refine k_get (v := .ref (ad 15)) C clX4 (hW24.get 0 0 rfl rfl) 15 (Nat.le_of_ble_eq_true rfl) rfl q2339 rfl rfl dX4_serves_81 ?_
                    refine lv_iload_n C.hx C.hb dX4_serves_84 rfl (lv_at hl24 0 rfl) ?_
                    refine kn_iconst (a := 1) C (by decide) dX4_serves_85 ?_
                    refine kn_isub C (by omega) dX4_serves_86 ?_
                    refine lv_aload_n C.hx C.hb dX4_serves_87 rfl (lv_at hl24 3 rfl) ?_
                    refine k_get (v := .ref (ad 15)) C clX4 (hW24.get 0 0 rfl rfl) 15 (Nat.le_of_ble_eq_true rfl) rfl q2339 rfl rfl dX4_serves_88 ?_
                    refine lv_iload_n C.hx C.hb dX4_serves_91 rfl (lv_at hl24 0 rfl) ?_
                    refine k_iald C (f := (fun i => nI (ρ 15 i))) rfl (hW24.get 16 0 rfl rfl) (by omega) (by decide) dX4_serves_92 ?_
                    refine k_iast (S' := mW G h ad (s2 ρ 15 (k1 - 1) (ρ 15 k1))) C hW24 16 0 rfl rfl rfl (by omega) (by decide) dX4_serves_93 (mset15 G h ad _ (k1 - 1) (ρ 15 k1)) (fun H28 locs28 hW28 => ?_)
                    clear hW24
                    refine lv_aload_n C.hx C.hb dX4_serves_94 rfl (lv_at hl24 3 rfl) ?_
                    refine k_get (v := .ref (ad 16)) C clX4 (hW28.get 0 0 rfl rfl) 16 (Nat.le_of_ble_eq_true rfl) rfl q2340 rfl rfl dX4_serves_95 ?_
                    refine lv_iload_n C.hx C.hb dX4_serves_98 rfl (lv_at hl24 0 rfl) ?_
                    refine kn_iconst (a := 1) C (by decide) dX4_serves_99 ?_
                    refine kn_isub C (by omega) dX4_serves_100 ?_
                    refine lv_aload_n C.hx C.hb dX4_serves_101 rfl (lv_at hl24 3 rfl) ?_
                    refine k_get (v := .ref (ad 16)) C clX4 (hW28.get 0 0 rfl rfl) 16 (Nat.le_of_ble_eq_true rfl) rfl q2340 rfl rfl dX4_serves_102 ?_
                    refine lv_iload_n C.hx C.hb dX4_serves_105 rfl (lv_at hl24 0 rfl) ?_
                    refine k_iald C (f := (fun i => nI ((s2 ρ 15 (k1 - 1) (ρ 15 k1)) 16 i))) rfl (hW28.get 17 0 rfl rfl) (by omega) (by decide) dX4_serves_106 ?_
                    refine k_op (y := .int (nI (ρ 16 k1))) (by simp [s2_rd]) ?_
                    refine k_iast (S' := mW G h ad (s2 (s2 ρ 15 (k1 - 1) (ρ 15 k1)) 16 (k1 - 1) (ρ 16 k1))) C hW28 17 0 rfl rfl rfl (by omega) (by decide) dX4_serves_107 (mset16 G h ad _ (k1 - 1) (ρ 16 k1)) (fun H29 locs29 hW29 => ?_)
                    clear hW28
                    refine kn_iinc (lv' := [(3, .int (nI (k1 + 1))), (2, .int (nI (τ 15 0))), (1, .int (nI (τ 16 0))), (0, .ref h)]) (k := 0) C dX4_serves_108 hl24 rfl (Nat.le_of_ble_eq_true rfl) rfl (fun ls30 hl30 => ?_)
                    clear hl24
                    refine lv_goto (tgt := 72) C.hx C.hb dX4_serves_111 (by decide) ?_
                    exact ih24 (k1 + 1) (s2 (s2 ρ 15 (k1 - 1) (ρ 15 k1)) 16 (k1 - 1) (ρ 16 k1)) (by omega) (by omega) (by obtain ⟨k2, rfl⟩ : ∃ k2, k1 = k2 + 1 := ⟨k1 - 1, by omega⟩; show _ = shiftB k2 (lp shiftB k2 _); rw [show k2 = k2 + 1 - 1 from rfl, ← hLi_2]; simp [shiftB]) (by omega) _ _ _ hW29 (lv_sub hl30 [0, 1, 2, 3] rfl)
              exact Li (τ 35 0 - 1 + 1) 1 (s2 τ 16 0 ((τ 16 0) - (τ 16 0))) (Nat.le_refl _) (by omega) rfl (Nat.lt_succ_self _) _ _ _ hW20 (lv_sub hl23 [0, 1, 2, 3] rfl)
  exact Lo (201 + 1) 201 σ hV rfl (by have := count_le σ 0 (σ 32 0); omega) (Nat.lt_succ_self _) _ _ _ hW (lv_sub hl [0] rfl)
