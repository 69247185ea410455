def Q_ctX4_dayGoes (G : GT) (h : Nat) (ad : Nat → Nat) (σ : Sg)  : Option Value → List va_W → Prop := fun v S1 => v = none ∧ S1 = mW G h ad (dayF σ)
set_option maxHeartbeats 4000000 in
set_option maxRecDepth 100000 in
theorem ctX4_dayGoes (l : Launch) (G : GT) (h : Nat) (ad : Nat → Nat) (σ : Sg)  (hS : Sf σ) (hD : DayOk σ) : Ct l G yX4_dayGoes cX4_dayGoes 3 none 4 95 0 0 [.ref h] (mW G h ad σ) noR (Q_ctX4_dayGoes G h ad σ) := by
  refine Ct.of (by decide +kernel) (Nat.le_of_ble_eq_true rfl) ?_
  intro p e s m below meth c A ls C hW hRo hl
  have hl : lv_has ls 3 [(0, .ref h)] := hl
  have hB : Bd σ := hS.1
  have h32 : σ 32 0 ≤ 200 := Nat.lt_succ_iff.mp (hB.lt 32 (by decide) 0)
  have h34 : σ 34 0 ≤ 480 := Nat.lt_succ_iff.mp (hB.lt 34 (by decide) 0)
  have h35 : σ 35 0 ≤ 64 := Nat.lt_succ_iff.mp (hB.lt 35 (by decide) 0)
  have h36 : σ 36 0 ≤ 60 := Nat.lt_succ_iff.mp (hB.lt 36 (by decide) 0)
  have h30 : σ 30 0 ≤ 5000 := Nat.lt_succ_iff.mp (hB.lt 30 (by decide) 0)
  have hd0 := hD.1
  refine lv_aload_n C.hx C.hb dX4_dayGoes_0 rfl (lv_at hl 0 rfl) ?_
  refine lv_dup C.hx C.hb dX4_dayGoes_1 rfl ?_
  refine k_get (v := .int (nI (σ 30 0))) C clX4 (hW.get 0 0 rfl rfl) 30 (Nat.le_of_ble_eq_true rfl) rfl q2354 rfl rfl dX4_dayGoes_2 ?_
  refine kn_iconst (a := 1) C (by decide) dX4_dayGoes_5 ?_
  refine kn_iadd C  dX4_dayGoes_6 ?_
  refine k_put (S' := mW G h ad (s2 σ 30 0 ((σ 30 0) + 1))) C clX4 hW 0 0 rfl rfl 30 (Nat.le_of_ble_eq_true rfl) rfl q2354 rfl (fun _ h => h) (Or.inl rfl) (fty := .int) (v := .int (nI ((σ 30 0) + 1))) (by decide +kernel) rfl rfl (Nat.le_of_ble_eq_true rfl) dX4_dayGoes_7 (mput30 G h ad _ _) (fun H1 locs1 hW1 => ?_)
  clear hW
  refine lv_aload_n C.hx C.hb dX4_dayGoes_10 rfl (lv_at hl 0 rfl) ?_
  refine k_get (v := .int (nI (σ 34 0))) C clX4 (hW1.get 0 0 rfl rfl) 34 (Nat.le_of_ble_eq_true rfl) rfl q2358 rfl rfl dX4_dayGoes_11 ?_
  refine lv_istore_n (lv' := [(1, .int (nI (σ 34 0))), (0, .ref h)]) C.hx C.hb dX4_dayGoes_14 rfl hl (Nat.le_of_ble_eq_true rfl) rfl (fun ls2 hl2 => ?_)
  clear hl
  refine kn_iconst (a := 0) C (by decide) dX4_dayGoes_15 ?_
  refine lv_istore_n (lv' := [(2, .int (nI 0)), (1, .int (nI (σ 34 0))), (0, .ref h)]) C.hx C.hb dX4_dayGoes_16 rfl hl2 (Nat.le_of_ble_eq_true rfl) rfl (fun ls3 hl3 => ?_)
  clear hl2
  have La : ∀ (k4 : Nat) (e1 : Nat) (τ : Sg), (e1 ≤ σ 34 0) → (τ = lp evF e1 (day1F σ)) → σ 34 0 - e1 < k4 → ∀ (H4 : Heap) (locs4 : List Loc) (ls4 : Array Slot), Ws G A s (mW G h ad τ) H4 locs4 → lv_has ls4 3 [(2, .int (nI e1)), (1, .int (nI (σ 34 0))), (0, .ref h)] → W p l e ({ frames := 4, cells := 0, slots := 0, locals := 95 } : Room) s m ([.ref h] : List Value).toArray below meth c H4 locs4 0 0 (MQ below (cQ G A (Q_ctX4_dayGoes G h ad σ)) ([.ref h] : List Value).toArray s 0 0 A) (F0 m 17 ls4 []) := by
    intro k4
    induction k4 with
    | zero => intro e1 τ hLa_0 hLa_1 hm4; exact absurd hm4 (Nat.not_lt_zero _)
    | succ k4 ih4 =>
      intro e1 τ hLa_0 hLa_1 hm4 H4 locs4 ls4 hW4 hl4
      have hVT : Sv τ := by rw [hLa_1]; exact (hD.2 e1 hLa_0).1
      have hST : Sf τ := hVT.1
      have hT : Bd τ := hST.1
      have hEv : e1 < σ 34 0 → EvOk τ e1 := by rw [hLa_1]; exact (hD.2 e1 hLa_0).2
      have t30 : τ 30 0 = σ 30 0 + 1 := by rw [hLa_1, evs_o _ _ _ _ (by decide)]; rfl
      refine lv_iload_n C.hx C.hb dX4_dayGoes_17 rfl (lv_at hl4 0 rfl) ?_
      refine lv_iload_n C.hx C.hb dX4_dayGoes_18 rfl (lv_at hl4 1 rfl) ?_
      refine kn_icmp_ge (tgt := 94) C (by omega) (Nat.lt_of_lt_of_le (hB.lt 34 (by decide) 0) (by decide)) dX4_dayGoes_19 (by decide) (fun c19 => ?_) (fun c19 => ?_)
      · refine lv_aload_n C.hx C.hb dX4_dayGoes_94 rfl (lv_at hl4 2 rfl) ?_
        refine k_get (v := .int (nI (τ 30 0))) C clX4 (hW4.get 0 0 rfl rfl) 30 (Nat.le_of_ble_eq_true rfl) rfl q2354 rfl rfl dX4_dayGoes_95 ?_
        refine kn_bipush (a := 7) C (by decide) dX4_dayGoes_98 ?_
        refine kn_irem C (Nat.lt_of_lt_of_le (hT.lt 30 (by decide) 0) (by decide)) (by decide) (by decide) dX4_dayGoes_100 ?_
        refine kn_if_ne (tgt := 108) C (by have : τ 30 0 < 5001 := hT.lt 30 (by decide) 0; omega) dX4_dayGoes_101 (by decide) (fun c101 => ?_) (fun c101 => ?_)
        · have e9 : τ = day2F σ := by rw [hLa_1, show e1 = σ 34 0 by omega]; rfl
          exact k_vret C hW4 rfl ⟨rfl, by rw [dayF, ← e9, if_neg c101]⟩ (Nat.le_refl _) (Nat.le_refl _) dX4_dayGoes_108
        · refine lv_aload_n C.hx C.hb dX4_dayGoes_104 rfl (lv_at hl4 2 rfl) ?_
          refine k_callV (Sc := mW G h ad τ) (Sr := []) (As := []) (rest := []) C (ctX4_week l G h ad τ hST) hW4 clX4 (hW4.get 0 0 rfl rfl) q2489 q2491 qs56 q85 q2492 rfl rfl ⟨by decide, by decide, Eq.trans (b := some 0) (by decide +kernel) rfl⟩ (Nat.le_of_ble_eq_true rfl) (Nat.le_of_ble_eq_true rfl) (Nat.le_refl _) (Nat.le_refl _) hl4.1 rfl (Nat.le_of_ble_eq_true rfl) dX4_dayGoes_105 (List.Perm.refl _) (fun _ h => h.elim) (fun v H5 locs5 S1 hQ hz5 hW5 => ?_)
          obtain ⟨rfl, rfl⟩ := hQ
          have hW5 : Ws G A s (mW G h ad (weekF τ)) H5 locs5 := hW5
          clear hW4
          refine W.eq (g2 := F0 m 108 ls4 []) rfl ?_
          have e9 : τ = day2F σ := by rw [hLa_1, show e1 = σ 34 0 by omega]; rfl
          exact k_vret C hW5 rfl ⟨rfl, by rw [dayF, ← e9, if_pos c101]⟩ (Nat.le_refl _) (Nat.le_refl _) dX4_dayGoes_108
      · refine lv_aload_n C.hx C.hb dX4_dayGoes_22 rfl (lv_at hl4 2 rfl) ?_
        refine k_get (v := .ref (ad 12)) C clX4 (hW4.get 0 0 rfl rfl) 12 (Nat.le_of_ble_eq_true rfl) rfl q2336 rfl rfl dX4_dayGoes_23 ?_
        refine lv_iload_n C.hx C.hb dX4_dayGoes_26 rfl (lv_at hl4 0 rfl) ?_
        refine k_iald C (f := (fun i => nI (τ 12 i))) rfl (hW4.get 13 0 rfl rfl) (by omega) (by decide) dX4_dayGoes_27 ?_
        refine lv_aload_n C.hx C.hb dX4_dayGoes_28 rfl (lv_at hl4 2 rfl) ?_
        refine k_get (v := .int (nI (τ 30 0))) C clX4 (hW4.get 0 0 rfl rfl) 30 (Nat.le_of_ble_eq_true rfl) rfl q2354 rfl rfl dX4_dayGoes_29 ?_
        refine kn_icmp_eq (tgt := 38) C (Nat.lt_of_lt_of_le (hT.lt 12 (by decide) e1) (by decide)) (Nat.lt_of_lt_of_le (hT.lt 30 (by decide) 0) (by decide)) dX4_dayGoes_32 (by decide) (fun c32 => ?_) (fun c32 => ?_)
        · refine lv_aload_n C.hx C.hb dX4_dayGoes_38 rfl (lv_at hl4 2 rfl) ?_
          refine k_get (v := .ref (ad 13)) C clX4 (hW4.get 0 0 rfl rfl) 13 (Nat.le_of_ble_eq_true rfl) rfl q2337 rfl rfl dX4_dayGoes_39 ?_
          refine lv_iload_n C.hx C.hb dX4_dayGoes_42 rfl (lv_at hl4 0 rfl) ?_
          refine k_iald C (f := (fun i => nI (τ 13 i))) rfl (hW4.get 14 0 rfl rfl) (by omega) (by decide) dX4_dayGoes_43 ?_
          refine kn_if_ne (tgt := 60) C (Nat.lt_of_lt_of_le (hT.lt 13 (by decide) e1) (by decide)) dX4_dayGoes_44 (by decide) (fun c44 => ?_) (fun c44 => ?_)
          · refine lv_aload_n C.hx C.hb dX4_dayGoes_60 rfl (lv_at hl4 2 rfl) ?_
            refine k_get (v := .ref (ad 13)) C clX4 (hW4.get 0 0 rfl rfl) 13 (Nat.le_of_ble_eq_true rfl) rfl q2337 rfl rfl dX4_dayGoes_61 ?_
            refine lv_iload_n C.hx C.hb dX4_dayGoes_64 rfl (lv_at hl4 0 rfl) ?_
            refine k_iald C (f := (fun i => nI (τ 13 i))) rfl (hW4.get 14 0 rfl rfl) (by omega) (by decide) dX4_dayGoes_65 ?_
            refine kn_iconst (a := 1) C (by decide) dX4_dayGoes_66 ?_
            refine kn_icmp_ne (tgt := 78) C (Nat.lt_of_lt_of_le (hT.lt 13 (by decide) e1) (by decide)) (by decide) dX4_dayGoes_67 (by decide) (fun c67 => ?_) (fun c67 => ?_)
            · refine lv_aload_n C.hx C.hb dX4_dayGoes_78 rfl (lv_at hl4 2 rfl) ?_
              refine lv_aload_n C.hx C.hb dX4_dayGoes_79 rfl (lv_at hl4 2 rfl) ?_
              refine k_get (v := .ref (ad 14)) C clX4 (hW4.get 0 0 rfl rfl) 14 (Nat.le_of_ble_eq_true rfl) rfl q2338 rfl rfl dX4_dayGoes_80 ?_
              refine lv_iload_n C.hx C.hb dX4_dayGoes_83 rfl (lv_at hl4 0 rfl) ?_
              refine k_iald C (f := (fun i => nI (τ 14 i))) rfl (hW4.get 15 0 rfl rfl) (by omega) (by decide) dX4_dayGoes_84 ?_
              refine k_callV (Sc := mW G h ad τ) (Sr := []) (As := [.int (nI (τ 14 e1))]) (rest := []) C (ctX4_messageComes l G h ad τ (τ 14 e1) hVT (((hEv (by omega)) c32).2 c44 c67).1 (((hEv (by omega)) c32).2 c44 c67).2) hW4 clX4 (hW4.get 0 0 rfl rfl) q2485 q2487 qs55 q85 q2488 rfl rfl ⟨by decide, by decide, Eq.trans (b := some 1) (by decide +kernel) rfl⟩ (Nat.le_of_ble_eq_true rfl) (Nat.le_of_ble_eq_true rfl) (Nat.le_refl _) (Nat.le_refl _) hl4.1 rfl (Nat.le_of_ble_eq_true rfl) dX4_dayGoes_85 (List.Perm.refl _) (fun _ h => h.elim) (fun v H6 locs6 S1 hQ hz6 hW6 => ?_)
              obtain ⟨rfl, rfl⟩ := hQ
              have hW6 : Ws G A s (mW G h ad (msgF τ (τ 14 e1))) H6 locs6 := hW6
              clear hW4
              refine W.eq (g2 := F0 m 88 ls4 []) rfl ?_
              refine kn_iinc (lv' := [(2, .int (nI (e1 + 1))), (1, .int (nI (σ 34 0))), (0, .ref h)]) (k := 0) C dX4_dayGoes_88 hl4 rfl (Nat.le_of_ble_eq_true rfl) rfl (fun ls7 hl7 => ?_)
              clear hl4
              refine lv_goto (tgt := 17) C.hx C.hb dX4_dayGoes_91 (by decide) ?_
              exact ih4 (e1 + 1) (msgF τ (τ 14 e1)) (by omega) (by show _ = evF e1 (lp evF e1 _); rw [← hLa_1, evF, if_pos c32, if_neg c44, if_neg c67]) (by omega) _ _ _ hW6 (lv_sub hl7 [0, 1, 2] rfl)
            · refine lv_aload_n C.hx C.hb dX4_dayGoes_70 rfl (lv_at hl4 2 rfl) ?_
              refine lv_iload_n C.hx C.hb dX4_dayGoes_71 rfl (lv_at hl4 0 rfl) ?_
              refine k_callV (Sc := mW G h ad τ) (Sr := []) (As := [.int (nI e1)]) (rest := []) C (ctX4_laid l G h ad τ e1 hST (by omega)) hW4 clX4 (hW4.get 0 0 rfl rfl) q2481 q2483 qs54 q85 q2484 rfl rfl ⟨by decide, by decide, Eq.trans (b := some 1) (by decide +kernel) rfl⟩ (Nat.le_of_ble_eq_true rfl) (Nat.le_of_ble_eq_true rfl) (Nat.le_refl _) (Nat.le_refl _) hl4.1 rfl (Nat.le_of_ble_eq_true rfl) dX4_dayGoes_72 (List.Perm.refl _) (fun _ h => h.elim) (fun v H8 locs8 S1 hQ hz8 hW8 => ?_)
              obtain ⟨rfl, rfl⟩ := hQ
              have hW8 : Ws G A s (mW G h ad (laidF τ e1)) H8 locs8 := hW8
              clear hW4
              refine W.eq (g2 := F0 m 75 ls4 []) rfl ?_
              refine lv_goto (tgt := 88) C.hx C.hb dX4_dayGoes_75 (by decide) ?_
              refine kn_iinc (lv' := [(2, .int (nI (e1 + 1))), (1, .int (nI (σ 34 0))), (0, .ref h)]) (k := 0) C dX4_dayGoes_88 hl4 rfl (Nat.le_of_ble_eq_true rfl) rfl (fun ls9 hl9 => ?_)
              clear hl4
              refine lv_goto (tgt := 17) C.hx C.hb dX4_dayGoes_91 (by decide) ?_
              exact ih4 (e1 + 1) (laidF τ e1) (by omega) (by show _ = evF e1 (lp evF e1 _); rw [← hLa_1, evF, if_pos c32, if_neg c44, if_pos c67]) (by omega) _ _ _ hW8 (lv_sub hl9 [0, 1, 2] rfl)
          · refine lv_aload_n C.hx C.hb dX4_dayGoes_47 rfl (lv_at hl4 2 rfl) ?_
            refine lv_aload_n C.hx C.hb dX4_dayGoes_48 rfl (lv_at hl4 2 rfl) ?_
            refine k_get (v := .ref (ad 14)) C clX4 (hW4.get 0 0 rfl rfl) 14 (Nat.le_of_ble_eq_true rfl) rfl q2338 rfl rfl dX4_dayGoes_49 ?_
            refine lv_iload_n C.hx C.hb dX4_dayGoes_52 rfl (lv_at hl4 0 rfl) ?_
            refine k_iald C (f := (fun i => nI (τ 14 i))) rfl (hW4.get 15 0 rfl rfl) (by omega) (by decide) dX4_dayGoes_53 ?_
            refine k_callV (Sc := mW G h ad τ) (Sr := []) (As := [.int (nI (τ 14 e1))]) (rest := []) C (ctX4_cutCome l G h ad τ (τ 14 e1) hVT (((hEv (by omega)) c32).1 c44).1 (((hEv (by omega)) c32).1 c44).2) hW4 clX4 (hW4.get 0 0 rfl rfl) q2461 q2463 qs49 q85 q2464 rfl rfl ⟨by decide, by decide, Eq.trans (b := some 1) (by decide +kernel) rfl⟩ (Nat.le_of_ble_eq_true rfl) (Nat.le_of_ble_eq_true rfl) (Nat.le_refl _) (Nat.le_refl _) hl4.1 rfl (Nat.le_of_ble_eq_true rfl) dX4_dayGoes_54 (List.Perm.refl _) (fun _ h => h.elim) (fun v H10 locs10 S1 hQ hz10 hW10 => ?_)
            obtain ⟨rfl, rfl⟩ := hQ
            have hW10 : Ws G A s (mW G h ad (cutComeF τ (τ 14 e1))) H10 locs10 := hW10
            clear hW4
            refine W.eq (g2 := F0 m 57 ls4 []) rfl ?_
            refine lv_goto (tgt := 88) C.hx C.hb dX4_dayGoes_57 (by decide) ?_
            refine kn_iinc (lv' := [(2, .int (nI (e1 + 1))), (1, .int (nI (σ 34 0))), (0, .ref h)]) (k := 0) C dX4_dayGoes_88 hl4 rfl (Nat.le_of_ble_eq_true rfl) rfl (fun ls11 hl11 => ?_)
            clear hl4
            refine lv_goto (tgt := 17) C.hx C.hb dX4_dayGoes_91 (by decide) ?_
            exact ih4 (e1 + 1) (cutComeF τ (τ 14 e1)) (by omega) (by show _ = evF e1 (lp evF e1 _); rw [← hLa_1, evF, if_pos c32, if_pos c44]) (by omega) _ _ _ hW10 (lv_sub hl11 [0, 1, 2] rfl)
        · refine lv_goto (tgt := 88) C.hx C.hb dX4_dayGoes_35 (by decide) ?_
          refine kn_iinc (lv' := [(2, .int (nI (e1 + 1))), (1, .int (nI (σ 34 0))), (0, .ref h)]) (k := 0) C dX4_dayGoes_88 hl4 rfl (Nat.le_of_ble_eq_true rfl) rfl (fun ls12 hl12 => ?_)
          clear hl4
          refine lv_goto (tgt := 17) C.hx C.hb dX4_dayGoes_91 (by decide) ?_
          exact ih4 (e1 + 1) τ (by omega) (by show _ = evF e1 (lp evF e1 _); rw [← hLa_1, evF, if_neg c32]) (by omega) _ _ _ hW4 (lv_sub hl12 [0, 1, 2] rfl)
  exact La (σ 34 0 - 0 + 1) 0 (s2 σ 30 0 ((σ 30 0) + 1)) (Nat.zero_le _) rfl (Nat.lt_succ_self _) _ _ _ hW1 (lv_sub hl3 [0, 1, 2] rfl)
