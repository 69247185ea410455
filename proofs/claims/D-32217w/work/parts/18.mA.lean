def Q_ctX4_signAt_a (G : GT) (h : Nat) (ad : Nat → Nat) (σ : Sg) (m1 p1 : Nat) : Option Value → List va_W → Prop := fun v S1 => v = some (.int (nI (signF σ m1 p1))) ∧ S1 = mW G h ad σ
set_option maxHeartbeats 4000000 in
set_option maxRecDepth 100000 in
theorem ctX4_signAt_a (l : Launch) (G : GT) (h : Nat) (ad : Nat → Nat) (σ : Sg) (m1 p1 : Nat) (hS : Sf σ) (hm : m1 < 60) (hp : 5 + digitsF σ m1 ≤ p1) (hp2 : p1 < 20) : Ct l G yX4_signAt cX4_signAt 4 (some .int) 1 21 0 0 [.ref h, .int (nI m1), .int (nI p1)] (mW G h ad σ) noR (Q_ctX4_signAt_a G h ad σ m1 p1) := by
  refine Ct.of (by decide +kernel) (Nat.le_of_ble_eq_true rfl) ?_
  intro p e s m below meth c A ls C hW hRo hl
  have hl : lv_has ls 4 [(0, .ref h), (1, .int (nI m1)), (2, .int (nI p1))] := hl
  have hB : Bd σ := hS.1
  have h32 : σ 32 0 ≤ 200 := Nat.lt_succ_iff.mp (hB.lt 32 (by decide) 0)
  have h34 : σ 34 0 ≤ 480 := Nat.lt_succ_iff.mp (hB.lt 34 (by decide) 0)
  have h35 : σ 35 0 ≤ 64 := Nat.lt_succ_iff.mp (hB.lt 35 (by decide) 0)
  have h36 : σ 36 0 ≤ 60 := Nat.lt_succ_iff.mp (hB.lt 36 (by decide) 0)
  have h30 : σ 30 0 ≤ 5000 := Nat.lt_succ_iff.mp (hB.lt 30 (by decide) 0)
  have hdg := digits_12 σ m1
  have h18 : σ 18 m1 < 12 := hB.lt 18 (by decide) _
  have h17 : σ 17 m1 < 4 := hB.lt 17 (by decide) _
  have h19 : σ 19 m1 < 4 := hB.lt 19 (by decide) _
  refine lv_iload_n C.hx C.hb dX4_signAt_0 rfl (lv_at hl 2 rfl) ?_
  refine kn_iconst (a := 5) C (by decide) dX4_signAt_1 ?_
  refine kn_isub C (by omega) dX4_signAt_2 ?_
  refine lv_aload_n C.hx C.hb dX4_signAt_3 rfl (lv_at hl 0 rfl) ?_
  refine lv_iload_n C.hx C.hb dX4_signAt_4 rfl (lv_at hl 1 rfl) ?_
  refine k_callV (Sc := mW G h ad σ) (Sr := []) (As := [.int (nI m1)]) (rest := [.int (nI (p1 - 5))]) C (ctX4_digits l G h ad σ m1 hS hm) hW clX4 (hW.get 0 0 rfl rfl) q2582 q2584 qs62 q85 q2585 rfl rfl ⟨by decide, by decide, Eq.trans (b := some 1) (by decide +kernel) rfl⟩ (Nat.le_of_ble_eq_true rfl) (Nat.le_of_ble_eq_true rfl) (Nat.le_refl _) (Nat.le_refl _) hl.1 rfl (Nat.le_of_ble_eq_true rfl) dX4_signAt_5 (List.Perm.refl _) (fun _ h => h.elim) (fun v H1 locs1 S1 hQ hz1 hW1 => ?_)
  obtain ⟨rfl, rfl⟩ := hQ
  have hW1 : Ws G A s (mW G h ad σ) H1 locs1 := hW1
  clear hW
  refine W.eq (g2 := F0 m 8 ls [.int (nI (digitsF σ m1)), .int (nI (p1 - 5))]) rfl ?_
  refine kn_isub C (by omega) dX4_signAt_8 ?_
  refine lv_istore_n (lv' := [(3, .int (nI ((p1 - 5) - (digitsF σ m1)))), (0, .ref h), (1, .int (nI m1)), (2, .int (nI p1))]) C.hx C.hb dX4_signAt_9 rfl hl (Nat.le_of_ble_eq_true rfl) rfl (fun ls2 hl2 => ?_)
  clear hl
  refine lv_iload_n C.hx C.hb dX4_signAt_10 rfl (lv_at hl2 3 rfl) ?_
  refine kn_iconst (a := 4) C (by decide) dX4_signAt_11 ?_
  refine kn_icmp_ge (tgt := 31) C (by omega) (by decide) dX4_signAt_12 (by decide) (fun c12 => ?_) (fun c12 => (absurd c12 (by omega)))
  refine lv_iload_n C.hx C.hb dX4_signAt_31 rfl (lv_at hl2 3 rfl) ?_
  refine kn_iconst (a := 4) C (by decide) dX4_signAt_32 ?_
  refine kn_icmp_eq (tgt := 45) C (by omega) (by decide) dX4_signAt_33 (by decide) (fun c33 => (absurd c33 (by omega))) (fun c33 => ?_)
  refine lv_iload_n C.hx C.hb dX4_signAt_36 rfl (lv_at hl2 0 rfl) ?_
  refine kn_if_eq (tgt := 45) C (by omega) dX4_signAt_37 (by decide) (fun c37 => ?_) (fun c37 => ?_)
  · refine kn_bipush (a := 32) C (by decide) dX4_signAt_45 ?_
    exact k_iret C hW1 rfl ⟨congrArg (fun z => some (Value.int (nI z))) (by unfold signF; (repeat' split) <;> omega), rfl⟩ (Nat.le_refl _) (Nat.le_refl _) dX4_signAt_47
  · refine lv_iload_n C.hx C.hb dX4_signAt_40 rfl (lv_at hl2 0 rfl) ?_
    refine kn_iconst (a := 3) C (by decide) dX4_signAt_41 ?_
    refine kn_icmp_ne (tgt := 48) C (by omega) (by decide) dX4_signAt_42 (by decide) (fun c42 => ?_) (fun c42 => ?_)
    · refine lv_iload_n C.hx C.hb dX4_signAt_48 rfl (lv_at hl2 0 rfl) ?_
      refine kn_if_ge (tgt := 91) C (by omega) dX4_signAt_49 (by decide) ?_
      refine lv_iload_n C.hx C.hb dX4_signAt_91 rfl (lv_at hl2 0 rfl) ?_
      refine kn_iconst (a := 1) C (by decide) dX4_signAt_92 ?_
      refine kn_icmp_ne (tgt := 101) C (by omega) (by decide) dX4_signAt_93 (by decide) (fun c93 => ?_) (fun c93 => ?_)
      · refine lv_iload_n C.hx C.hb dX4_signAt_101 rfl (lv_at hl2 0 rfl) ?_
        refine kn_iconst (a := 2) C (by decide) dX4_signAt_102 ?_
        refine kn_icmp_ne (tgt := 111) C (by omega) (by decide) dX4_signAt_103 (by decide) (fun c103 => ?_) (fun c103 => ?_)
        · refine kn_bipush (a := 48) C (by decide) dX4_signAt_111 ?_
          refine lv_aload_n C.hx C.hb dX4_signAt_113 rfl (lv_at hl2 1 rfl) ?_
          refine k_get (v := .ref (ad 17)) C clX4 (hW1.get 0 0 rfl rfl) 17 (Nat.le_of_ble_eq_true rfl) rfl q2341 rfl rfl dX4_signAt_114 ?_
          refine lv_iload_n C.hx C.hb dX4_signAt_117 rfl (lv_at hl2 2 rfl) ?_
          refine k_iald C (f := (fun i => nI (σ 17 i))) rfl (hW1.get 18 0 rfl rfl) (by omega) (by decide) dX4_signAt_118 ?_
          refine kn_iadd C  dX4_signAt_119 ?_
          exact k_iret C hW1 rfl ⟨congrArg (fun z => some (Value.int (nI z))) (by unfold signF; (repeat' split) <;> omega), rfl⟩ (Nat.le_refl _) (Nat.le_refl _) dX4_signAt_120
        · refine kn_bipush (a := 121) C (by decide) dX4_signAt_106 ?_
          refine lv_goto (tgt := 120) C.hx C.hb dX4_signAt_108 (by decide) ?_
          exact k_iret C hW1 rfl ⟨congrArg (fun z => some (Value.int (nI z))) (by unfold signF; (repeat' split) <;> omega), rfl⟩ (Nat.le_refl _) (Nat.le_refl _) dX4_signAt_120
      · refine kn_bipush (a := 98) C (by decide) dX4_signAt_96 ?_
        refine lv_goto (tgt := 120) C.hx C.hb dX4_signAt_98 (by decide) ?_
        exact k_iret C hW1 rfl ⟨congrArg (fun z => some (Value.int (nI z))) (by unfold signF; (repeat' split) <;> omega), rfl⟩ (Nat.le_refl _) (Nat.le_refl _) dX4_signAt_120
    · refine kn_bipush (a := 32) C (by decide) dX4_signAt_45 ?_
      exact k_iret C hW1 rfl ⟨congrArg (fun z => some (Value.int (nI z))) (by unfold signF; (repeat' split) <;> omega), rfl⟩ (Nat.le_refl _) (Nat.le_refl _) dX4_signAt_47

def Q_ctX4_signAt_b (G : GT) (h : Nat) (ad : Nat → Nat) (σ : Sg) (m1 p1 : Nat) : Option Value → List va_W → Prop := fun v S1 => v = some (.int (nI (signF σ m1 p1))) ∧ S1 = mW G h ad σ
set_option maxHeartbeats 4000000 in
set_option maxRecDepth 100000 in
theorem ctX4_signAt_b (l : Launch) (G : GT) (h : Nat) (ad : Nat → Nat) (σ : Sg) (m1 p1 : Nat) (hS : Sf σ) (hm : m1 < 60) (hp : p1 < 5 + digitsF σ m1) : Ct l G yX4_signAt cX4_signAt 4 (some .int) 1 21 0 0 [.ref h, .int (nI m1), .int (nI p1)] (mW G h ad σ) noR (Q_ctX4_signAt_b G h ad σ m1 p1) := by
  refine Ct.of (by decide +kernel) (Nat.le_of_ble_eq_true rfl) ?_
  intro p e s m below meth c A ls C hW hRo hl
  have hl : lv_has ls 4 [(0, .ref h), (1, .int (nI m1)), (2, .int (nI p1))] := hl
  have hB : Bd σ := hS.1
  have h32 : σ 32 0 ≤ 200 := Nat.lt_succ_iff.mp (hB.lt 32 (by decide) 0)
  have h34 : σ 34 0 ≤ 480 := Nat.lt_succ_iff.mp (hB.lt 34 (by decide) 0)
  have h35 : σ 35 0 ≤ 64 := Nat.lt_succ_iff.mp (hB.lt 35 (by decide) 0)
  have h36 : σ 36 0 ≤ 60 := Nat.lt_succ_iff.mp (hB.lt 36 (by decide) 0)
  have h30 : σ 30 0 ≤ 5000 := Nat.lt_succ_iff.mp (hB.lt 30 (by decide) 0)
  have hdg := digits_12 σ m1
  have h18 : σ 18 m1 < 12 := hB.lt 18 (by decide) _
  have h17 : σ 17 m1 < 4 := hB.lt 17 (by decide) _
  have h19 : σ 19 m1 < 4 := hB.lt 19 (by decide) _
  refine lv_iload_n C.hx C.hb dX4_signAt_0 rfl (lv_at hl 2 rfl) ?_
  refine kn_iconst (a := 5) C (by decide) dX4_signAt_1 ?_
  refine lv_isub C.hx C.hb dX4_signAt_2 ?_
  refine lv_aload_n C.hx C.hb dX4_signAt_3 rfl (lv_at hl 0 rfl) ?_
  refine lv_iload_n C.hx C.hb dX4_signAt_4 rfl (lv_at hl 1 rfl) ?_
  refine k_callV (Sc := mW G h ad σ) (Sr := []) (As := [.int (nI m1)]) (rest := [.int (HSub.hSub (nI p1) (nI 5))]) C (ctX4_digits l G h ad σ m1 hS hm) hW clX4 (hW.get 0 0 rfl rfl) q2582 q2584 qs62 q85 q2585 rfl rfl ⟨by decide, by decide, Eq.trans (b := some 1) (by decide +kernel) rfl⟩ (Nat.le_of_ble_eq_true rfl) (Nat.le_of_ble_eq_true rfl) (Nat.le_refl _) (Nat.le_refl _) hl.1 rfl (Nat.le_of_ble_eq_true rfl) dX4_signAt_5 (List.Perm.refl _) (fun _ h => h.elim) (fun v H1 locs1 S1 hQ hz1 hW1 => ?_)
  obtain ⟨rfl, rfl⟩ := hQ
  have hW1 : Ws G A s (mW G h ad σ) H1 locs1 := hW1
  clear hW
  refine W.eq (g2 := F0 m 8 ls [.int (nI (digitsF σ m1)), .int (HSub.hSub (nI p1) (nI 5))]) rfl ?_
  refine lv_isub C.hx C.hb dX4_signAt_8 ?_
  have hb := bh_toInt (a := p1) (b := 5) (c := digitsF σ m1) (by omega) (by decide) (by omega)
  refine lv_istore_n (lv' := [(3, .int (HSub.hSub (HSub.hSub (nI p1) (nI 5)) (nI (digitsF σ m1)))), (0, .ref h), (1, .int (nI m1)), (2, .int (nI p1))]) C.hx C.hb dX4_signAt_9 rfl hl (Nat.le_of_ble_eq_true rfl) rfl (fun ls2 hl2 => ?_)
  clear hl
  refine lv_iload_n C.hx C.hb dX4_signAt_10 rfl (lv_at hl2 3 rfl) ?_
  refine kn_iconst (a := 4) C (by decide) dX4_signAt_11 ?_
  refine kn_icmp_ge (tgt := 31) C (by omega) (by decide) dX4_signAt_12 (by decide) (fun c12 => ?_) (fun c12 => ?_)
  · refine lv_iload_n C.hx C.hb dX4_signAt_31 rfl (lv_at hl2 3 rfl) ?_
    refine kn_iconst (a := 4) C (by decide) dX4_signAt_32 ?_
    refine kn_icmp_eq (tgt := 45) C (by omega) (by decide) dX4_signAt_33 (by decide) (fun c33 => ?_) (fun c33 => ?_)
    · refine kn_bipush (a := 32) C (by decide) dX4_signAt_45 ?_
      exact k_iret C hW1 rfl ⟨congrArg (fun z => some (Value.int (nI z))) (by unfold signF; (repeat' split) <;> omega), rfl⟩ (Nat.le_refl _) (Nat.le_refl _) dX4_signAt_47
    · refine lv_iload_n C.hx C.hb dX4_signAt_36 rfl (lv_at hl2 0 rfl) ?_
      refine lv_if_eq (tgt := 45) C.hx C.hb dX4_signAt_37 (by decide) (fun c37 => (absurd (congrArg Int32.toInt c37) (by rw [hb]; show ¬ _ = (0 : Int); omega))) (fun c37 => ?_)
      refine lv_iload_n C.hx C.hb dX4_signAt_40 rfl (lv_at hl2 0 rfl) ?_
      refine kn_iconst (a := 3) C (by decide) dX4_signAt_41 ?_
      refine lv_icmp_ne (tgt := 48) C.hx C.hb dX4_signAt_42 (by decide) (fun c42 => ?_) (fun c42 => (absurd (congrArg Int32.toInt c42) (by rw [hb]; show ¬ _ = (3 : Int); omega)))
      refine lv_iload_n C.hx C.hb dX4_signAt_48 rfl (lv_at hl2 0 rfl) ?_
      refine lv_if_ge (tgt := 91) C.hx C.hb dX4_signAt_49 (by decide) (fun c49 => (absurd (Int32.le_iff_toInt_le.mp c49) (by rw [hb]; show ¬ (0 : Int) ≤ _; omega))) (fun c49 => ?_)
      refine kn_bipush (a := 48) C (by decide) dX4_signAt_52 ?_
      refine lv_iload_n C.hx C.hb dX4_signAt_54 rfl (lv_at hl2 3 rfl) ?_
      refine kn_iconst (a := 5) C (by decide) dX4_signAt_55 ?_
      refine kn_icmp_ne (tgt := 80) C (by omega) (by decide) dX4_signAt_56 (by decide) (fun c56 => ?_) (fun c56 => ?_)
      · refine lv_aload_n C.hx C.hb dX4_signAt_80 rfl (lv_at hl2 1 rfl) ?_
        refine k_get (v := .ref (ad 18)) C clX4 (hW1.get 0 0 rfl rfl) 18 (Nat.le_of_ble_eq_true rfl) rfl q2342 rfl rfl dX4_signAt_81 ?_
        refine lv_iload_n C.hx C.hb dX4_signAt_84 rfl (lv_at hl2 2 rfl) ?_
        refine k_iald C (f := (fun i => nI (σ 18 i))) rfl (hW1.get 19 0 rfl rfl) (by omega) (by decide) dX4_signAt_85 ?_
        refine kn_bipush (a := 10) C (by decide) dX4_signAt_86 ?_
        refine kn_irem C (Nat.lt_of_lt_of_le (hB.lt 18 (by decide) m1) (by decide)) (by decide) (by decide) dX4_signAt_88 ?_
        refine kn_iadd C  dX4_signAt_89 ?_
        exact k_iret C hW1 rfl ⟨congrArg (fun z => some (Value.int (nI z))) (by unfold signF; (repeat' split) <;> omega), rfl⟩ (Nat.le_refl _) (Nat.le_refl _) dX4_signAt_90
      · refine lv_aload_n C.hx C.hb dX4_signAt_59 rfl (lv_at hl2 1 rfl) ?_
        refine lv_iload_n C.hx C.hb dX4_signAt_60 rfl (lv_at hl2 2 rfl) ?_
        refine k_callV (Sc := mW G h ad σ) (Sr := []) (As := [.int (nI m1)]) (rest := [.int (nI 48)]) C (ctX4_digits l G h ad σ m1 hS hm) hW1 clX4 (hW1.get 0 0 rfl rfl) q2582 q2584 qs62 q85 q2585 rfl rfl ⟨by decide, by decide, Eq.trans (b := some 1) (by decide +kernel) rfl⟩ (Nat.le_of_ble_eq_true rfl) (Nat.le_of_ble_eq_true rfl) (Nat.le_refl _) (Nat.le_refl _) hl2.1 rfl (Nat.le_of_ble_eq_true rfl) dX4_signAt_61 (List.Perm.refl _) (fun _ h => h.elim) (fun v H3 locs3 S1 hQ hz3 hW3 => ?_)
        obtain ⟨rfl, rfl⟩ := hQ
        have hW3 : Ws G A s (mW G h ad σ) H3 locs3 := hW3
        clear hW1
        refine W.eq (g2 := F0 m 64 ls2 [.int (nI (digitsF σ m1)), .int (nI 48)]) rfl ?_
        refine kn_iconst (a := 2) C (by decide) dX4_signAt_64 ?_
        refine kn_icmp_ne (tgt := 80) C (by omega) (by decide) dX4_signAt_65 (by decide) (fun c65 => ?_) (fun c65 => ?_)
        · refine lv_aload_n C.hx C.hb dX4_signAt_80 rfl (lv_at hl2 1 rfl) ?_
          refine k_get (v := .ref (ad 18)) C clX4 (hW3.get 0 0 rfl rfl) 18 (Nat.le_of_ble_eq_true rfl) rfl q2342 rfl rfl dX4_signAt_81 ?_
          refine lv_iload_n C.hx C.hb dX4_signAt_84 rfl (lv_at hl2 2 rfl) ?_
          refine k_iald C (f := (fun i => nI (σ 18 i))) rfl (hW3.get 19 0 rfl rfl) (by omega) (by decide) dX4_signAt_85 ?_
          refine kn_bipush (a := 10) C (by decide) dX4_signAt_86 ?_
          refine kn_irem C (Nat.lt_of_lt_of_le (hB.lt 18 (by decide) m1) (by decide)) (by decide) (by decide) dX4_signAt_88 ?_
          refine kn_iadd C  dX4_signAt_89 ?_
          exact k_iret C hW3 rfl ⟨congrArg (fun z => some (Value.int (nI z))) (by unfold signF; (repeat' split) <;> omega), rfl⟩ (Nat.le_refl _) (Nat.le_refl _) dX4_signAt_90
        · refine lv_aload_n C.hx C.hb dX4_signAt_68 rfl (lv_at hl2 1 rfl) ?_
          refine k_get (v := .ref (ad 18)) C clX4 (hW3.get 0 0 rfl rfl) 18 (Nat.le_of_ble_eq_true rfl) rfl q2342 rfl rfl dX4_signAt_69 ?_
          refine lv_iload_n C.hx C.hb dX4_signAt_72 rfl (lv_at hl2 2 rfl) ?_
          refine k_iald C (f := (fun i => nI (σ 18 i))) rfl (hW3.get 19 0 rfl rfl) (by omega) (by decide) dX4_signAt_73 ?_
          refine kn_bipush (a := 10) C (by decide) dX4_signAt_74 ?_
          refine kn_idiv C (Nat.lt_of_lt_of_le (hB.lt 18 (by decide) m1) (by decide)) (by decide) (by decide) dX4_signAt_76 ?_
          refine lv_goto (tgt := 89) C.hx C.hb dX4_signAt_77 (by decide) ?_
          refine kn_iadd C  dX4_signAt_89 ?_
          exact k_iret C hW3 rfl ⟨congrArg (fun z => some (Value.int (nI z))) (by unfold signF; (repeat' split) <;> omega), rfl⟩ (Nat.le_refl _) (Nat.le_refl _) dX4_signAt_90
  · refine lv_aload_n C.hx C.hb dX4_signAt_15 rfl (lv_at hl2 1 rfl) ?_
    refine k_get (v := .ref (ad 29)) C clX4 (hW1.get 0 0 rfl rfl) 29 (Nat.le_of_ble_eq_true rfl) rfl q2353 rfl rfl dX4_signAt_16 ?_
    refine kn_iconst (a := 4) C (by decide) dX4_signAt_19 ?_
    refine lv_aload_n C.hx C.hb dX4_signAt_20 rfl (lv_at hl2 1 rfl) ?_
    refine k_get (v := .ref (ad 19)) C clX4 (hW1.get 0 0 rfl rfl) 19 (Nat.le_of_ble_eq_true rfl) rfl q2343 rfl rfl dX4_signAt_21 ?_
    refine lv_iload_n C.hx C.hb dX4_signAt_24 rfl (lv_at hl2 2 rfl) ?_
    refine k_iald C (f := (fun i => nI (σ 19 i))) rfl (hW1.get 20 0 rfl rfl) (by omega) (by decide) dX4_signAt_25 ?_
    refine kn_imul C  dX4_signAt_26 ?_
    refine lv_iload_n C.hx C.hb dX4_signAt_27 rfl (lv_at hl2 3 rfl) ?_
    refine kn_iadd C  dX4_signAt_28 ?_
    refine k_bald C (f := (fun i => nI (σ 29 i))) rfl (hW1.get 30 0 rfl rfl) (by have : σ 19 m1 < 4 := hB.lt 19 (by decide) m1; omega) (by decide) dX4_signAt_29 ?_
    exact k_iret C hW1 rfl ⟨congrArg (fun z => some (Value.int (nI z))) (by unfold signF; (repeat' split) <;> omega), rfl⟩ (Nat.le_refl _) (Nat.le_refl _) dX4_signAt_30

theorem ctX4_signAt (l : Launch) (G : GT) (h : Nat) (ad : Nat → Nat) (σ : Sg) (m1 p1 : Nat) (hS : Sf σ) (hm : m1 < 60) (hp : p1 < 20) : Ct l G yX4_signAt cX4_signAt 4 (some .int) 1 21 0 0 [.ref h, .int (nI m1), .int (nI p1)] (mW G h ad σ) noR (fun v S1 => v = some (.int (nI (signF σ m1 p1))) ∧ S1 = mW G h ad σ) := by
  rcases Nat.lt_or_ge p1 (5 + digitsF σ m1) with q | q
  · exact ctX4_signAt_b l G h ad σ m1 p1 hS hm q
  · exact ctX4_signAt_a l G h ad σ m1 p1 hS hm q hp