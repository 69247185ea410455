def Q_ctX4_isBetween (G : GT) (v1 x1 x2 : Int64) : Option Value → List va_W → Prop := fun v S1 => v = some (.int (b01 (x1 ≤ v1 ∧ v1 ≤ x2))) ∧ S1 = []
set_option maxHeartbeats 4000000 in
set_option maxRecDepth 100000 in
theorem ctX4_isBetween (l : Launch) (G : GT) (v1 x1 x2 : Int64)  : Ct l G yX4_isBetween cX4_isBetween 6 (some .boolean) 0 0 0 0 [.long v1, .long x1, .long x2] ([]) noR (Q_ctX4_isBetween G v1 x1 x2) := by
  refine Ct.of (by decide +kernel) (Nat.le_of_ble_eq_true rfl) ?_
  intro p e s m below meth c A ls C hW hRo hl
  have hl : lv_has ls 6 [(0, .long v1), (2, .long x1), (4, .long x2)] := hl
  refine lv_lload_n C.hx C.hb dX4_isBetween_0 rfl (lv_at hl 0 rfl) ?_
  refine lv_lload_n C.hx C.hb dX4_isBetween_1 rfl (lv_at hl 1 rfl) ?_
  refine W.lcmp C.hx C.hb dX4_isBetween_2 ?_
  refine lv_if_lt (tgt := 17) C.hx C.hb dX4_isBetween_3 (by decide) (fun c3 => ?_) (fun c3 => ?_)
  · refine kn_iconst (a := 0) C (by decide) dX4_isBetween_17 ?_
    exact k_zret C hW rfl (by decide) ⟨by rw [b01_f (fun q => lg_nle (lg_lt0.mp c3) q.1)]; rfl, rfl⟩ (Nat.le_refl _) (Nat.le_refl _) dX4_isBetween_18
  · refine lv_lload_n C.hx C.hb dX4_isBetween_6 rfl (lv_at hl 0 rfl) ?_
    refine lv_lload C.hx C.hb dX4_isBetween_7 (lv_at hl 2 rfl) ?_
    refine W.lcmp C.hx C.hb dX4_isBetween_9 ?_
    refine lv_if_gt (tgt := 17) C.hx C.hb dX4_isBetween_10 (by decide) (fun c10 => ?_) (fun c10 => ?_)
    · refine kn_iconst (a := 0) C (by decide) dX4_isBetween_17 ?_
      exact k_zret C hW rfl (by decide) ⟨by rw [b01_f (fun q => lg_nle (lg_gt0.mp c10) q.2)]; rfl, rfl⟩ (Nat.le_refl _) (Nat.le_refl _) dX4_isBetween_18
    · refine kn_iconst (a := 1) C (by decide) dX4_isBetween_13 ?_
      refine lv_goto (tgt := 18) C.hx C.hb dX4_isBetween_14 (by decide) ?_
      exact k_zret C hW rfl (by decide) ⟨by rw [b01_t ⟨lg_le (fun q => c3 (lg_lt0.mpr q)), lg_le (fun q => c10 (lg_gt0.mpr q))⟩]; rfl, rfl⟩ (Nat.le_refl _) (Nat.le_refl _) dX4_isBetween_18

def Q_ctX4_isStretch (G : GT) (x1 : Int32) : Option Value → List va_W → Prop := fun v S1 => v = some (.int (b01 (inR x1 0 11))) ∧ S1 = []
set_option maxHeartbeats 4000000 in
set_option maxRecDepth 100000 in
theorem ctX4_isStretch (l : Launch) (G : GT) (x1 : Int32)  : Ct l G yX4_isStretch cX4_isStretch 1 (some .boolean) 1 25 0 0 [.int x1] ([]) noR (Q_ctX4_isStretch G x1) := by
  refine Ct.of (by decide +kernel) (Nat.le_of_ble_eq_true rfl) ?_
  intro p e s m below meth c A ls C hW hRo hl
  have hl : lv_has ls 1 [(0, .int x1)] := hl
  refine lv_iload_n C.hx C.hb dX4_isStretch_0 rfl (lv_at hl 0 rfl) ?_
  refine lv_i2l C.hx C.hb dX4_isStretch_1 rfl ?_
  refine kn_lconst (a := 0) C rfl dX4_isStretch_2 ?_
  refine lv_ldc2 (own := "BogsignModel") (v := (lN 11)) C.hx C.hb C.hown (C.hts _ q2512) dX4_isStretch_3 ?_
  refine k_callS (Sc := []) (Sr := []) (As := [.long (x1).toInt64, .long (lN 0), .long (lN 11)]) (rest := []) C (ctX4_isBetween l G ((x1).toInt64) (lN 0) (lN 11)) hW q2449 q2450 q85 q2451 rfl ⟨by decide, by decide, Eq.trans (b := some 3) (by decide +kernel) rfl⟩ (Nat.le_of_ble_eq_true rfl) (Nat.le_of_ble_eq_true rfl) (Nat.le_refl _) (Nat.le_refl _) hl.1 rfl (Nat.le_of_ble_eq_true rfl) dX4_isStretch_6 (List.Perm.refl _) (fun _ h => h.elim) (fun v H1 locs1 S1 hQ hz1 hW1 => ?_)
  obtain ⟨rfl, rfl⟩ := hQ
  have hW1 : Ws G A s ([]) H1 locs1 := hW1
  clear hW
  refine W.eq (g2 := F0 m 9 ls [.int (b01 ((lN 0) ≤ (x1).toInt64 ∧ (x1).toInt64 ≤ (lN 11)))]) rfl ?_
  exact k_zret C hW1 rfl (b01_nar _) ⟨by rw [b01_cg (inR64 x1 0 11 rfl rfl)]; rfl, rfl⟩ (Nat.le_refl _) (Nat.le_refl _) dX4_isStretch_9

def Q_ctX4_isRider (G : GT) (x1 : Int32) : Option Value → List va_W → Prop := fun v S1 => v = some (.int (b01 (inR x1 0 3))) ∧ S1 = []
set_option maxHeartbeats 4000000 in
set_option maxRecDepth 100000 in
theorem ctX4_isRider (l : Launch) (G : GT) (x1 : Int32)  : Ct l G yX4_isRider cX4_isRider 1 (some .boolean) 1 25 0 0 [.int x1] ([]) noR (Q_ctX4_isRider G x1) := by
  refine Ct.of (by decide +kernel) (Nat.le_of_ble_eq_true rfl) ?_
  intro p e s m below meth c A ls C hW hRo hl
  have hl : lv_has ls 1 [(0, .int x1)] := hl
  refine lv_iload_n C.hx C.hb dX4_isRider_0 rfl (lv_at hl 0 rfl) ?_
  refine lv_i2l C.hx C.hb dX4_isRider_1 rfl ?_
  refine kn_lconst (a := 0) C rfl dX4_isRider_2 ?_
  refine lv_ldc2 (own := "BogsignModel") (v := (lN 3)) C.hx C.hb C.hown (C.hts _ q2521) dX4_isRider_3 ?_
  refine k_callS (Sc := []) (Sr := []) (As := [.long (x1).toInt64, .long (lN 0), .long (lN 3)]) (rest := []) C (ctX4_isBetween l G ((x1).toInt64) (lN 0) (lN 3)) hW q2449 q2450 q85 q2451 rfl ⟨by decide, by decide, Eq.trans (b := some 3) (by decide +kernel) rfl⟩ (Nat.le_of_ble_eq_true rfl) (Nat.le_of_ble_eq_true rfl) (Nat.le_refl _) (Nat.le_refl _) hl.1 rfl (Nat.le_of_ble_eq_true rfl) dX4_isRider_6 (List.Perm.refl _) (fun _ h => h.elim) (fun v H1 locs1 S1 hQ hz1 hW1 => ?_)
  obtain ⟨rfl, rfl⟩ := hQ
  have hW1 : Ws G A s ([]) H1 locs1 := hW1
  clear hW
  refine W.eq (g2 := F0 m 9 ls [.int (b01 ((lN 0) ≤ (x1).toInt64 ∧ (x1).toInt64 ≤ (lN 3)))]) rfl ?_
  exact k_zret C hW1 rfl (b01_nar _) ⟨by rw [b01_cg (inR64 x1 0 3 rfl rfl)]; rfl, rfl⟩ (Nat.le_refl _) (Nat.le_refl _) dX4_isRider_9

def Q_ctX4_isWord (G : GT) (x1 : Int32) : Option Value → List va_W → Prop := fun v S1 => v = some (.int (b01 (inR x1 0 3))) ∧ S1 = []
set_option maxHeartbeats 4000000 in
set_option maxRecDepth 100000 in
theorem ctX4_isWord (l : Launch) (G : GT) (x1 : Int32)  : Ct l G yX4_isWord cX4_isWord 1 (some .boolean) 1 25 0 0 [.int x1] ([]) noR (Q_ctX4_isWord G x1) := by
  refine Ct.of (by decide +kernel) (Nat.le_of_ble_eq_true rfl) ?_
  intro p e s m below meth c A ls C hW hRo hl
  have hl : lv_has ls 1 [(0, .int x1)] := hl
  refine lv_iload_n C.hx C.hb dX4_isWord_0 rfl (lv_at hl 0 rfl) ?_
  refine lv_i2l C.hx C.hb dX4_isWord_1 rfl ?_
  refine kn_lconst (a := 0) C rfl dX4_isWord_2 ?_
  refine lv_ldc2 (own := "BogsignModel") (v := (lN 3)) C.hx C.hb C.hown (C.hts _ q2521) dX4_isWord_3 ?_
  refine k_callS (Sc := []) (Sr := []) (As := [.long (x1).toInt64, .long (lN 0), .long (lN 3)]) (rest := []) C (ctX4_isBetween l G ((x1).toInt64) (lN 0) (lN 3)) hW q2449 q2450 q85 q2451 rfl ⟨by decide, by decide, Eq.trans (b := some 3) (by decide +kernel) rfl⟩ (Nat.le_of_ble_eq_true rfl) (Nat.le_of_ble_eq_true rfl) (Nat.le_refl _) (Nat.le_refl _) hl.1 rfl (Nat.le_of_ble_eq_true rfl) dX4_isWord_6 (List.Perm.refl _) (fun _ h => h.elim) (fun v H1 locs1 S1 hQ hz1 hW1 => ?_)
  obtain ⟨rfl, rfl⟩ := hQ
  have hW1 : Ws G A s ([]) H1 locs1 := hW1
  clear hW
  refine W.eq (g2 := F0 m 9 ls [.int (b01 ((lN 0) ≤ (x1).toInt64 ∧ (x1).toInt64 ≤ (lN 3)))]) rfl ?_
  exact k_zret C hW1 rfl (b01_nar _) ⟨by rw [b01_cg (inR64 x1 0 3 rfl rfl)]; rfl, rfl⟩ (Nat.le_refl _) (Nat.le_refl _) dX4_isWord_9

def Q_ctX4_isMark (G : GT) (x1 : Int32) : Option Value → List va_W → Prop := fun v S1 => v = some (.int (b01 (inR x1 0 6))) ∧ S1 = []
set_option maxHeartbeats 4000000 in
set_option maxRecDepth 100000 in
theorem ctX4_isMark (l : Launch) (G : GT) (x1 : Int32)  : Ct l G yX4_isMark cX4_isMark 1 (some .boolean) 1 25 0 0 [.int x1] ([]) noR (Q_ctX4_isMark G x1) := by
  refine Ct.of (by decide +kernel) (Nat.le_of_ble_eq_true rfl) ?_
  intro p e s m below meth c A ls C hW hRo hl
  have hl : lv_has ls 1 [(0, .int x1)] := hl
  refine lv_iload_n C.hx C.hb dX4_isMark_0 rfl (lv_at hl 0 rfl) ?_
  refine lv_i2l C.hx C.hb dX4_isMark_1 rfl ?_
  refine kn_lconst (a := 0) C rfl dX4_isMark_2 ?_
  refine lv_ldc2 (own := "BogsignModel") (v := (lN 6)) C.hx C.hb C.hown (C.hts _ q2577) dX4_isMark_3 ?_
  refine k_callS (Sc := []) (Sr := []) (As := [.long (x1).toInt64, .long (lN 0), .long (lN 6)]) (rest := []) C (ctX4_isBetween l G ((x1).toInt64) (lN 0) (lN 6)) hW q2449 q2450 q85 q2451 rfl ⟨by decide, by decide, Eq.trans (b := some 3) (by decide +kernel) rfl⟩ (Nat.le_of_ble_eq_true rfl) (Nat.le_of_ble_eq_true rfl) (Nat.le_refl _) (Nat.le_refl _) hl.1 rfl (Nat.le_of_ble_eq_true rfl) dX4_isMark_6 (List.Perm.refl _) (fun _ h => h.elim) (fun v H1 locs1 S1 hQ hz1 hW1 => ?_)
  obtain ⟨rfl, rfl⟩ := hQ
  have hW1 : Ws G A s ([]) H1 locs1 := hW1
  clear hW
  refine W.eq (g2 := F0 m 9 ls [.int (b01 ((lN 0) ≤ (x1).toInt64 ∧ (x1).toInt64 ≤ (lN 6)))]) rfl ?_
  exact k_zret C hW1 rfl (b01_nar _) ⟨by rw [b01_cg (inR64 x1 0 6 rfl rfl)]; rfl, rfl⟩ (Nat.le_refl _) (Nat.le_refl _) dX4_isMark_9

def Q_ctX4_seasonOf (G : GT) (d1 : Nat) : Option Value → List va_W → Prop := fun v S1 => v = some (.int (nI (seasonN d1))) ∧ S1 = []
set_option maxHeartbeats 4000000 in
set_option maxRecDepth 100000 in
theorem ctX4_seasonOf (l : Launch) (G : GT) (d1 : Nat) (hd1 : d1 < 2 ^ 31) : Ct l G yX4_seasonOf cX4_seasonOf 1 (some .int) 0 0 0 0 [.int (nI d1)] ([]) noR (Q_ctX4_seasonOf G d1) := by
  refine Ct.of (by decide +kernel) (Nat.le_of_ble_eq_true rfl) ?_
  intro p e s m below meth c A ls C hW hRo hl
  have hl : lv_has ls 1 [(0, .int (nI d1))] := hl
  refine lv_iload_n C.hx C.hb dX4_seasonOf_0 rfl (lv_at hl 0 rfl) ?_
  refine kn_bipush (a := 91) C (by decide) dX4_seasonOf_1 ?_
  refine kn_idiv C (by omega) (by decide) (by decide) dX4_seasonOf_3 ?_
  refine kn_iconst (a := 4) C (by decide) dX4_seasonOf_4 ?_
  refine kn_irem C (by omega) (by decide) (by decide) dX4_seasonOf_5 ?_
  exact k_iret C hW rfl ⟨rfl, rfl⟩ (Nat.le_refl _) (Nat.le_refl _) dX4_seasonOf_6

def Q_ctX4_thrown (G : GT) (h : Nat) (ad : Nat → Nat) (σ : Sg) : Option Value → List va_W → Prop := fun v S1 => v = some (.int (nI (σ 37 0))) ∧ S1 = mW G h ad σ
set_option maxHeartbeats 4000000 in
set_option maxRecDepth 100000 in
theorem ctX4_thrown (l : Launch) (G : GT) (h : Nat) (ad : Nat → Nat) (σ : Sg)  : Ct l G yX4_thrown cX4_thrown 1 (some .int) 0 0 0 0 [.ref h] (mW G h ad σ) noR (Q_ctX4_thrown G h ad σ) := by
  refine Ct.of (by decide +kernel) (Nat.le_of_ble_eq_true rfl) ?_
  intro p e s m below meth c A ls C hW hRo hl
  have hl : lv_has ls 1 [(0, .ref h)] := hl
  refine lv_aload_n C.hx C.hb dX4_thrown_0 rfl (lv_at hl 0 rfl) ?_
  refine k_get (v := .int (nI (σ 37 0))) C clX4 (hW.get 0 0 rfl rfl) 37 (Nat.le_of_ble_eq_true rfl) rfl q2361 rfl rfl dX4_thrown_1 ?_
  exact k_iret C hW rfl ⟨rfl, rfl⟩ (Nat.le_refl _) (Nat.le_refl _) dX4_thrown_4

def Q_ctX4_goes (G : GT) (h : Nat) (ad : Nat → Nat) (σ : Sg) (P : Prop) [Decidable P] : Option Value → List va_W → Prop := fun v S1 => v = some (.int (b01 P)) ∧ S1 = mW G h ad (s2 σ 37 0 (if P then 0 else 1))
set_option maxHeartbeats 4000000 in
set_option maxRecDepth 100000 in
theorem ctX4_goes (l : Launch) (G : GT) (h : Nat) (ad : Nat → Nat) (σ : Sg) (P : Prop) [Decidable P] (hS : Sf σ) : Ct l G yX4_goes cX4_goes 2 (some .boolean) 0 0 0 0 [.ref h, .int (b01 P)] (mW G h ad σ) noR (Q_ctX4_goes G h ad σ P) := by
  refine Ct.of (by decide +kernel) (Nat.le_of_ble_eq_true rfl) ?_
  intro p e s m below meth c A ls C hW hRo hl
  have hl : lv_has ls 2 [(0, .ref h), (1, .int (b01 P))] := hl
  have hB : Bd σ := hS.1
  have h32 : σ 32 0 ≤ 200 := Nat.lt_succ_iff.mp (hB.lt 32 (by decide) 0)
  have h34 : σ 34 0 ≤ 480 := Nat.lt_succ_iff.mp (hB.lt 34 (by decide) 0)
  have h35 : σ 35 0 ≤ 64 := Nat.lt_succ_iff.mp (hB.lt 35 (by decide) 0)
  have h36 : σ 36 0 ≤ 60 := Nat.lt_succ_iff.mp (hB.lt 36 (by decide) 0)
  have h30 : σ 30 0 ≤ 5000 := Nat.lt_succ_iff.mp (hB.lt 30 (by decide) 0)
  refine lv_aload_n C.hx C.hb dX4_goes_0 rfl (lv_at hl 0 rfl) ?_
  refine lv_iload_n C.hx C.hb dX4_goes_1 rfl (lv_at hl 1 rfl) ?_
  refine kb_if_eq (tgt := 9) C dX4_goes_2 (by decide) (fun c2 => ?_) (fun c2 => ?_)
  · refine kn_iconst (a := 1) C (by decide) dX4_goes_9 ?_
    refine k_put (S' := mW G h ad (s2 σ 37 0 1)) C clX4 hW 0 0 rfl rfl 37 (Nat.le_of_ble_eq_true rfl) rfl q2361 rfl (fun _ h => h) (Or.inl rfl) (fty := .int) (v := .int (nI 1)) (by decide +kernel) rfl rfl (Nat.le_of_ble_eq_true rfl) dX4_goes_10 (mput37 G h ad _ _) (fun H1 locs1 hW1 => ?_)
    clear hW
    refine lv_iload_n C.hx C.hb dX4_goes_13 rfl (lv_at hl 1 rfl) ?_
    exact k_zret C hW1 rfl (b01_nar _) ⟨rfl, by simp [c2]⟩ (Nat.le_refl _) (Nat.le_refl _) dX4_goes_14
  · refine kn_iconst (a := 0) C (by decide) dX4_goes_5 ?_
    refine lv_goto (tgt := 10) C.hx C.hb dX4_goes_6 (by decide) ?_
    refine k_put (S' := mW G h ad (s2 σ 37 0 0)) C clX4 hW 0 0 rfl rfl 37 (Nat.le_of_ble_eq_true rfl) rfl q2361 rfl (fun _ h => h) (Or.inl rfl) (fty := .int) (v := .int (nI 0)) (by decide +kernel) rfl rfl (Nat.le_of_ble_eq_true rfl) dX4_goes_10 (mput37 G h ad _ _) (fun H2 locs2 hW2 => ?_)
    clear hW
    refine lv_iload_n C.hx C.hb dX4_goes_13 rfl (lv_at hl 1 rfl) ?_
    exact k_zret C hW2 rfl (b01_nar _) ⟨rfl, by simp [c2]⟩ (Nat.le_refl _) (Nat.le_refl _) dX4_goes_14

def Q_ctX4_goesBoth (G : GT) (h : Nat) (ad : Nat → Nat) (σ : Sg) (P P2 : Prop) [Decidable P] [Decidable P2] : Option Value → List va_W → Prop := fun v S1 => v = some (.int (b01 (P ∧ P2))) ∧ S1 = mW G h ad (s2 σ 37 0 (if P then (if P2 then 0 else 2) else 1))
set_option maxHeartbeats 4000000 in
set_option maxRecDepth 100000 in
theorem ctX4_goesBoth (l : Launch) (G : GT) (h : Nat) (ad : Nat → Nat) (σ : Sg) (P P2 : Prop) [Decidable P] [Decidable P2] (hS : Sf σ) : Ct l G yX4_goesBoth cX4_goesBoth 3 (some .boolean) 0 0 0 0 [.ref h, .int (b01 P), .int (b01 P2)] (mW G h ad σ) noR (Q_ctX4_goesBoth G h ad σ P P2) := by
  refine Ct.of (by decide +kernel) (Nat.le_of_ble_eq_true rfl) ?_
  intro p e s m below meth c A ls C hW hRo hl
  have hl : lv_has ls 3 [(0, .ref h), (1, .int (b01 P)), (2, .int (b01 P2))] := hl
  have hB : Bd σ := hS.1
  have h32 : σ 32 0 ≤ 200 := Nat.lt_succ_iff.mp (hB.lt 32 (by decide) 0)
  have h34 : σ 34 0 ≤ 480 := Nat.lt_succ_iff.mp (hB.lt 34 (by decide) 0)
  have h35 : σ 35 0 ≤ 64 := Nat.lt_succ_iff.mp (hB.lt 35 (by decide) 0)
  have h36 : σ 36 0 ≤ 60 := Nat.lt_succ_iff.mp (hB.lt 36 (by decide) 0)
  have h30 : σ 30 0 ≤ 5000 := Nat.lt_succ_iff.mp (hB.lt 30 (by decide) 0)
  refine lv_aload_n C.hx C.hb dX4_goesBoth_0 rfl (lv_at hl 0 rfl) ?_
  refine lv_iload_n C.hx C.hb dX4_goesBoth_1 rfl (lv_at hl 1 rfl) ?_
  refine kb_if_ne (tgt := 9) C dX4_goesBoth_2 (by decide) (fun c2 => ?_) (fun c2 => ?_)
  · refine lv_iload_n C.hx C.hb dX4_goesBoth_9 rfl (lv_at hl 2 rfl) ?_
    refine kb_if_ne (tgt := 17) C dX4_goesBoth_10 (by decide) (fun c10 => ?_) (fun c10 => ?_)
    · refine kn_iconst (a := 0) C (by decide) dX4_goesBoth_17 ?_
      refine k_put (S' := mW G h ad (s2 σ 37 0 0)) C clX4 hW 0 0 rfl rfl 37 (Nat.le_of_ble_eq_true rfl) rfl q2361 rfl (fun _ h => h) (Or.inl rfl) (fty := .int) (v := .int (nI 0)) (by decide +kernel) rfl rfl (Nat.le_of_ble_eq_true rfl) dX4_goesBoth_18 (mput37 G h ad _ _) (fun H1 locs1 hW1 => ?_)
      clear hW
      refine lv_aload_n C.hx C.hb dX4_goesBoth_21 rfl (lv_at hl 0 rfl) ?_
      refine k_get (v := .int (nI 0)) C clX4 (hW1.get 0 0 rfl rfl) 37 (Nat.le_of_ble_eq_true rfl) rfl q2361 rfl rfl dX4_goesBoth_22 ?_
      refine kn_if_ne (tgt := 32) C (by decide) dX4_goesBoth_25 (by decide) (fun cq => absurd cq (by decide)) (fun cq => ?_)
      refine kn_iconst (a := 1) C (by decide) dX4_goesBoth_28 ?_
      refine lv_goto (tgt := 33) C.hx C.hb dX4_goesBoth_29 (by decide) ?_
      exact k_zret C hW1 rfl (by decide) ⟨by simp [b01, c2, c10]; rfl, by simp [c2, c10]⟩ (Nat.le_refl _) (Nat.le_refl _) dX4_goesBoth_33
    · refine kn_iconst (a := 2) C (by decide) dX4_goesBoth_13 ?_
      refine lv_goto (tgt := 18) C.hx C.hb dX4_goesBoth_14 (by decide) ?_
      refine k_put (S' := mW G h ad (s2 σ 37 0 2)) C clX4 hW 0 0 rfl rfl 37 (Nat.le_of_ble_eq_true rfl) rfl q2361 rfl (fun _ h => h) (Or.inl rfl) (fty := .int) (v := .int (nI 2)) (by decide +kernel) rfl rfl (Nat.le_of_ble_eq_true rfl) dX4_goesBoth_18 (mput37 G h ad _ _) (fun H2 locs2 hW2 => ?_)
      clear hW
      refine lv_aload_n C.hx C.hb dX4_goesBoth_21 rfl (lv_at hl 0 rfl) ?_
      refine k_get (v := .int (nI 2)) C clX4 (hW2.get 0 0 rfl rfl) 37 (Nat.le_of_ble_eq_true rfl) rfl q2361 rfl rfl dX4_goesBoth_22 ?_
      refine kn_if_ne (tgt := 32) C (by decide) dX4_goesBoth_25 (by decide) (fun cq => ?_) (fun cq => absurd cq (by decide))
      refine kn_iconst (a := 0) C (by decide) dX4_goesBoth_32 ?_
      exact k_zret C hW2 rfl (by decide) ⟨by simp [b01, c2, c10]; rfl, by simp [c2, c10]⟩ (Nat.le_refl _) (Nat.le_refl _) dX4_goesBoth_33
  · refine kn_iconst (a := 1) C (by decide) dX4_goesBoth_5 ?_
    refine lv_goto (tgt := 18) C.hx C.hb dX4_goesBoth_6 (by decide) ?_
    refine k_put (S' := mW G h ad (s2 σ 37 0 1)) C clX4 hW 0 0 rfl rfl 37 (Nat.le_of_ble_eq_true rfl) rfl q2361 rfl (fun _ h => h) (Or.inl rfl) (fty := .int) (v := .int (nI 1)) (by decide +kernel) rfl rfl (Nat.le_of_ble_eq_true rfl) dX4_goesBoth_18 (mput37 G h ad _ _) (fun H3 locs3 hW3 => ?_)
    clear hW
    refine lv_aload_n C.hx C.hb dX4_goesBoth_21 rfl (lv_at hl 0 rfl) ?_
    refine k_get (v := .int (nI 1)) C clX4 (hW3.get 0 0 rfl rfl) 37 (Nat.le_of_ble_eq_true rfl) rfl q2361 rfl rfl dX4_goesBoth_22 ?_
    refine kn_if_ne (tgt := 32) C (by decide) dX4_goesBoth_25 (by decide) (fun cq => ?_) (fun cq => absurd cq (by decide))
    refine kn_iconst (a := 0) C (by decide) dX4_goesBoth_32 ?_
    exact k_zret C hW3 rfl (by decide) ⟨by simp [b01, c2]; rfl, by simp [c2]⟩ (Nat.le_refl _) (Nat.le_refl _) dX4_goesBoth_33

def Q_ctX4_goesAll (G : GT) (h : Nat) (ad : Nat → Nat) (σ : Sg) (P P2 P3 : Prop) [Decidable P] [Decidable P2] [Decidable P3] : Option Value → List va_W → Prop := fun v S1 => v = some (.int (b01 (P ∧ P2 ∧ P3))) ∧ S1 = mW G h ad (s2 σ 37 0 (if P then (if P2 then (if P3 then 0 else 3) else 2) else 1))
set_option maxHeartbeats 4000000 in
set_option maxRecDepth 100000 in
theorem ctX4_goesAll (l : Launch) (G : GT) (h : Nat) (ad : Nat → Nat) (σ : Sg) (P P2 P3 : Prop) [Decidable P] [Decidable P2] [Decidable P3] (hS : Sf σ) : Ct l G yX4_goesAll cX4_goesAll 4 (some .boolean) 0 0 0 0 [.ref h, .int (b01 P), .int (b01 P2), .int (b01 P3)] (mW G h ad σ) noR (Q_ctX4_goesAll G h ad σ P P2 P3) := by
  refine Ct.of (by decide +kernel) (Nat.le_of_ble_eq_true rfl) ?_
  intro p e s m below meth c A ls C hW hRo hl
  have hl : lv_has ls 4 [(0, .ref h), (1, .int (b01 P)), (2, .int (b01 P2)), (3, .int (b01 P3))] := hl
  have hB : Bd σ := hS.1
  have h32 : σ 32 0 ≤ 200 := Nat.lt_succ_iff.mp (hB.lt 32 (by decide) 0)
  have h34 : σ 34 0 ≤ 480 := Nat.lt_succ_iff.mp (hB.lt 34 (by decide) 0)
  have h35 : σ 35 0 ≤ 64 := Nat.lt_succ_iff.mp (hB.lt 35 (by decide) 0)
  have h36 : σ 36 0 ≤ 60 := Nat.lt_succ_iff.mp (hB.lt 36 (by decide) 0)
  have h30 : σ 30 0 ≤ 5000 := Nat.lt_succ_iff.mp (hB.lt 30 (by decide) 0)
  refine lv_aload_n C.hx C.hb dX4_goesAll_0 rfl (lv_at hl 0 rfl) ?_
  refine lv_iload_n C.hx C.hb dX4_goesAll_1 rfl (lv_at hl 1 rfl) ?_
  refine kb_if_ne (tgt := 9) C dX4_goesAll_2 (by decide) (fun c2 => ?_) (fun c2 => ?_)
  · refine lv_iload_n C.hx C.hb dX4_goesAll_9 rfl (lv_at hl 2 rfl) ?_
    refine kb_if_ne (tgt := 17) C dX4_goesAll_10 (by decide) (fun c10 => ?_) (fun c10 => ?_)
    · refine lv_iload_n C.hx C.hb dX4_goesAll_17 rfl (lv_at hl 3 rfl) ?_
      refine kb_if_ne (tgt := 25) C dX4_goesAll_18 (by decide) (fun c18 => ?_) (fun c18 => ?_)
      · refine kn_iconst (a := 0) C (by decide) dX4_goesAll_25 ?_
        refine k_put (S' := mW G h ad (s2 σ 37 0 0)) C clX4 hW 0 0 rfl rfl 37 (Nat.le_of_ble_eq_true rfl) rfl q2361 rfl (fun _ h => h) (Or.inl rfl) (fty := .int) (v := .int (nI 0)) (by decide +kernel) rfl rfl (Nat.le_of_ble_eq_true rfl) dX4_goesAll_26 (mput37 G h ad _ _) (fun H1 locs1 hW1 => ?_)
        clear hW
        refine lv_aload_n C.hx C.hb dX4_goesAll_29 rfl (lv_at hl 0 rfl) ?_
        refine k_get (v := .int (nI 0)) C clX4 (hW1.get 0 0 rfl rfl) 37 (Nat.le_of_ble_eq_true rfl) rfl q2361 rfl rfl dX4_goesAll_30 ?_
        refine kn_if_ne (tgt := 40) C (by decide) dX4_goesAll_33 (by decide) (fun cq => absurd cq (by decide)) (fun cq => ?_)
        refine kn_iconst (a := 1) C (by decide) dX4_goesAll_36 ?_
        refine lv_goto (tgt := 41) C.hx C.hb dX4_goesAll_37 (by decide) ?_
        exact k_zret C hW1 rfl (by decide) ⟨by simp [b01, c2, c10, c18]; rfl, by simp [c2, c10, c18]⟩ (Nat.le_refl _) (Nat.le_refl _) dX4_goesAll_41
      · refine kn_iconst (a := 3) C (by decide) dX4_goesAll_21 ?_
        refine lv_goto (tgt := 26) C.hx C.hb dX4_goesAll_22 (by decide) ?_
        refine k_put (S' := mW G h ad (s2 σ 37 0 3)) C clX4 hW 0 0 rfl rfl 37 (Nat.le_of_ble_eq_true rfl) rfl q2361 rfl (fun _ h => h) (Or.inl rfl) (fty := .int) (v := .int (nI 3)) (by decide +kernel) rfl rfl (Nat.le_of_ble_eq_true rfl) dX4_goesAll_26 (mput37 G h ad _ _) (fun H2 locs2 hW2 => ?_)
        clear hW
        refine lv_aload_n C.hx C.hb dX4_goesAll_29 rfl (lv_at hl 0 rfl) ?_
        refine k_get (v := .int (nI 3)) C clX4 (hW2.get 0 0 rfl rfl) 37 (Nat.le_of_ble_eq_true rfl) rfl q2361 rfl rfl dX4_goesAll_30 ?_
        refine kn_if_ne (tgt := 40) C (by decide) dX4_goesAll_33 (by decide) (fun cq => ?_) (fun cq => absurd cq (by decide))
        refine kn_iconst (a := 0) C (by decide) dX4_goesAll_40 ?_
        exact k_zret C hW2 rfl (by decide) ⟨by simp [b01, c2, c10, c18]; rfl, by simp [c2, c10, c18]⟩ (Nat.le_refl _) (Nat.le_refl _) dX4_goesAll_41
    · refine kn_iconst (a := 2) C (by decide) dX4_goesAll_13 ?_
      refine lv_goto (tgt := 26) C.hx C.hb dX4_goesAll_14 (by decide) ?_
      refine k_put (S' := mW G h ad (s2 σ 37 0 2)) C clX4 hW 0 0 rfl rfl 37 (Nat.le_of_ble_eq_true rfl) rfl q2361 rfl (fun _ h => h) (Or.inl rfl) (fty := .int) (v := .int (nI 2)) (by decide +kernel) rfl rfl (Nat.le_of_ble_eq_true rfl) dX4_goesAll_26 (mput37 G h ad _ _) (fun H3 locs3 hW3 => ?_)
      clear hW
      refine lv_aload_n C.hx C.hb dX4_goesAll_29 rfl (lv_at hl 0 rfl) ?_
      refine k_get (v := .int (nI 2)) C clX4 (hW3.get 0 0 rfl rfl) 37 (Nat.le_of_ble_eq_true rfl) rfl q2361 rfl rfl dX4_goesAll_30 ?_
      refine kn_if_ne (tgt := 40) C (by decide) dX4_goesAll_33 (by decide) (fun cq => ?_) (fun cq => absurd cq (by decide))
      refine kn_iconst (a := 0) C (by decide) dX4_goesAll_40 ?_
      exact k_zret C hW3 rfl (by decide) ⟨by simp [b01, c2, c10]; rfl, by simp [c2, c10]⟩ (Nat.le_refl _) (Nat.le_refl _) dX4_goesAll_41
  · refine kn_iconst (a := 1) C (by decide) dX4_goesAll_5 ?_
    refine lv_goto (tgt := 26) C.hx C.hb dX4_goesAll_6 (by decide) ?_
    refine k_put (S' := mW G h ad (s2 σ 37 0 1)) C clX4 hW 0 0 rfl rfl 37 (Nat.le_of_ble_eq_true rfl) rfl q2361 rfl (fun _ h => h) (Or.inl rfl) (fty := .int) (v := .int (nI 1)) (by decide +kernel) rfl rfl (Nat.le_of_ble_eq_true rfl) dX4_goesAll_26 (mput37 G h ad _ _) (fun H4 locs4 hW4 => ?_)
    clear hW
    refine lv_aload_n C.hx C.hb dX4_goesAll_29 rfl (lv_at hl 0 rfl) ?_
    refine k_get (v := .int (nI 1)) C clX4 (hW4.get 0 0 rfl rfl) 37 (Nat.le_of_ble_eq_true rfl) rfl q2361 rfl rfl dX4_goesAll_30 ?_
    refine kn_if_ne (tgt := 40) C (by decide) dX4_goesAll_33 (by decide) (fun cq => ?_) (fun cq => absurd cq (by decide))
    refine kn_iconst (a := 0) C (by decide) dX4_goesAll_40 ?_
    exact k_zret C hW4 rfl (by decide) ⟨by simp [b01, c2]; rfl, by simp [c2]⟩ (Nat.le_refl _) (Nat.le_refl _) dX4_goesAll_41

def Q_ctX4_lying (G : GT) (h : Nat) (ad : Nat → Nat) (σ : Sg) (s1 : Nat) : Option Value → List va_W → Prop := fun v S1 => v = some (.int (nI (lyingN σ s1 (σ 32 0)))) ∧ S1 = mW G h ad σ
set_option maxHeartbeats 4000000 in
set_option maxRecDepth 100000 in
theorem ctX4_lying (l : Launch) (G : GT) (h : Nat) (ad : Nat → Nat) (σ : Sg) (s1 : Nat) (hS : Sf σ) (hs1 : s1 < 12) : Ct l G yX4_lying cX4_lying 4 (some .int) 0 0 0 0 [.ref h, .int (nI s1)] (mW G h ad σ) noR (Q_ctX4_lying G h ad σ s1) := by
  refine Ct.of (by decide +kernel) (Nat.le_of_ble_eq_true rfl) ?_
  intro p e s m below meth c A ls C hW hRo hl
  have hl : lv_has ls 4 [(0, .ref h), (1, .int (nI s1))] := hl
  have hB : Bd σ := hS.1
  have h32 : σ 32 0 ≤ 200 := Nat.lt_succ_iff.mp (hB.lt 32 (by decide) 0)
  have h34 : σ 34 0 ≤ 480 := Nat.lt_succ_iff.mp (hB.lt 34 (by decide) 0)
  have h35 : σ 35 0 ≤ 64 := Nat.lt_succ_iff.mp (hB.lt 35 (by decide) 0)
  have h36 : σ 36 0 ≤ 60 := Nat.lt_succ_iff.mp (hB.lt 36 (by decide) 0)
  have h30 : σ 30 0 ≤ 5000 := Nat.lt_succ_iff.mp (hB.lt 30 (by decide) 0)
  refine kn_iconst (a := 0) C (by decide) dX4_lying_0 ?_
  refine lv_istore_n (lv' := [(2, .int (nI 0)), (0, .ref h), (1, .int (nI s1))]) C.hx C.hb dX4_lying_1 rfl hl (Nat.le_of_ble_eq_true rfl) rfl (fun ls1 hl1 => ?_)
  clear hl
  refine kn_iconst (a := 0) C (by decide) dX4_lying_2 ?_
  refine lv_istore_n (lv' := [(3, .int (nI 0)), (2, .int (nI 0)), (0, .ref h), (1, .int (nI s1))]) C.hx C.hb dX4_lying_3 rfl hl1 (Nat.le_of_ble_eq_true rfl) rfl (fun ls2 hl2 => ?_)
  clear hl1
  have L4 : ∀ (k3 : Nat) (b : Nat), (b ≤ σ 32 0) → σ 32 0 - b < k3 → ∀ (H3 : Heap) (locs3 : List Loc) (ls3 : Array Slot), Ws G A s (mW G h ad σ) H3 locs3 → lv_has ls3 4 [(2, .int (nI (lyingN σ s1 b))), (3, .int (nI b)), (0, .ref h), (1, .int (nI s1))] → W p l e ({ frames := 0, cells := 0, slots := 0, locals := 0 } : Room) s m ([.ref h, .int (nI s1)] : List Value).toArray below meth c H3 locs3 0 0 (MQ below (cQ G A (Q_ctX4_lying G h ad σ s1)) ([.ref h, .int (nI s1)] : List Value).toArray s 0 0 A) (F0 m 4 ls3 []) := by
    intro k3
    induction k3 with
    | zero => intro b hL4_0 hm3; exact absurd hm3 (Nat.not_lt_zero _)
    | succ k3 ih3 =>
      intro b hL4_0 hm3 H3 locs3 ls3 hW3 hl3
      refine lv_iload_n C.hx C.hb dX4_lying_4 rfl (lv_at hl3 1 rfl) ?_
      refine lv_aload_n C.hx C.hb dX4_lying_5 rfl (lv_at hl3 2 rfl) ?_
      refine k_get (v := .int (nI (σ 32 0))) C clX4 (hW3.get 0 0 rfl rfl) 32 (Nat.le_of_ble_eq_true rfl) rfl q2356 rfl rfl dX4_lying_6 ?_
      refine kn_icmp_ge (tgt := 46) C (by omega) (Nat.lt_of_lt_of_le (hB.lt 32 (by decide) 0) (by decide)) dX4_lying_9 (by decide) (fun c9 => ?_) (fun c9 => ?_)
      · refine lv_iload_n C.hx C.hb dX4_lying_46 rfl (lv_at hl3 0 rfl) ?_
        exact k_iret C hW3 rfl ⟨by rw [show b = σ 32 0 by omega], rfl⟩ (Nat.le_refl _) (Nat.le_refl _) dX4_lying_47
      · refine lv_iload_n C.hx C.hb dX4_lying_12 rfl (lv_at hl3 0 rfl) ?_
        refine lv_aload_n C.hx C.hb dX4_lying_13 rfl (lv_at hl3 2 rfl) ?_
        refine k_get (v := .ref (ad 7)) C clX4 (hW3.get 0 0 rfl rfl) 7 (Nat.le_of_ble_eq_true rfl) rfl q2331 rfl rfl dX4_lying_14 ?_
        refine lv_iload_n C.hx C.hb dX4_lying_17 rfl (lv_at hl3 1 rfl) ?_
        refine k_iald C (f := (fun i => nI (σ 7 i))) rfl (hW3.get 8 0 rfl rfl) (by omega) (by decide) dX4_lying_18 ?_
        refine kn_iconst (a := 2) C (by decide) dX4_lying_19 ?_
        refine kn_icmp_ne (tgt := 37) C (Nat.lt_of_lt_of_le (hB.lt 7 (by decide) b) (by decide)) (by decide) dX4_lying_20 (by decide) (fun c20 => ?_) (fun c20 => ?_)
        · refine kn_iconst (a := 0) C (by decide) dX4_lying_37 ?_
          refine kn_iadd C  dX4_lying_38 ?_
          refine lv_istore_n (lv' := [(2, .int (nI ((lyingN σ s1 b) + 0))), (3, .int (nI b)), (0, .ref h), (1, .int (nI s1))]) C.hx C.hb dX4_lying_39 rfl hl3 (Nat.le_of_ble_eq_true rfl) rfl (fun ls4 hl4 => ?_)
          clear hl3
          refine kn_iinc (lv' := [(3, .int (nI (b + 1))), (2, .int (nI ((lyingN σ s1 b) + 0))), (0, .ref h), (1, .int (nI s1))]) (k := 1) C dX4_lying_40 hl4 rfl (Nat.le_of_ble_eq_true rfl) rfl (fun ls5 hl5 => ?_)
          clear hl4
          refine lv_goto (tgt := 4) C.hx C.hb dX4_lying_43 (by decide) ?_
          have e6 : (lyingN σ s1 (b + 1)) = ((lyingN σ s1 b) + 0) := by simp [lyingN, lp, c9, c20]
          exact ih3 (b + 1) (by omega) (by omega) _ _ _ hW3 (by rw [e6]; exact (lv_sub hl5 [1, 0, 2, 3] rfl))
        · refine lv_aload_n C.hx C.hb dX4_lying_23 rfl (lv_at hl3 2 rfl) ?_
          refine k_get (v := .ref (ad 8)) C clX4 (hW3.get 0 0 rfl rfl) 8 (Nat.le_of_ble_eq_true rfl) rfl q2332 rfl rfl dX4_lying_24 ?_
          refine lv_iload_n C.hx C.hb dX4_lying_27 rfl (lv_at hl3 1 rfl) ?_
          refine k_iald C (f := (fun i => nI (σ 8 i))) rfl (hW3.get 9 0 rfl rfl) (by omega) (by decide) dX4_lying_28 ?_
          refine lv_iload_n C.hx C.hb dX4_lying_29 rfl (lv_at hl3 3 rfl) ?_
          refine kw_icmp_ne (tgt := 37) C (Nat.lt_of_lt_of_le (hB.lt 8 (by decide) b) (by decide)) (by omega) dX4_lying_30 (by decide) (fun c30 => ?_) (fun c30 => ?_)
          · refine kn_iconst (a := 0) C (by decide) dX4_lying_37 ?_
            refine kn_iadd C  dX4_lying_38 ?_
            refine lv_istore_n (lv' := [(2, .int (nI ((lyingN σ s1 b) + 0))), (3, .int (nI b)), (0, .ref h), (1, .int (nI s1))]) C.hx C.hb dX4_lying_39 rfl hl3 (Nat.le_of_ble_eq_true rfl) rfl (fun ls7 hl7 => ?_)
            clear hl3
            refine kn_iinc (lv' := [(3, .int (nI (b + 1))), (2, .int (nI ((lyingN σ s1 b) + 0))), (0, .ref h), (1, .int (nI s1))]) (k := 1) C dX4_lying_40 hl7 rfl (Nat.le_of_ble_eq_true rfl) rfl (fun ls8 hl8 => ?_)
            clear hl7
            refine lv_goto (tgt := 4) C.hx C.hb dX4_lying_43 (by decide) ?_
            have e9 : (lyingN σ s1 (b + 1)) = ((lyingN σ s1 b) + 0) := by simp [lyingN, lp, c9, c20, c30]
            exact ih3 (b + 1) (by omega) (by omega) _ _ _ hW3 (by rw [e9]; exact (lv_sub hl8 [1, 0, 2, 3] rfl))
          · refine kn_iconst (a := 1) C (by decide) dX4_lying_33 ?_
            refine lv_goto (tgt := 38) C.hx C.hb dX4_lying_34 (by decide) ?_
            refine kn_iadd C  dX4_lying_38 ?_
            refine lv_istore_n (lv' := [(2, .int (nI ((lyingN σ s1 b) + 1))), (3, .int (nI b)), (0, .ref h), (1, .int (nI s1))]) C.hx C.hb dX4_lying_39 rfl hl3 (Nat.le_of_ble_eq_true rfl) rfl (fun ls10 hl10 => ?_)
            clear hl3
            refine kn_iinc (lv' := [(3, .int (nI (b + 1))), (2, .int (nI ((lyingN σ s1 b) + 1))), (0, .ref h), (1, .int (nI s1))]) (k := 1) C dX4_lying_40 hl10 rfl (Nat.le_of_ble_eq_true rfl) rfl (fun ls11 hl11 => ?_)
            clear hl10
            refine lv_goto (tgt := 4) C.hx C.hb dX4_lying_43 (by decide) ?_
            have e12 : (lyingN σ s1 (b + 1)) = ((lyingN σ s1 b) + 1) := by simp [lyingN, lp, c9, c20, c30]
            exact ih3 (b + 1) (by omega) (by omega) _ _ _ hW3 (by rw [e12]; exact (lv_sub hl11 [1, 0, 2, 3] rfl))
  have e13 : (lyingN σ s1 0) = 0 := by simp [lyingN, lp]
  exact L4 (σ 32 0 - 0 + 1) 0 (Nat.zero_le _) (Nat.lt_succ_self _) _ _ _ hW (by rw [e13]; exact (lv_sub hl2 [1, 0, 2, 3] rfl))

def Q_ctX4_count (G : GT) (h : Nat) (ad : Nat → Nat) (σ : Sg) (s1 : Nat) : Option Value → List va_W → Prop := fun v S1 => v = some (.int (nI (countN σ s1 (σ 32 0)))) ∧ S1 = mW G h ad σ
set_option maxHeartbeats 4000000 in
set_option maxRecDepth 100000 in
theorem ctX4_count (l : Launch) (G : GT) (h : Nat) (ad : Nat → Nat) (σ : Sg) (s1 : Nat) (hS : Sf σ) (hs1 : s1 < 5) : Ct l G yX4_count cX4_count 4 (some .int) 0 0 0 0 [.ref h, .int (nI s1)] (mW G h ad σ) noR (Q_ctX4_count G h ad σ s1) := by
  refine Ct.of (by decide +kernel) (Nat.le_of_ble_eq_true rfl) ?_
  intro p e s m below meth c A ls C hW hRo hl
  have hl : lv_has ls 4 [(0, .ref h), (1, .int (nI s1))] := hl
  have hB : Bd σ := hS.1
  have h32 : σ 32 0 ≤ 200 := Nat.lt_succ_iff.mp (hB.lt 32 (by decide) 0)
  have h34 : σ 34 0 ≤ 480 := Nat.lt_succ_iff.mp (hB.lt 34 (by decide) 0)
  have h35 : σ 35 0 ≤ 64 := Nat.lt_succ_iff.mp (hB.lt 35 (by decide) 0)
  have h36 : σ 36 0 ≤ 60 := Nat.lt_succ_iff.mp (hB.lt 36 (by decide) 0)
  have h30 : σ 30 0 ≤ 5000 := Nat.lt_succ_iff.mp (hB.lt 30 (by decide) 0)
  refine kn_iconst (a := 0) C (by decide) dX4_count_0 ?_
  refine lv_istore_n (lv' := [(2, .int (nI 0)), (0, .ref h), (1, .int (nI s1))]) C.hx C.hb dX4_count_1 rfl hl (Nat.le_of_ble_eq_true rfl) rfl (fun ls1 hl1 => ?_)
  clear hl
  refine kn_iconst (a := 0) C (by decide) dX4_count_2 ?_
  refine lv_istore_n (lv' := [(3, .int (nI 0)), (2, .int (nI 0)), (0, .ref h), (1, .int (nI s1))]) C.hx C.hb dX4_count_3 rfl hl1 (Nat.le_of_ble_eq_true rfl) rfl (fun ls2 hl2 => ?_)
  clear hl1
  have L4 : ∀ (k3 : Nat) (b : Nat), (b ≤ σ 32 0) → σ 32 0 - b < k3 → ∀ (H3 : Heap) (locs3 : List Loc) (ls3 : Array Slot), Ws G A s (mW G h ad σ) H3 locs3 → lv_has ls3 4 [(2, .int (nI (countN σ s1 b))), (3, .int (nI b)), (0, .ref h), (1, .int (nI s1))] → W p l e ({ frames := 0, cells := 0, slots := 0, locals := 0 } : Room) s m ([.ref h, .int (nI s1)] : List Value).toArray below meth c H3 locs3 0 0 (MQ below (cQ G A (Q_ctX4_count G h ad σ s1)) ([.ref h, .int (nI s1)] : List Value).toArray s 0 0 A) (F0 m 4 ls3 []) := by
    intro k3
    induction k3 with
    | zero => intro b hL4_0 hm3; exact absurd hm3 (Nat.not_lt_zero _)
    | succ k3 ih3 =>
      intro b hL4_0 hm3 H3 locs3 ls3 hW3 hl3
      refine lv_iload_n C.hx C.hb dX4_count_4 rfl (lv_at hl3 1 rfl) ?_
      refine lv_aload_n C.hx C.hb dX4_count_5 rfl (lv_at hl3 2 rfl) ?_
      refine k_get (v := .int (nI (σ 32 0))) C clX4 (hW3.get 0 0 rfl rfl) 32 (Nat.le_of_ble_eq_true rfl) rfl q2356 rfl rfl dX4_count_6 ?_
      refine kn_icmp_ge (tgt := 36) C (by omega) (Nat.lt_of_lt_of_le (hB.lt 32 (by decide) 0) (by decide)) dX4_count_9 (by decide) (fun c9 => ?_) (fun c9 => ?_)
      · refine lv_iload_n C.hx C.hb dX4_count_36 rfl (lv_at hl3 0 rfl) ?_
        exact k_iret C hW3 rfl ⟨by rw [show b = σ 32 0 by omega], rfl⟩ (Nat.le_refl _) (Nat.le_refl _) dX4_count_37
      · refine lv_iload_n C.hx C.hb dX4_count_12 rfl (lv_at hl3 0 rfl) ?_
        refine lv_aload_n C.hx C.hb dX4_count_13 rfl (lv_at hl3 2 rfl) ?_
        refine k_get (v := .ref (ad 7)) C clX4 (hW3.get 0 0 rfl rfl) 7 (Nat.le_of_ble_eq_true rfl) rfl q2331 rfl rfl dX4_count_14 ?_
        refine lv_iload_n C.hx C.hb dX4_count_17 rfl (lv_at hl3 1 rfl) ?_
        refine k_iald C (f := (fun i => nI (σ 7 i))) rfl (hW3.get 8 0 rfl rfl) (by omega) (by decide) dX4_count_18 ?_
        refine lv_iload_n C.hx C.hb dX4_count_19 rfl (lv_at hl3 3 rfl) ?_
        refine kn_icmp_ne (tgt := 27) C (Nat.lt_of_lt_of_le (hB.lt 7 (by decide) b) (by decide)) (by omega) dX4_count_20 (by decide) (fun c20 => ?_) (fun c20 => ?_)
        · refine kn_iconst (a := 0) C (by decide) dX4_count_27 ?_
          refine kn_iadd C  dX4_count_28 ?_
          refine lv_istore_n (lv' := [(2, .int (nI ((countN σ s1 b) + 0))), (3, .int (nI b)), (0, .ref h), (1, .int (nI s1))]) C.hx C.hb dX4_count_29 rfl hl3 (Nat.le_of_ble_eq_true rfl) rfl (fun ls4 hl4 => ?_)
          clear hl3
          refine kn_iinc (lv' := [(3, .int (nI (b + 1))), (2, .int (nI ((countN σ s1 b) + 0))), (0, .ref h), (1, .int (nI s1))]) (k := 1) C dX4_count_30 hl4 rfl (Nat.le_of_ble_eq_true rfl) rfl (fun ls5 hl5 => ?_)
          clear hl4
          refine lv_goto (tgt := 4) C.hx C.hb dX4_count_33 (by decide) ?_
          have e6 : (countN σ s1 (b + 1)) = ((countN σ s1 b) + 0) := by simp [countN, lp, c9, c20]
          exact ih3 (b + 1) (by omega) (by omega) _ _ _ hW3 (by rw [e6]; exact (lv_sub hl5 [1, 0, 2, 3] rfl))
        · refine kn_iconst (a := 1) C (by decide) dX4_count_23 ?_
          refine lv_goto (tgt := 28) C.hx C.hb dX4_count_24 (by decide) ?_
          refine kn_iadd C  dX4_count_28 ?_
          refine lv_istore_n (lv' := [(2, .int (nI ((countN σ s1 b) + 1))), (3, .int (nI b)), (0, .ref h), (1, .int (nI s1))]) C.hx C.hb dX4_count_29 rfl hl3 (Nat.le_of_ble_eq_true rfl) rfl (fun ls7 hl7 => ?_)
          clear hl3
          refine kn_iinc (lv' := [(3, .int (nI (b + 1))), (2, .int (nI ((countN σ s1 b) + 1))), (0, .ref h), (1, .int (nI s1))]) (k := 1) C dX4_count_30 hl7 rfl (Nat.le_of_ble_eq_true rfl) rfl (fun ls8 hl8 => ?_)
          clear hl7
          refine lv_goto (tgt := 4) C.hx C.hb dX4_count_33 (by decide) ?_
          have e9 : (countN σ s1 (b + 1)) = ((countN σ s1 b) + 1) := by simp [countN, lp, c9, c20]
          exact ih3 (b + 1) (by omega) (by omega) _ _ _ hW3 (by rw [e9]; exact (lv_sub hl8 [1, 0, 2, 3] rfl))
  have e10 : (countN σ s1 0) = 0 := by simp [countN, lp]
  exact L4 (σ 32 0 - 0 + 1) 0 (Nat.zero_le _) (Nat.lt_succ_self _) _ _ _ hW (by rw [e10]; exact (lv_sub hl2 [1, 0, 2, 3] rfl))

def Q_ctX4_depthOf (G : GT) (h : Nat) (ad : Nat → Nat) (σ : Sg) (s1 : Nat) : Option Value → List va_W → Prop := fun v S1 => v = some (.int (nI (depthF σ s1))) ∧ S1 = mW G h ad σ
set_option maxHeartbeats 4000000 in
set_option maxRecDepth 100000 in
theorem ctX4_depthOf (l : Launch) (G : GT) (h : Nat) (ad : Nat → Nat) (σ : Sg) (s1 : Nat) (hS : Sf σ) (hs1 : s1 < 12) (hd : dsumN σ s1 (σ 32 0) < 2 ^ 63) : Ct l G yX4_depthOf cX4_depthOf 5 (some .int) 1 23 0 0 [.ref h, .int (nI s1)] (mW G h ad σ) noR (Q_ctX4_depthOf G h ad σ s1) := by
  refine Ct.of (by decide +kernel) (Nat.le_of_ble_eq_true rfl) ?_
  intro p e s m below meth c A ls C hW hRo hl
  have hl : lv_has ls 5 [(0, .ref h), (1, .int (nI s1))] := hl
  have hB : Bd σ := hS.1
  have h32 : σ 32 0 ≤ 200 := Nat.lt_succ_iff.mp (hB.lt 32 (by decide) 0)
  have h34 : σ 34 0 ≤ 480 := Nat.lt_succ_iff.mp (hB.lt 34 (by decide) 0)
  have h35 : σ 35 0 ≤ 64 := Nat.lt_succ_iff.mp (hB.lt 35 (by decide) 0)
  have h36 : σ 36 0 ≤ 60 := Nat.lt_succ_iff.mp (hB.lt 36 (by decide) 0)
  have h30 : σ 30 0 ≤ 5000 := Nat.lt_succ_iff.mp (hB.lt 30 (by decide) 0)
  refine kn_lconst (a := 0) C rfl dX4_depthOf_0 ?_
  refine lv_lstore_n (lv' := [(2, .long (lN 0)), (0, .ref h), (1, .int (nI s1))]) C.hx C.hb dX4_depthOf_1 rfl hl (Nat.le_of_ble_eq_true rfl) rfl (fun ls1 hl1 => ?_)
  clear hl
  refine kn_iconst (a := 0) C (by decide) dX4_depthOf_2 ?_
  refine lv_istore (lv' := [(4, .int (nI 0)), (2, .long (lN 0)), (0, .ref h), (1, .int (nI s1))]) C.hx C.hb dX4_depthOf_3 hl1 (Nat.le_of_ble_eq_true rfl) rfl (fun ls2 hl2 => ?_)
  clear hl1
  have L5 : ∀ (k3 : Nat) (b : Nat), (b ≤ σ 32 0) → σ 32 0 - b < k3 → ∀ (H3 : Heap) (locs3 : List Loc) (ls3 : Array Slot), Ws G A s (mW G h ad σ) H3 locs3 → lv_has ls3 5 [(2, .long (lN (dsumN σ s1 b))), (4, .int (nI b)), (0, .ref h), (1, .int (nI s1))] → W p l e ({ frames := 1, cells := 0, slots := 0, locals := 23 } : Room) s m ([.ref h, .int (nI s1)] : List Value).toArray below meth c H3 locs3 0 0 (MQ below (cQ G A (Q_ctX4_depthOf G h ad σ s1)) ([.ref h, .int (nI s1)] : List Value).toArray s 0 0 A) (F0 m 5 ls3 []) := by
    intro k3
    induction k3 with
    | zero => intro b hL5_0 hm3; exact absurd hm3 (Nat.not_lt_zero _)
    | succ k3 ih3 =>
      intro b hL5_0 hm3 H3 locs3 ls3 hW3 hl3
      refine lv_iload C.hx C.hb dX4_depthOf_5 (lv_at hl3 1 rfl) ?_
      refine lv_aload_n C.hx C.hb dX4_depthOf_7 rfl (lv_at hl3 2 rfl) ?_
      refine k_get (v := .int (nI (σ 32 0))) C clX4 (hW3.get 0 0 rfl rfl) 32 (Nat.le_of_ble_eq_true rfl) rfl q2356 rfl rfl dX4_depthOf_8 ?_
      refine kn_icmp_ge (tgt := 56) C (by omega) (Nat.lt_of_lt_of_le (hB.lt 32 (by decide) 0) (by decide)) dX4_depthOf_11 (by decide) (fun c11 => ?_) (fun c11 => ?_)
      · obtain rfl : b = σ 32 0 := by omega
        have hly : lyingN σ s1 (σ 32 0) ≤ 200 := Nat.le_trans (lying_le _ _ _) h32
        refine lv_aload_n C.hx C.hb dX4_depthOf_56 rfl (lv_at hl3 2 rfl) ?_
        refine lv_iload_n C.hx C.hb dX4_depthOf_57 rfl (lv_at hl3 3 rfl) ?_
        refine k_callV (Sc := mW G h ad σ) (Sr := []) (As := [.int (nI s1)]) (rest := []) C (ctX4_lying l G h ad σ s1 hS hs1) hW3 clX4 (hW3.get 0 0 rfl rfl) q2607 q2609 qs66 q85 q2610 rfl rfl ⟨by decide, by decide, Eq.trans (b := some 1) (by decide +kernel) rfl⟩ (Nat.le_of_ble_eq_true rfl) (Nat.le_of_ble_eq_true rfl) (Nat.le_refl _) (Nat.le_refl _) hl3.1 rfl (Nat.le_of_ble_eq_true rfl) dX4_depthOf_58 (List.Perm.refl _) (fun _ h => h.elim) (fun v H4 locs4 S1 hQ hz4 hW4 => ?_)
        obtain ⟨rfl, rfl⟩ := hQ
        have hW4 : Ws G A s (mW G h ad σ) H4 locs4 := hW4
        clear hW3
        refine W.eq (g2 := F0 m 61 ls3 [.int (nI (lyingN σ s1 (σ 32 0)))]) rfl ?_
        refine lv_istore (lv' := [(4, .int (nI (lyingN σ s1 (σ 32 0)))), (2, .long (lN (dsumN σ s1 (σ 32 0)))), (0, .ref h), (1, .int (nI s1))]) C.hx C.hb dX4_depthOf_61 hl3 (Nat.le_of_ble_eq_true rfl) rfl (fun ls5 hl5 => ?_)
        clear hl3
        refine lv_iload C.hx C.hb dX4_depthOf_63 (lv_at hl5 0 rfl) ?_
        refine kn_if_ne (tgt := 74) C (by have : σ 32 0 < 201 := hB.lt 32 (by decide) 0; omega) dX4_depthOf_65 (by decide) (fun c65 => ?_) (fun c65 => ?_)
        · refine lv_lload_n C.hx C.hb dX4_depthOf_74 rfl (lv_at hl5 1 rfl) ?_
          refine lv_iload C.hx C.hb dX4_depthOf_75 (lv_at hl5 0 rfl) ?_
          refine kn_i2l C (by have : σ 32 0 < 201 := hB.lt 32 (by decide) 0; omega) dX4_depthOf_77 ?_
          refine kn_ldiv C (by have : σ 32 0 < 201 := hB.lt 32 (by decide) 0; omega) (by have : σ 32 0 < 201 := hB.lt 32 (by decide) 0; omega) (by have : σ 32 0 < 201 := hB.lt 32 (by decide) 0; omega) dX4_depthOf_78 ?_
          refine kn_l2i C dX4_depthOf_79 ?_
          exact k_iret C hW4 rfl ⟨by simp [depthF, c65], rfl⟩ (Nat.le_refl _) (Nat.le_refl _) dX4_depthOf_80
        · refine kn_sipush (a := 999) C (by decide) dX4_depthOf_68 ?_
          refine lv_goto (tgt := 80) C.hx C.hb dX4_depthOf_71 (by decide) ?_
          exact k_iret C hW4 rfl ⟨by simp [depthF, c65], rfl⟩ (Nat.le_refl _) (Nat.le_refl _) dX4_depthOf_80
      · refine lv_lload_n C.hx C.hb dX4_depthOf_14 rfl (lv_at hl3 0 rfl) ?_
        refine lv_aload_n C.hx C.hb dX4_depthOf_15 rfl (lv_at hl3 2 rfl) ?_
        refine k_get (v := .ref (ad 7)) C clX4 (hW3.get 0 0 rfl rfl) 7 (Nat.le_of_ble_eq_true rfl) rfl q2331 rfl rfl dX4_depthOf_16 ?_
        refine lv_iload C.hx C.hb dX4_depthOf_19 (lv_at hl3 1 rfl) ?_
        refine k_iald C (f := (fun i => nI (σ 7 i))) rfl (hW3.get 8 0 rfl rfl) (by omega) (by decide) dX4_depthOf_21 ?_
        refine kn_iconst (a := 2) C (by decide) dX4_depthOf_22 ?_
        refine kn_icmp_ne (tgt := 47) C (Nat.lt_of_lt_of_le (hB.lt 7 (by decide) b) (by decide)) (by decide) dX4_depthOf_23 (by decide) (fun c23 => ?_) (fun c23 => ?_)
        · refine kn_lconst (a := 0) C rfl dX4_depthOf_47 ?_
          refine kn_ladd C  dX4_depthOf_48 ?_
          refine lv_lstore_n (lv' := [(2, .long (lN ((dsumN σ s1 b) + 0))), (4, .int (nI b)), (0, .ref h), (1, .int (nI s1))]) C.hx C.hb dX4_depthOf_49 rfl hl3 (Nat.le_of_ble_eq_true rfl) rfl (fun ls6 hl6 => ?_)
          clear hl3
          refine kn_iinc (lv' := [(4, .int (nI (b + 1))), (2, .long (lN ((dsumN σ s1 b) + 0))), (0, .ref h), (1, .int (nI s1))]) (k := 1) C dX4_depthOf_50 hl6 rfl (Nat.le_of_ble_eq_true rfl) rfl (fun ls7 hl7 => ?_)
          clear hl6
          refine lv_goto (tgt := 5) C.hx C.hb dX4_depthOf_53 (by decide) ?_
          have e8 : (dsumN σ s1 (b + 1)) = ((dsumN σ s1 b) + 0) := by simp [dsumN, lp, c11, c23]
          exact ih3 (b + 1) (by omega) (by omega) _ _ _ hW3 (by rw [e8]; exact (lv_sub hl7 [1, 0, 2, 3] rfl))
        · refine lv_aload_n C.hx C.hb dX4_depthOf_26 rfl (lv_at hl3 2 rfl) ?_
          refine k_get (v := .ref (ad 8)) C clX4 (hW3.get 0 0 rfl rfl) 8 (Nat.le_of_ble_eq_true rfl) rfl q2332 rfl rfl dX4_depthOf_27 ?_
          refine lv_iload C.hx C.hb dX4_depthOf_30 (lv_at hl3 1 rfl) ?_
          refine k_iald C (f := (fun i => nI (σ 8 i))) rfl (hW3.get 9 0 rfl rfl) (by omega) (by decide) dX4_depthOf_32 ?_
          refine lv_iload_n C.hx C.hb dX4_depthOf_33 rfl (lv_at hl3 3 rfl) ?_
          refine kw_icmp_ne (tgt := 47) C (Nat.lt_of_lt_of_le (hB.lt 8 (by decide) b) (by decide)) (by omega) dX4_depthOf_34 (by decide) (fun c34 => ?_) (fun c34 => ?_)
          · refine kn_lconst (a := 0) C rfl dX4_depthOf_47 ?_
            refine kn_ladd C  dX4_depthOf_48 ?_
            refine lv_lstore_n (lv' := [(2, .long (lN ((dsumN σ s1 b) + 0))), (4, .int (nI b)), (0, .ref h), (1, .int (nI s1))]) C.hx C.hb dX4_depthOf_49 rfl hl3 (Nat.le_of_ble_eq_true rfl) rfl (fun ls9 hl9 => ?_)
            clear hl3
            refine kn_iinc (lv' := [(4, .int (nI (b + 1))), (2, .long (lN ((dsumN σ s1 b) + 0))), (0, .ref h), (1, .int (nI s1))]) (k := 1) C dX4_depthOf_50 hl9 rfl (Nat.le_of_ble_eq_true rfl) rfl (fun ls10 hl10 => ?_)
            clear hl9
            refine lv_goto (tgt := 5) C.hx C.hb dX4_depthOf_53 (by decide) ?_
            have e11 : (dsumN σ s1 (b + 1)) = ((dsumN σ s1 b) + 0) := by simp [dsumN, lp, c11, c23, c34]
            exact ih3 (b + 1) (by omega) (by omega) _ _ _ hW3 (by rw [e11]; exact (lv_sub hl10 [1, 0, 2, 3] rfl))
          · refine lv_aload_n C.hx C.hb dX4_depthOf_37 rfl (lv_at hl3 2 rfl) ?_
            refine k_get (v := .ref (ad 11)) C clX4 (hW3.get 0 0 rfl rfl) 11 (Nat.le_of_ble_eq_true rfl) rfl q2335 rfl rfl dX4_depthOf_38 ?_
            refine lv_iload C.hx C.hb dX4_depthOf_41 (lv_at hl3 1 rfl) ?_
            refine k_lald C (f := (fun i => lN (σ 11 i))) rfl (hW3.get 12 0 rfl rfl) (by omega) (by decide) dX4_depthOf_43 ?_
            refine lv_goto (tgt := 48) C.hx C.hb dX4_depthOf_44 (by decide) ?_
            refine kn_ladd C  dX4_depthOf_48 ?_
            refine lv_lstore_n (lv' := [(2, .long (lN ((dsumN σ s1 b) + (σ 11 b)))), (4, .int (nI b)), (0, .ref h), (1, .int (nI s1))]) C.hx C.hb dX4_depthOf_49 rfl hl3 (Nat.le_of_ble_eq_true rfl) rfl (fun ls12 hl12 => ?_)
            clear hl3
            refine kn_iinc (lv' := [(4, .int (nI (b + 1))), (2, .long (lN ((dsumN σ s1 b) + (σ 11 b)))), (0, .ref h), (1, .int (nI s1))]) (k := 1) C dX4_depthOf_50 hl12 rfl (Nat.le_of_ble_eq_true rfl) rfl (fun ls13 hl13 => ?_)
            clear hl12
            refine lv_goto (tgt := 5) C.hx C.hb dX4_depthOf_53 (by decide) ?_
            have e14 : (dsumN σ s1 (b + 1)) = ((dsumN σ s1 b) + (σ 11 b)) := by simp [dsumN, lp, c11, c23, c34]
            exact ih3 (b + 1) (by omega) (by omega) _ _ _ hW3 (by rw [e14]; exact (lv_sub hl13 [1, 0, 2, 3] rfl))
  have e15 : (dsumN σ s1 0) = 0 := by simp [dsumN, lp]
  exact L5 (σ 32 0 - 0 + 1) 0 (Nat.zero_le _) (Nat.lt_succ_self _) _ _ _ hW (by rw [e15]; exact (lv_sub hl2 [1, 0, 2, 3] rfl))

def Q_ctX4_sinks (G : GT) (h : Nat) (ad : Nat → Nat) (σ : Sg) (s1 y1 : Nat) : Option Value → List va_W → Prop := fun v S1 => v = none ∧ S1 = mW G h ad (sinksF σ s1 y1)
set_option maxHeartbeats 4000000 in
set_option maxRecDepth 100000 in
theorem ctX4_sinks (l : Launch) (G : GT) (h : Nat) (ad : Nat → Nat) (σ : Sg) (s1 y1 : Nat) (hS : Sf σ) (hs1 : s1 < 12) (hy1 : y1 ≤ 25000) : Ct l G yX4_sinks cX4_sinks 5 none 0 0 0 0 [.ref h, .int (nI s1), .long (lN y1)] (mW G h ad σ) noR (Q_ctX4_sinks G h ad σ s1 y1) := by
  refine Ct.of (by decide +kernel) (Nat.le_of_ble_eq_true rfl) ?_
  intro p e s m below meth c A ls C hW hRo hl
  have hl : lv_has ls 5 [(0, .ref h), (1, .int (nI s1)), (2, .long (lN y1))] := hl
  have hB : Bd σ := hS.1
  have h32 : σ 32 0 ≤ 200 := Nat.lt_succ_iff.mp (hB.lt 32 (by decide) 0)
  have h34 : σ 34 0 ≤ 480 := Nat.lt_succ_iff.mp (hB.lt 34 (by decide) 0)
  have h35 : σ 35 0 ≤ 64 := Nat.lt_succ_iff.mp (hB.lt 35 (by decide) 0)
  have h36 : σ 36 0 ≤ 60 := Nat.lt_succ_iff.mp (hB.lt 36 (by decide) 0)
  have h30 : σ 30 0 ≤ 5000 := Nat.lt_succ_iff.mp (hB.lt 30 (by decide) 0)
  refine lv_aload_n C.hx C.hb dX4_sinks_0 rfl (lv_at hl 0 rfl) ?_
  refine k_get (v := .ref (ad 4)) C clX4 (hW.get 0 0 rfl rfl) 4 (Nat.le_of_ble_eq_true rfl) rfl q2328 rfl rfl dX4_sinks_1 ?_
  refine lv_iload_n C.hx C.hb dX4_sinks_4 rfl (lv_at hl 1 rfl) ?_
  refine lv_dup2_11 C.hx C.hb dX4_sinks_5 rfl rfl ?_
  refine k_lald C (f := (fun i => lN (σ 4 i))) rfl (hW.get 5 0 rfl rfl) (by omega) (by decide) dX4_sinks_6 ?_
  refine lv_lload_n C.hx C.hb dX4_sinks_7 rfl (lv_at hl 2 rfl) ?_
  refine kn_ladd C  dX4_sinks_8 ?_
  refine k_last (S' := mW G h ad (s2 σ 4 s1 ((σ 4 s1) + y1))) C hW 5 0 rfl rfl rfl (by omega) (by decide) dX4_sinks_9 (mset4 G h ad _ s1 ((σ 4 s1) + y1)) (fun H1 locs1 hW1 => ?_)
  clear hW
  refine kn_iconst (a := 0) C (by decide) dX4_sinks_10 ?_
  refine lv_istore (lv' := [(4, .int (nI 0)), (0, .ref h), (1, .int (nI s1)), (2, .long (lN y1))]) C.hx C.hb dX4_sinks_11 hl (Nat.le_of_ble_eq_true rfl) rfl (fun ls2 hl2 => ?_)
  clear hl
  have L10 : ∀ (k3 : Nat) (b : Nat) (τ : Sg), (b ≤ σ 32 0) → (τ = lp (sinkB s1 y1) b (s2 σ 4 s1 (σ 4 s1 + y1))) → σ 32 0 - b < k3 → ∀ (H3 : Heap) (locs3 : List Loc) (ls3 : Array Slot), Ws G A s (mW G h ad τ) H3 locs3 → lv_has ls3 5 [(4, .int (nI b)), (0, .ref h), (1, .int (nI s1)), (2, .long (lN y1))] → W p l e ({ frames := 0, cells := 0, slots := 0, locals := 0 } : Room) s m ([.ref h, .int (nI s1), .long (lN y1)] : List Value).toArray below meth c H3 locs3 0 0 (MQ below (cQ G A (Q_ctX4_sinks G h ad σ s1 y1)) ([.ref h, .int (nI s1), .long (lN y1)] : List Value).toArray s 0 0 A) (F0 m 13 ls3 []) := by
    intro k3
    induction k3 with
    | zero => intro b τ hL10_0 hL10_1 hm3; exact absurd hm3 (Nat.not_lt_zero _)
    | succ k3 ih3 =>
      intro b τ hL10_0 hL10_1 hm3 H3 locs3 ls3 hW3 hl3
      have hST : Sf τ := by rw [hL10_1]; exact lp_inv (hS.s2o (by decide) (Or.inl rfl)) (fun i a q => q.sink hy1) b
      have hT : Bd τ := hST.1
      have hτ32 : τ 32 0 = σ 32 0 := by rw [hL10_1]; exact sinks_32 σ s1 y1 b
      refine lv_iload C.hx C.hb dX4_sinks_13 (lv_at hl3 0 rfl) ?_
      refine lv_aload_n C.hx C.hb dX4_sinks_15 rfl (lv_at hl3 1 rfl) ?_
      refine k_get (v := .int (nI (τ 32 0))) C clX4 (hW3.get 0 0 rfl rfl) 32 (Nat.le_of_ble_eq_true rfl) rfl q2356 rfl rfl dX4_sinks_16 ?_
      refine kn_icmp_ge (tgt := 99) C (by omega) (Nat.lt_of_lt_of_le (hT.lt 32 (by decide) 0) (by decide)) dX4_sinks_19 (by decide) (fun c19 => ?_) (fun c19 => ?_)
      · exact k_vret C hW3 rfl ⟨rfl, by rw [hL10_1, show b = σ 32 0 by omega]; rfl⟩ (Nat.le_refl _) (Nat.le_refl _) dX4_sinks_99
      · refine lv_aload_n C.hx C.hb dX4_sinks_22 rfl (lv_at hl3 1 rfl) ?_
        refine k_get (v := .ref (ad 7)) C clX4 (hW3.get 0 0 rfl rfl) 7 (Nat.le_of_ble_eq_true rfl) rfl q2331 rfl rfl dX4_sinks_23 ?_
        refine lv_iload C.hx C.hb dX4_sinks_26 (lv_at hl3 0 rfl) ?_
        refine k_iald C (f := (fun i => nI (τ 7 i))) rfl (hW3.get 8 0 rfl rfl) (by omega) (by decide) dX4_sinks_28 ?_
        refine kn_iconst (a := 2) C (by decide) dX4_sinks_29 ?_
        refine kn_icmp_ne (tgt := 93) C (Nat.lt_of_lt_of_le (hT.lt 7 (by decide) b) (by decide)) (by decide) dX4_sinks_30 (by decide) (fun c30 => ?_) (fun c30 => ?_)
        · refine kn_iinc (lv' := [(4, .int (nI (b + 1))), (0, .ref h), (1, .int (nI s1)), (2, .long (lN y1))]) (k := 0) C dX4_sinks_93 hl3 rfl (Nat.le_of_ble_eq_true rfl) rfl (fun ls4 hl4 => ?_)
          clear hl3
          refine lv_goto (tgt := 13) C.hx C.hb dX4_sinks_96 (by decide) ?_
          exact ih3 (b + 1) τ (by omega) (by show _ = sinkB s1 y1 b (lp _ b _); rw [← hL10_1]; first | (simp [sinkB, c19, c30]; done) | (simp [sinkB, c19, c30, Nat.not_le.mpr c81]; done)) (by omega) _ _ _ hW3 (lv_sub hl4 [0, 1, 2, 3] rfl)
        · refine lv_aload_n C.hx C.hb dX4_sinks_33 rfl (lv_at hl3 1 rfl) ?_
          refine k_get (v := .ref (ad 8)) C clX4 (hW3.get 0 0 rfl rfl) 8 (Nat.le_of_ble_eq_true rfl) rfl q2332 rfl rfl dX4_sinks_34 ?_
          refine lv_iload C.hx C.hb dX4_sinks_37 (lv_at hl3 0 rfl) ?_
          refine k_iald C (f := (fun i => nI (τ 8 i))) rfl (hW3.get 9 0 rfl rfl) (by omega) (by decide) dX4_sinks_39 ?_
          refine lv_iload_n C.hx C.hb dX4_sinks_40 rfl (lv_at hl3 2 rfl) ?_
          refine kw_icmp_eq (tgt := 47) C (Nat.lt_of_lt_of_le (hT.lt 8 (by decide) b) (by decide)) (by omega) dX4_sinks_41 (by decide) (fun c41 => ?_) (fun c41 => ?_)
          · refine lv_aload_n C.hx C.hb dX4_sinks_47 rfl (lv_at hl3 1 rfl) ?_
            refine k_get (v := .ref (ad 11)) C clX4 (hW3.get 0 0 rfl rfl) 11 (Nat.le_of_ble_eq_true rfl) rfl q2335 rfl rfl dX4_sinks_48 ?_
            refine lv_iload C.hx C.hb dX4_sinks_51 (lv_at hl3 0 rfl) ?_
            refine lv_dup2_11 C.hx C.hb dX4_sinks_53 rfl rfl ?_
            refine k_lald C (f := (fun i => lN (τ 11 i))) rfl (hW3.get 12 0 rfl rfl) (by omega) (by decide) dX4_sinks_54 ?_
            refine lv_lload_n C.hx C.hb dX4_sinks_55 rfl (lv_at hl3 3 rfl) ?_
            refine kn_ladd C  dX4_sinks_56 ?_
            refine k_last (S' := mW G h ad (s2 τ 11 b ((τ 11 b) + y1))) C hW3 12 0 rfl rfl rfl (by omega) (by decide) dX4_sinks_57 (mset11 G h ad _ b ((τ 11 b) + y1)) (fun H5 locs5 hW5 => ?_)
            clear hW3
            refine lv_aload_n C.hx C.hb dX4_sinks_58 rfl (lv_at hl3 1 rfl) ?_
            refine k_get (v := .ref (ad 6)) C clX4 (hW5.get 0 0 rfl rfl) 6 (Nat.le_of_ble_eq_true rfl) rfl q2330 rfl rfl dX4_sinks_59 ?_
            refine lv_iload C.hx C.hb dX4_sinks_62 (lv_at hl3 0 rfl) ?_
            refine lv_aload_n C.hx C.hb dX4_sinks_64 rfl (lv_at hl3 1 rfl) ?_
            refine k_get (v := .ref (ad 4)) C clX4 (hW5.get 0 0 rfl rfl) 4 (Nat.le_of_ble_eq_true rfl) rfl q2328 rfl rfl dX4_sinks_65 ?_
            refine lv_iload_n C.hx C.hb dX4_sinks_68 rfl (lv_at hl3 2 rfl) ?_
            refine k_lald C (f := (fun i => lN ((s2 τ 11 b ((τ 11 b) + y1)) 4 i))) rfl (hW5.get 5 0 rfl rfl) (by omega) (by decide) dX4_sinks_69 ?_
            refine k_op (y := .long (lN (τ 4 s1))) (by simp [s2_rd]) ?_
            refine k_last (S' := mW G h ad (s2 (s2 τ 11 b ((τ 11 b) + y1)) 6 b (τ 4 s1))) C hW5 7 0 rfl rfl rfl (by omega) (by decide) dX4_sinks_70 (mset6 G h ad _ b (τ 4 s1)) (fun H6 locs6 hW6 => ?_)
            clear hW5
            refine lv_aload_n C.hx C.hb dX4_sinks_71 rfl (lv_at hl3 1 rfl) ?_
            refine k_get (v := .ref (ad 11)) C clX4 (hW6.get 0 0 rfl rfl) 11 (Nat.le_of_ble_eq_true rfl) rfl q2335 rfl rfl dX4_sinks_72 ?_
            refine lv_iload C.hx C.hb dX4_sinks_75 (lv_at hl3 0 rfl) ?_
            refine k_lald C (f := (fun i => lN ((s2 (s2 τ 11 b ((τ 11 b) + y1)) 6 b (τ 4 s1)) 11 i))) rfl (hW6.get 12 0 rfl rfl) (by omega) (by decide) dX4_sinks_77 ?_
            refine k_op (y := .long (lN ((τ 11 b) + y1))) (by simp [s2_rd]) ?_
            refine lv_ldc2 (own := "BogsignModel") (v := (lN 1000)) C.hx C.hb C.hown (C.hts _ q2497) dX4_sinks_78 ?_
            refine kl_lt (tgt := 93) C (by have : τ 11 b < 30000 := hT.lt 11 (by decide) b; omega) (by decide) dX4_sinks_81 dX4_sinks_82 (by decide) (fun c81 => ?_) (fun c81 => ?_)
            · refine kn_iinc (lv' := [(4, .int (nI (b + 1))), (0, .ref h), (1, .int (nI s1)), (2, .long (lN y1))]) (k := 0) C dX4_sinks_93 hl3 rfl (Nat.le_of_ble_eq_true rfl) rfl (fun ls7 hl7 => ?_)
              clear hl3
              refine lv_goto (tgt := 13) C.hx C.hb dX4_sinks_96 (by decide) ?_
              exact ih3 (b + 1) (s2 (s2 τ 11 b ((τ 11 b) + y1)) 6 b (τ 4 s1)) (by omega) (by show _ = sinkB s1 y1 b (lp _ b _); rw [← hL10_1]; first | (simp [sinkB, c19, c30, c41, c81]; done) | (simp [sinkB, c19, c30, c41, c81, Nat.not_le.mpr c81]; done)) (by omega) _ _ _ hW6 (lv_sub hl7 [0, 1, 2, 3] rfl)
            · refine lv_aload_n C.hx C.hb dX4_sinks_85 rfl (lv_at hl3 1 rfl) ?_
              refine k_get (v := .ref (ad 7)) C clX4 (hW6.get 0 0 rfl rfl) 7 (Nat.le_of_ble_eq_true rfl) rfl q2331 rfl rfl dX4_sinks_86 ?_
              refine lv_iload C.hx C.hb dX4_sinks_89 (lv_at hl3 0 rfl) ?_
              refine kn_iconst (a := 3) C (by decide) dX4_sinks_91 ?_
              refine k_iast (S' := mW G h ad (s2 (s2 (s2 τ 11 b ((τ 11 b) + y1)) 6 b (τ 4 s1)) 7 b 3)) C hW6 8 0 rfl rfl rfl (by omega) (by decide) dX4_sinks_92 (mset7 G h ad _ b 3) (fun H8 locs8 hW8 => ?_)
              clear hW6
              refine kn_iinc (lv' := [(4, .int (nI (b + 1))), (0, .ref h), (1, .int (nI s1)), (2, .long (lN y1))]) (k := 0) C dX4_sinks_93 hl3 rfl (Nat.le_of_ble_eq_true rfl) rfl (fun ls9 hl9 => ?_)
              clear hl3
              refine lv_goto (tgt := 13) C.hx C.hb dX4_sinks_96 (by decide) ?_
              exact ih3 (b + 1) (s2 (s2 (s2 τ 11 b ((τ 11 b) + y1)) 6 b (τ 4 s1)) 7 b 3) (by omega) (by show _ = sinkB s1 y1 b (lp _ b _); rw [← hL10_1]; first | (simp [sinkB, c19, c30, c41, c81]; done) | (simp [sinkB, c19, c30, c41, c81, Nat.not_le.mpr c81]; done)) (by omega) _ _ _ hW8 (lv_sub hl9 [0, 1, 2, 3] rfl)
          · refine lv_goto (tgt := 93) C.hx C.hb dX4_sinks_44 (by decide) ?_
            refine kn_iinc (lv' := [(4, .int (nI (b + 1))), (0, .ref h), (1, .int (nI s1)), (2, .long (lN y1))]) (k := 0) C dX4_sinks_93 hl3 rfl (Nat.le_of_ble_eq_true rfl) rfl (fun ls10 hl10 => ?_)
            clear hl3
            refine lv_goto (tgt := 13) C.hx C.hb dX4_sinks_96 (by decide) ?_
            exact ih3 (b + 1) τ (by omega) (by show _ = sinkB s1 y1 b (lp _ b _); rw [← hL10_1]; first | (simp [sinkB, c19, c30, c41]; done) | (simp [sinkB, c19, c30, c41, Nat.not_le.mpr c81]; done)) (by omega) _ _ _ hW3 (lv_sub hl10 [0, 1, 2, 3] rfl)
  exact L10 (σ 32 0 - 0 + 1) 0 (s2 σ 4 s1 ((σ 4 s1) + y1)) (Nat.zero_le _) rfl (Nat.lt_succ_self _) _ _ _ hW1 (lv_sub hl2 [0, 1, 2, 3] rfl)
