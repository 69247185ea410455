/-- how many days a board of a season is good -/
def gd : Nat → Nat
  | 0 => 280
  | 1 => 210
  | 2 => 420
  | _ => 560
theorem gd_lt (k : Nat) : gd k < 561 := by
  unfold gd
  split <;> decide
def Q_ctX6_of (G : GT) (d : Nat) : Option Value → List va_W → Prop := fun v S1 => v = some (.int (nI (seasonN d))) ∧ S1 = []
set_option maxHeartbeats 4000000 in
set_option maxRecDepth 100000 in
theorem ctX6_of (l : Launch) (G : GT) (d : Nat) (hd : d < 2 ^ 31) : Ct l G yX6_of cX6_of 1 (some .int) 0 0 0 0 [.int (nI d)] ([]) noR (Q_ctX6_of G d) := by
  refine Ct.of (by decide +kernel) (Nat.le_of_ble_eq_true rfl) ?_
  intro p e s m below meth c A ls C hW hRo hl
  have hl : lv_has ls 1 [(0, .int (nI d))] := hl
  refine lv_iload_n C.hx C.hb dX6_of_0 rfl (lv_at hl 0 rfl) ?_
  refine kn_bipush (a := 91) C (by decide) dX6_of_1 ?_
  refine kn_idiv C (by omega) (by decide) (by decide) dX6_of_3 ?_
  refine kn_iconst (a := 4) C (by decide) dX6_of_4 ?_
  refine kn_irem C (by omega) (by decide) (by decide) dX6_of_5 ?_
  exact k_iret C hW rfl ⟨rfl, rfl⟩ (Nat.le_refl _) (Nat.le_refl _) dX6_of_6

def Q_ctX6_goodFor_0 (G : GT)  : Option Value → List va_W → Prop := fun v S1 => v = some (.int (nI 280)) ∧ S1 = []
set_option maxHeartbeats 4000000 in
set_option maxRecDepth 100000 in
theorem ctX6_goodFor_0 (l : Launch) (G : GT)   : Ct l G yX6_goodFor cX6_goodFor 1 (some .int) 0 0 0 0 [.int (nI 0)] ([]) noR (Q_ctX6_goodFor_0 G ) := by
  refine Ct.of (by decide +kernel) (Nat.le_of_ble_eq_true rfl) ?_
  intro p e s m below meth c A ls C hW hRo hl
  have hl : lv_has ls 1 [(0, .int (nI 0))] := hl
  refine lv_iload_n C.hx C.hb dX6_goodFor_0 rfl (lv_at hl 0 rfl) ?_
  refine lv_tableIn (x := nI 0) (off := 27) (tgt := 28) C.hx C.hb dX6_goodFor_1 (by decide) (by decide) (by decide) (by decide) ?_
  refine kn_sipush (a := 280) C (by decide) dX6_goodFor_28 ?_
  refine lv_goto (tgt := 49) C.hx C.hb dX6_goodFor_31 (by decide) ?_
  exact k_iret C hW rfl ⟨rfl, rfl⟩ (Nat.le_refl _) (Nat.le_refl _) dX6_goodFor_49

def Q_ctX6_goodFor_1 (G : GT)  : Option Value → List va_W → Prop := fun v S1 => v = some (.int (nI 210)) ∧ S1 = []
set_option maxHeartbeats 4000000 in
set_option maxRecDepth 100000 in
theorem ctX6_goodFor_1 (l : Launch) (G : GT)   : Ct l G yX6_goodFor cX6_goodFor 1 (some .int) 0 0 0 0 [.int (nI 1)] ([]) noR (Q_ctX6_goodFor_1 G ) := by
  refine Ct.of (by decide +kernel) (Nat.le_of_ble_eq_true rfl) ?_
  intro p e s m below meth c A ls C hW hRo hl
  have hl : lv_has ls 1 [(0, .int (nI 1))] := hl
  refine lv_iload_n C.hx C.hb dX6_goodFor_0 rfl (lv_at hl 0 rfl) ?_
  refine lv_tableIn (x := nI 1) (off := 33) (tgt := 34) C.hx C.hb dX6_goodFor_1 (by decide) (by decide) (by decide) (by decide) ?_
  refine kn_sipush (a := 210) C (by decide) dX6_goodFor_34 ?_
  refine lv_goto (tgt := 49) C.hx C.hb dX6_goodFor_37 (by decide) ?_
  exact k_iret C hW rfl ⟨rfl, rfl⟩ (Nat.le_refl _) (Nat.le_refl _) dX6_goodFor_49

def Q_ctX6_goodFor_2 (G : GT)  : Option Value → List va_W → Prop := fun v S1 => v = some (.int (nI 420)) ∧ S1 = []
set_option maxHeartbeats 4000000 in
set_option maxRecDepth 100000 in
theorem ctX6_goodFor_2 (l : Launch) (G : GT)   : Ct l G yX6_goodFor cX6_goodFor 1 (some .int) 0 0 0 0 [.int (nI 2)] ([]) noR (Q_ctX6_goodFor_2 G ) := by
  refine Ct.of (by decide +kernel) (Nat.le_of_ble_eq_true rfl) ?_
  intro p e s m below meth c A ls C hW hRo hl
  have hl : lv_has ls 1 [(0, .int (nI 2))] := hl
  refine lv_iload_n C.hx C.hb dX6_goodFor_0 rfl (lv_at hl 0 rfl) ?_
  refine lv_tableIn (x := nI 2) (off := 39) (tgt := 40) C.hx C.hb dX6_goodFor_1 (by decide) (by decide) (by decide) (by decide) ?_
  refine kn_sipush (a := 420) C (by decide) dX6_goodFor_40 ?_
  refine lv_goto (tgt := 49) C.hx C.hb dX6_goodFor_43 (by decide) ?_
  exact k_iret C hW rfl ⟨rfl, rfl⟩ (Nat.le_refl _) (Nat.le_refl _) dX6_goodFor_49

def Q_ctX6_goodFor_3 (G : GT)  : Option Value → List va_W → Prop := fun v S1 => v = some (.int (nI 560)) ∧ S1 = []
set_option maxHeartbeats 4000000 in
set_option maxRecDepth 100000 in
theorem ctX6_goodFor_3 (l : Launch) (G : GT)   : Ct l G yX6_goodFor cX6_goodFor 1 (some .int) 0 0 0 0 [.int (nI 3)] ([]) noR (Q_ctX6_goodFor_3 G ) := by
  refine Ct.of (by decide +kernel) (Nat.le_of_ble_eq_true rfl) ?_
  intro p e s m below meth c A ls C hW hRo hl
  have hl : lv_has ls 1 [(0, .int (nI 3))] := hl
  refine lv_iload_n C.hx C.hb dX6_goodFor_0 rfl (lv_at hl 0 rfl) ?_
  refine lv_tableOut (x := nI 3) (tgt := 46) C.hx C.hb dX6_goodFor_1 (by decide) (by decide) ?_
  refine kn_sipush (a := 560) C (by decide) dX6_goodFor_46 ?_
  exact k_iret C hW rfl ⟨rfl, rfl⟩ (Nat.le_refl _) (Nat.le_refl _) dX6_goodFor_49

theorem ctX6_goodFor (l : Launch) (G : GT) (k : Nat) (hk : k < 4) : Ct l G yX6_goodFor cX6_goodFor 1 (some .int) 0 0 0 0 [.int (nI k)] [] noR (fun v S1 => v = some (.int (nI (gd k))) ∧ S1 = []) :=
  match k, hk with
  | 0, _ => ctX6_goodFor_0 l G
  | 1, _ => ctX6_goodFor_1 l G
  | 2, _ => ctX6_goodFor_2 l G
  | 3, _ => ctX6_goodFor_3 l G
  | k + 4, h => absurd h (by omega)
def Q_ctX5_init (G : GT) (b n d : Nat) : Option Value → List va_W → Prop := fun v S1 => v = none ∧ S1 = [[(b, .inr (4, [.int (nI n), .int (nI (seasonN d)), .int (nI d), .int (nI 0), .int (nI NONE), .int (nI 0), .int (nI 0), .int (nI NONE)]))]]
set_option maxHeartbeats 4000000 in
set_option maxRecDepth 100000 in
theorem ctX5_init (l : Launch) (G : GT) (b n d : Nat) (hd : d < 2 ^ 31) : Ct l G yX5_init cX5_init 3 none 1 20 0 0 [.ref b, .int (nI n), .int (nI d)] ([[(b, .inr (4, [.int 0, .int 0, .int 0, .int 0, .int 0, .int 0, .int 0, .int 0]))]]) noR (Q_ctX5_init G b n d) := by
  refine Ct.of (by decide +kernel) (Nat.le_of_ble_eq_true rfl) ?_
  intro p e s m below meth c A ls C hW hRo hl
  have hl : lv_has ls 3 [(0, .ref b), (1, .int (nI n)), (2, .int (nI d))] := hl
  refine lv_aload_n C.hx C.hb dX5_init_0 rfl (lv_at hl 0 rfl) ?_
  refine W.objInit C.hx C.hb C.hown (C.hts _ q1627) (C.hts _ q133) (C.hts _ q134) rfl (by rw [C.hml]; exact hl.1) rfl dX5_init_1 (Nat.le_of_ble_eq_true rfl) (Nat.le_of_ble_eq_true rfl) ?_
  refine W.eq (g2 := F0 m 4 ls []) rfl ?_
  refine lv_aload_n C.hx C.hb dX5_init_4 rfl (lv_at hl 0 rfl) ?_
  refine kn_iconst (a := 0) C (by decide) dX5_init_5 ?_
  refine k_put (S' := [[(b, .inr (4, [.int 0, .int 0, .int 0, .int (nI 0), .int 0, .int 0, .int 0, .int 0]))]]) C clX5 hW 0 0 rfl rfl 3 (Nat.le_of_ble_eq_true rfl) rfl q1635 rfl (fun _ h => h) (Or.inr ⟨rfl, rfl⟩) (fty := .int) (v := .int (nI 0)) (by decide +kernel) rfl rfl (Nat.le_of_ble_eq_true rfl) dX5_init_6 rfl (fun H1 locs1 hW1 => ?_)
  clear hW
  refine lv_aload_n C.hx C.hb dX5_init_9 rfl (lv_at hl 0 rfl) ?_
  refine lv_iconst (v := nI NONE) C.hx C.hb dX5_init_10 (by decide) ?_
  refine k_put (S' := [[(b, .inr (4, [.int 0, .int 0, .int 0, .int (nI 0), .int (nI NONE), .int 0, .int 0, .int 0]))]]) C clX5 hW1 0 0 rfl rfl 4 (Nat.le_of_ble_eq_true rfl) rfl q1638 rfl (fun _ h => h) (Or.inr ⟨rfl, rfl⟩) (fty := .int) (v := .int (nI NONE)) (by decide +kernel) rfl rfl (Nat.le_of_ble_eq_true rfl) dX5_init_11 rfl (fun H2 locs2 hW2 => ?_)
  clear hW1
  refine lv_aload_n C.hx C.hb dX5_init_14 rfl (lv_at hl 0 rfl) ?_
  refine lv_iconst (v := nI NONE) C.hx C.hb dX5_init_15 (by decide) ?_
  refine k_put (S' := [[(b, .inr (4, [.int 0, .int 0, .int 0, .int (nI 0), .int (nI NONE), .int 0, .int 0, .int (nI NONE)]))]]) C clX5 hW2 0 0 rfl rfl 7 (Nat.le_of_ble_eq_true rfl) rfl q1643 rfl (fun _ h => h) (Or.inr ⟨rfl, rfl⟩) (fty := .int) (v := .int (nI NONE)) (by decide +kernel) rfl rfl (Nat.le_of_ble_eq_true rfl) dX5_init_16 rfl (fun H3 locs3 hW3 => ?_)
  clear hW2
  refine lv_aload_n C.hx C.hb dX5_init_19 rfl (lv_at hl 0 rfl) ?_
  refine lv_iload_n C.hx C.hb dX5_init_20 rfl (lv_at hl 1 rfl) ?_
  refine k_put (S' := [[(b, .inr (4, [.int (nI n), .int 0, .int 0, .int (nI 0), .int (nI NONE), .int 0, .int 0, .int (nI NONE)]))]]) C clX5 hW3 0 0 rfl rfl 0 (Nat.le_of_ble_eq_true rfl) rfl q1629 rfl (fun _ h => h) (Or.inr ⟨rfl, rfl⟩) (fty := .int) (v := .int (nI n)) (by decide +kernel) rfl rfl (Nat.le_of_ble_eq_true rfl) dX5_init_21 rfl (fun H4 locs4 hW4 => ?_)
  clear hW3
  refine lv_aload_n C.hx C.hb dX5_init_24 rfl (lv_at hl 0 rfl) ?_
  refine lv_iload_n C.hx C.hb dX5_init_25 rfl (lv_at hl 2 rfl) ?_
  refine k_put (S' := [[(b, .inr (4, [.int (nI n), .int 0, .int (nI d), .int (nI 0), .int (nI NONE), .int 0, .int 0, .int (nI NONE)]))]]) C clX5 hW4 0 0 rfl rfl 2 (Nat.le_of_ble_eq_true rfl) rfl q1633 rfl (fun _ h => h) (Or.inr ⟨rfl, rfl⟩) (fty := .int) (v := .int (nI d)) (by decide +kernel) rfl rfl (Nat.le_of_ble_eq_true rfl) dX5_init_26 rfl (fun H5 locs5 hW5 => ?_)
  clear hW4
  refine lv_aload_n C.hx C.hb dX5_init_29 rfl (lv_at hl 0 rfl) ?_
  refine lv_iload_n C.hx C.hb dX5_init_30 rfl (lv_at hl 2 rfl) ?_
  refine k_callS (Sc := []) (Sr := [[(b, .inr (4, [.int (nI n), .int 0, .int (nI d), .int (nI 0), .int (nI NONE), .int 0, .int 0, .int (nI NONE)]))]]) (As := [.int (nI d)]) (rest := [.ref b]) C (ctX6_of l G d hd) hW5 q1628 q363 q110 q364 rfl ⟨by decide, by decide, Eq.trans (b := some 1) (by decide +kernel) rfl⟩ (Nat.le_of_ble_eq_true rfl) (Nat.le_of_ble_eq_true rfl) (Nat.le_refl _) (Nat.le_refl _) hl.1 rfl (Nat.le_of_ble_eq_true rfl) dX5_init_31 (k_permR _) (fun _ h => h.elim) (fun v H6 locs6 S1 hQ hz6 hW6 => ?_)
  obtain ⟨rfl, rfl⟩ := hQ
  have hW6 : Ws G A s ([[(b, .inr (4, [.int (nI n), .int 0, .int (nI d), .int (nI 0), .int (nI NONE), .int 0, .int 0, .int (nI NONE)]))]]) H6 locs6 := hW6
  clear hW5
  refine W.eq (g2 := F0 m 34 ls [.int (nI (seasonN d)), .ref b]) rfl ?_
  refine k_put (S' := [[(b, .inr (4, [.int (nI n), .int (nI (seasonN d)), .int (nI d), .int (nI 0), .int (nI NONE), .int 0, .int 0, .int (nI NONE)]))]]) C clX5 hW6 0 0 rfl rfl 1 (Nat.le_of_ble_eq_true rfl) rfl q1631 rfl (fun _ h => h) (Or.inr ⟨rfl, rfl⟩) (fty := .int) (v := .int (nI (seasonN d))) (by decide +kernel) rfl rfl (Nat.le_of_ble_eq_true rfl) dX5_init_34 rfl (fun H7 locs7 hW7 => ?_)
  clear hW6
  exact k_vret C hW7 rfl ⟨rfl, rfl⟩ (Nat.le_refl _) (Nat.le_refl _) dX5_init_37

def Q_ctX5_canRot (G : GT) (b b0 b1 b2 b3 b4 b5 b6 b7 : Nat) : Option Value → List va_W → Prop := fun v S1 => v = some (.int (b01 (b3 ≤ 2))) ∧ S1 = []
set_option maxHeartbeats 4000000 in
set_option maxRecDepth 100000 in
theorem ctX5_canRot (l : Launch) (G : GT) (b b0 b1 b2 b3 b4 b5 b6 b7 : Nat) (h3 : b3 < 2 ^ 31) : Ct l G yX5_canRot cX5_canRot 1 (some .boolean) 0 0 0 0 [.ref b] ([]) ((fun z => z = .inl (b, .inr (4, [.int (nI b0), .int (nI b1), .int (nI b2), .int (nI b3), .int (nI b4), .int (nI b5), .int (nI b6), .int (nI b7)])))) (Q_ctX5_canRot G b b0 b1 b2 b3 b4 b5 b6 b7) := by
  refine Ct.of (by decide +kernel) (Nat.le_of_ble_eq_true rfl) ?_
  intro p e s m below meth c A ls C hW hRo hl
  have hl : lv_has ls 1 [(0, .ref b)] := hl
  refine lv_aload_n C.hx C.hb dX5_canRot_0 rfl (lv_at hl 0 rfl) ?_
  refine k_get (v := .int (nI b3)) C clX5 ((hRo _ rfl).at hW) 3 (Nat.le_of_ble_eq_true rfl) rfl q1635 rfl rfl dX5_canRot_1 ?_
  refine kn_if_eq (tgt := 23) C (by omega) dX5_canRot_4 (by decide) (fun c4 => ?_) (fun c4 => ?_)
  · refine kn_iconst (a := 1) C (by decide) dX5_canRot_23 ?_
    refine lv_goto (tgt := 28) C.hx C.hb dX5_canRot_24 (by decide) ?_
    exact k_zret C hW rfl (by decide) ⟨by simp [b01, show  b3 ≤ 2 by omega]; rfl, rfl⟩ (Nat.le_refl _) (Nat.le_refl _) dX5_canRot_28
  · refine lv_aload_n C.hx C.hb dX5_canRot_7 rfl (lv_at hl 0 rfl) ?_
    refine k_get (v := .int (nI b3)) C clX5 ((hRo _ rfl).at hW) 3 (Nat.le_of_ble_eq_true rfl) rfl q1635 rfl rfl dX5_canRot_8 ?_
    refine kn_iconst (a := 1) C (by decide) dX5_canRot_11 ?_
    refine kn_icmp_eq (tgt := 23) C (by omega) (by decide) dX5_canRot_12 (by decide) (fun c12 => ?_) (fun c12 => ?_)
    · refine kn_iconst (a := 1) C (by decide) dX5_canRot_23 ?_
      refine lv_goto (tgt := 28) C.hx C.hb dX5_canRot_24 (by decide) ?_
      exact k_zret C hW rfl (by decide) ⟨by simp [b01, show  b3 ≤ 2 by omega]; rfl, rfl⟩ (Nat.le_refl _) (Nat.le_refl _) dX5_canRot_28
    · refine lv_aload_n C.hx C.hb dX5_canRot_15 rfl (lv_at hl 0 rfl) ?_
      refine k_get (v := .int (nI b3)) C clX5 ((hRo _ rfl).at hW) 3 (Nat.le_of_ble_eq_true rfl) rfl q1635 rfl rfl dX5_canRot_16 ?_
      refine kn_iconst (a := 2) C (by decide) dX5_canRot_19 ?_
      refine kn_icmp_ne (tgt := 27) C (by omega) (by decide) dX5_canRot_20 (by decide) (fun c20 => ?_) (fun c20 => ?_)
      · refine kn_iconst (a := 0) C (by decide) dX5_canRot_27 ?_
        exact k_zret C hW rfl (by decide) ⟨by simp [b01, show ¬ b3 ≤ 2 by omega]; rfl, rfl⟩ (Nat.le_refl _) (Nat.le_refl _) dX5_canRot_28
      · refine kn_iconst (a := 1) C (by decide) dX5_canRot_23 ?_
        refine lv_goto (tgt := 28) C.hx C.hb dX5_canRot_24 (by decide) ?_
        exact k_zret C hW rfl (by decide) ⟨by simp [b01, show  b3 ≤ 2 by omega]; rfl, rfl⟩ (Nat.le_refl _) (Nat.le_refl _) dX5_canRot_28

def Q_ctX3_init (G : GT) (a : Nat) : Option Value → List va_W → Prop := fun v S1 => v = none ∧ S1 = []
set_option maxHeartbeats 4000000 in
set_option maxRecDepth 100000 in
theorem ctX3_init (l : Launch) (G : GT) (a : Nat)  : Ct l G yX3_init cX3_init 1 none 1 20 0 0 [.ref a] ([]) noR (Q_ctX3_init G a) := by
  refine Ct.of (by decide +kernel) (Nat.le_of_ble_eq_true rfl) ?_
  intro p e s m below meth c A ls C hW hRo hl
  have hl : lv_has ls 1 [(0, .ref a)] := hl
  refine lv_aload_n C.hx C.hb dX3_init_0 rfl (lv_at hl 0 rfl) ?_
  refine W.objInit C.hx C.hb C.hown (C.hts _ q316) (C.hts _ q133) (C.hts _ q134) rfl (by rw [C.hml]; exact hl.1) rfl dX3_init_1 (Nat.le_of_ble_eq_true rfl) (Nat.le_of_ble_eq_true rfl) ?_
  refine W.eq (g2 := F0 m 4 ls []) rfl ?_
  exact k_vret C hW rfl ⟨rfl, rfl⟩ (Nat.le_refl _) (Nat.le_refl _) dX3_init_4

def Q_ctX3_takes (G : GT) (a s1 m1 d : Nat) : Option Value → List va_W → Prop := fun v S1 => v = none ∧ S1 = [[(a, .inr (2, [.int (nI (s1 + d)), .int (nI (m1 + 1))]))]]
set_option maxHeartbeats 4000000 in
set_option maxRecDepth 100000 in
theorem ctX3_takes (l : Launch) (G : GT) (a s1 m1 d : Nat)  : Ct l G yX3_takes cX3_takes 2 none 0 0 0 0 [.ref a, .int (nI d)] ([[(a, .inr (2, [.int (nI s1), .int (nI m1)]))]]) noR (Q_ctX3_takes G a s1 m1 d) := by
  refine Ct.of (by decide +kernel) (Nat.le_of_ble_eq_true rfl) ?_
  intro p e s m below meth c A ls C hW hRo hl
  have hl : lv_has ls 2 [(0, .ref a), (1, .int (nI d))] := hl
  refine lv_aload_n C.hx C.hb dX3_takes_0 rfl (lv_at hl 0 rfl) ?_
  refine lv_dup C.hx C.hb dX3_takes_1 rfl ?_
  refine k_get (v := .int (nI s1)) C clX3 (hW.get 0 0 rfl rfl) 0 (Nat.le_of_ble_eq_true rfl) rfl q317 rfl rfl dX3_takes_2 ?_
  refine lv_iload_n C.hx C.hb dX3_takes_5 rfl (lv_at hl 1 rfl) ?_
  refine kn_iadd C  dX3_takes_6 ?_
  refine k_put (S' := [[(a, .inr (2, [.int (nI (s1 + d)), .int (nI m1)]))]]) C clX3 hW 0 0 rfl rfl 0 (Nat.le_of_ble_eq_true rfl) rfl q317 rfl (fun _ h => h) (Or.inl rfl) (fty := .int) (v := .int (nI (s1 + d))) (by decide +kernel) rfl rfl (Nat.le_of_ble_eq_true rfl) dX3_takes_7 rfl (fun H1 locs1 hW1 => ?_)
  clear hW
  refine lv_aload_n C.hx C.hb dX3_takes_10 rfl (lv_at hl 0 rfl) ?_
  refine lv_dup C.hx C.hb dX3_takes_11 rfl ?_
  refine k_get (v := .int (nI m1)) C clX3 (hW1.get 0 0 rfl rfl) 1 (Nat.le_of_ble_eq_true rfl) rfl q318 rfl rfl dX3_takes_12 ?_
  refine kn_iconst (a := 1) C (by decide) dX3_takes_15 ?_
  refine kn_iadd C  dX3_takes_16 ?_
  refine k_put (S' := [[(a, .inr (2, [.int (nI (s1 + d)), .int (nI (m1 + 1))]))]]) C clX3 hW1 0 0 rfl rfl 1 (Nat.le_of_ble_eq_true rfl) rfl q318 rfl (fun _ h => h) (Or.inl rfl) (fty := .int) (v := .int (nI (m1 + 1))) (by decide +kernel) rfl rfl (Nat.le_of_ble_eq_true rfl) dX3_takes_17 rfl (fun H2 locs2 hW2 => ?_)
  clear hW1
  exact k_vret C hW2 rfl ⟨rfl, rfl⟩ (Nat.le_refl _) (Nat.le_refl _) dX3_takes_20

def Q_ctX3_mean (G : GT) (a s1 m1 d : Nat) : Option Value → List va_W → Prop := fun v S1 => v = some (.int (nI (if m1 = 0 then d else s1 / m1))) ∧ S1 = []
set_option maxHeartbeats 4000000 in
set_option maxRecDepth 100000 in
theorem ctX3_mean (l : Launch) (G : GT) (a s1 m1 d : Nat) (hs : s1 < 2 ^ 31) (hm : m1 < 2 ^ 31) : Ct l G yX3_mean cX3_mean 2 (some .int) 0 0 0 0 [.ref a, .int (nI d)] ([]) ((fun z => z = .inl (a, .inr (2, [.int (nI s1), .int (nI m1)])))) (Q_ctX3_mean G a s1 m1 d) := by
  refine Ct.of (by decide +kernel) (Nat.le_of_ble_eq_true rfl) ?_
  intro p e s m below meth c A ls C hW hRo hl
  have hl : lv_has ls 2 [(0, .ref a), (1, .int (nI d))] := hl
  refine lv_aload_n C.hx C.hb dX3_mean_0 rfl (lv_at hl 0 rfl) ?_
  refine k_get (v := .int (nI m1)) C clX3 ((hRo _ rfl).at hW) 1 (Nat.le_of_ble_eq_true rfl) rfl q318 rfl rfl dX3_mean_1 ?_
  refine kn_if_ne (tgt := 11) C (by omega) dX3_mean_4 (by decide) (fun c4 => ?_) (fun c4 => ?_)
  · refine lv_aload_n C.hx C.hb dX3_mean_11 rfl (lv_at hl 0 rfl) ?_
    refine k_get (v := .int (nI s1)) C clX3 ((hRo _ rfl).at hW) 0 (Nat.le_of_ble_eq_true rfl) rfl q317 rfl rfl dX3_mean_12 ?_
    refine lv_aload_n C.hx C.hb dX3_mean_15 rfl (lv_at hl 0 rfl) ?_
    refine k_get (v := .int (nI m1)) C clX3 ((hRo _ rfl).at hW) 1 (Nat.le_of_ble_eq_true rfl) rfl q318 rfl rfl dX3_mean_16 ?_
    refine kn_idiv C (by omega) (by omega) (by omega) dX3_mean_19 ?_
    exact k_iret C hW rfl ⟨by rw [if_neg c4], rfl⟩ (Nat.le_refl _) (Nat.le_refl _) dX3_mean_20
  · refine lv_iload_n C.hx C.hb dX3_mean_7 rfl (lv_at hl 1 rfl) ?_
    refine lv_goto (tgt := 20) C.hx C.hb dX3_mean_8 (by decide) ?_
    exact k_iret C hW rfl ⟨by simp [c4], rfl⟩ (Nat.le_refl _) (Nat.le_refl _) dX3_mean_20

def Q_ctX9_init (G : GT) (a t m1 : Nat) : Option Value → List va_W → Prop := fun v S1 => v = none ∧ S1 = [[(a, .inr (6, [.int (nI t), .int (nI m1)]))]]
set_option maxHeartbeats 4000000 in
set_option maxRecDepth 100000 in
theorem ctX9_init (l : Launch) (G : GT) (a t m1 : Nat)  : Ct l G yX9_init cX9_init 3 none 1 20 0 0 [.ref a, .int (nI t), .int (nI m1)] ([[(a, .inr (6, [.int 0, .int 0]))]]) noR (Q_ctX9_init G a t m1) := by
  refine Ct.of (by decide +kernel) (Nat.le_of_ble_eq_true rfl) ?_
  intro p e s m below meth c A ls C hW hRo hl
  have hl : lv_has ls 3 [(0, .ref a), (1, .int (nI t)), (2, .int (nI m1))] := hl
  refine lv_aload_n C.hx C.hb dX9_init_0 rfl (lv_at hl 0 rfl) ?_
  refine W.objInit C.hx C.hb C.hown (C.hts _ q1930) (C.hts _ q133) (C.hts _ q134) rfl (by rw [C.hml]; exact hl.1) rfl dX9_init_1 (Nat.le_of_ble_eq_true rfl) (Nat.le_of_ble_eq_true rfl) ?_
  refine W.eq (g2 := F0 m 4 ls []) rfl ?_
  refine lv_aload_n C.hx C.hb dX9_init_4 rfl (lv_at hl 0 rfl) ?_
  refine lv_iload_n C.hx C.hb dX9_init_5 rfl (lv_at hl 1 rfl) ?_
  refine k_put (S' := [[(a, .inr (6, [.int (nI t), .int 0]))]]) C clX9 hW 0 0 rfl rfl 0 (Nat.le_of_ble_eq_true rfl) rfl q1931 rfl (fun _ h => h) (Or.inr ⟨rfl, rfl⟩) (fty := .int) (v := .int (nI t)) (by decide +kernel) rfl rfl (Nat.le_of_ble_eq_true rfl) dX9_init_6 rfl (fun H1 locs1 hW1 => ?_)
  clear hW
  refine lv_aload_n C.hx C.hb dX9_init_9 rfl (lv_at hl 0 rfl) ?_
  refine lv_iload_n C.hx C.hb dX9_init_10 rfl (lv_at hl 2 rfl) ?_
  refine k_put (S' := [[(a, .inr (6, [.int (nI t), .int (nI m1)]))]]) C clX9 hW1 0 0 rfl rfl 1 (Nat.le_of_ble_eq_true rfl) rfl q1933 rfl (fun _ h => h) (Or.inr ⟨rfl, rfl⟩) (fty := .int) (v := .int (nI m1)) (by decide +kernel) rfl rfl (Nat.le_of_ble_eq_true rfl) dX9_init_11 rfl (fun H2 locs2 hW2 => ?_)
  clear hW1
  exact k_vret C hW2 rfl ⟨rfl, rfl⟩ (Nat.le_refl _) (Nat.le_refl _) dX9_init_14

def Q_ctX10_init (G : GT) (a m1 : Nat) : Option Value → List va_W → Prop := fun v S1 => v = none ∧ S1 = [[(a, .inr (7, [.int (nI m1)]))]]
set_option maxHeartbeats 4000000 in
set_option maxRecDepth 100000 in
theorem ctX10_init (l : Launch) (G : GT) (a m1 : Nat)  : Ct l G yX10_init cX10_init 2 none 1 20 0 0 [.ref a, .int (nI m1)] ([[(a, .inr (7, [.int 0]))]]) noR (Q_ctX10_init G a m1) := by
  refine Ct.of (by decide +kernel) (Nat.le_of_ble_eq_true rfl) ?_
  intro p e s m below meth c A ls C hW hRo hl
  have hl : lv_has ls 2 [(0, .ref a), (1, .int (nI m1))] := hl
  refine lv_aload_n C.hx C.hb dX10_init_0 rfl (lv_at hl 0 rfl) ?_
  refine W.objInit C.hx C.hb C.hown (C.hts _ q2103) (C.hts _ q133) (C.hts _ q134) rfl (by rw [C.hml]; exact hl.1) rfl dX10_init_1 (Nat.le_of_ble_eq_true rfl) (Nat.le_of_ble_eq_true rfl) ?_
  refine W.eq (g2 := F0 m 4 ls []) rfl ?_
  refine lv_aload_n C.hx C.hb dX10_init_4 rfl (lv_at hl 0 rfl) ?_
  refine lv_iload_n C.hx C.hb dX10_init_5 rfl (lv_at hl 1 rfl) ?_
  refine k_put (S' := [[(a, .inr (7, [.int (nI m1)]))]]) C clX10 hW 0 0 rfl rfl 0 (Nat.le_of_ble_eq_true rfl) rfl q2104 rfl (fun _ h => h) (Or.inr ⟨rfl, rfl⟩) (fty := .int) (v := .int (nI m1)) (by decide +kernel) rfl rfl (Nat.le_of_ble_eq_true rfl) dX10_init_6 rfl (fun H1 locs1 hW1 => ?_)
  clear hW
  exact k_vret C hW1 rfl ⟨rfl, rfl⟩ (Nat.le_refl _) (Nat.le_refl _) dX10_init_9

def Q_ctX12_init (G : GT) (a m1 : Nat) : Option Value → List va_W → Prop := fun v S1 => v = none ∧ S1 = [[(a, .inr (9, [.ref m1]))]]
set_option maxHeartbeats 4000000 in
set_option maxRecDepth 100000 in
theorem ctX12_init (l : Launch) (G : GT) (a m1 : Nat)  : Ct l G yX12_init cX12_init 2 none 1 20 0 0 [.ref a, .ref m1] ([[(a, .inr (9, [.null]))]]) noR (Q_ctX12_init G a m1) := by
  refine Ct.of (by decide +kernel) (Nat.le_of_ble_eq_true rfl) ?_
  intro p e s m below meth c A ls C hW hRo hl
  have hl : lv_has ls 2 [(0, .ref a), (1, .ref m1)] := hl
  refine lv_aload_n C.hx C.hb dX12_init_0 rfl (lv_at hl 0 rfl) ?_
  refine W.objInit C.hx C.hb C.hown (C.hts _ q2219) (C.hts _ q133) (C.hts _ q134) rfl (by rw [C.hml]; exact hl.1) rfl dX12_init_1 (Nat.le_of_ble_eq_true rfl) (Nat.le_of_ble_eq_true rfl) ?_
  refine W.eq (g2 := F0 m 4 ls []) rfl ?_
  refine lv_aload_n C.hx C.hb dX12_init_4 rfl (lv_at hl 0 rfl) ?_
  refine lv_aload_n C.hx C.hb dX12_init_5 rfl (lv_at hl 1 rfl) ?_
  refine k_put (S' := [[(a, .inr (9, [.ref m1]))]]) C clX12 hW 0 0 rfl rfl 0 (Nat.le_of_ble_eq_true rfl) rfl q2220 rfl (fun _ h => h) (Or.inr ⟨rfl, rfl⟩) (fty := (.object "Bogsign$Message")) (v := .ref m1) (by decide +kernel) rfl rfl (Nat.le_of_ble_eq_true rfl) dX12_init_6 rfl (fun H1 locs1 hW1 => ?_)
  clear hW
  exact k_vret C hW1 rfl ⟨rfl, rfl⟩ (Nat.le_refl _) (Nat.le_refl _) dX12_init_9

def Q_ctX7_init (G : GT) (a st : Nat) : Option Value → List va_W → Prop := fun v S1 => v = none ∧ ∃ q, S1 = [[(a, .inr (5, [.ref q, .ref st]))], alW G q 0 0 (nI 0) 0 []]
set_option maxHeartbeats 4000000 in
set_option maxRecDepth 100000 in
theorem ctX7_init (l : Launch) (G : GT) (a st : Nat)  : Ct l G yX7_init cX7_init 2 none 4 80 1 3 [.ref a, .ref st] ([[(a, .inr (5, [.null, .null]))]]) noR (Q_ctX7_init G a st) := by
  refine Ct.of (by decide +kernel) (Nat.le_of_ble_eq_true rfl) ?_
  intro p e s m below meth c A ls C hW hRo hl
  have hl : lv_has ls 2 [(0, .ref a), (1, .ref st)] := hl
  refine lv_aload_n C.hx C.hb dX7_init_0 rfl (lv_at hl 0 rfl) ?_
  refine W.objInit C.hx C.hb C.hown (C.hts _ q1756) (C.hts _ q133) (C.hts _ q134) rfl (by rw [C.hml]; exact hl.1) rfl dX7_init_1 (Nat.le_of_ble_eq_true rfl) (Nat.le_of_ble_eq_true rfl) ?_
  refine W.eq (g2 := F0 m 4 ls []) rfl ?_
  refine lv_aload_n C.hx C.hb dX7_init_4 rfl (lv_at hl 0 rfl) ?_
  refine k_new (fs := [.int 0, .null, .int 0]) C clJ2 hW q1757 rfl q138 q75 (fun j hj => (by have := co_dec (P := fun j => defaultValue (tyJ2 j) = vp_V [.int 0, .null, .int 0] j) (N := 3) (by decide +kernel) hj; exact this)) (show 0 + 1 ≤ 1 by omega) (show 0 + 3 ≤ 3 by omega) dX7_init_5 (fun q1 H1 hW1 => ?_)
  have hW1 : Ws G A s [[(a, .inr (5, [.null, .null]))], [(q1, .inr (10, [.int 0, .null, .int 0]))]] H1 [] := hW1
  clear hW
  refine lv_dup C.hx C.hb dX7_init_8 rfl ?_
  refine k_callI (Sc := [[(q1, .inr (10, [.int 0, .null, .int 0]))]]) (Sr := [[(a, .inr (5, [.null, .null]))]]) (As := []) (rest := [.ref q1, .ref a]) C (ctJ2_init l G q1) hW1 q1758 q140 q75 q141 rfl rfl ⟨by decide, by decide, Eq.trans (b := some 0) (by decide +kernel) rfl⟩ (Nat.le_of_ble_eq_true rfl) (Nat.le_of_ble_eq_true rfl) (show 1 + 0 ≤ 1 by omega) (show 3 + 0 ≤ 3 by omega) hl.1 rfl (Nat.le_of_ble_eq_true rfl) dX7_init_9 ((pick_perm [[(a, .inr (5, [.null, .null]))], [(q1, .inr (10, [.int 0, .null, .int 0]))]] 2 rfl (is := [0, 1]) (by decide)).flatten.symm) (fun _ h => h.elim) (fun v H2 locs2 S1 hQ hz2 hW2 => ?_)
  obtain ⟨rfl, rfl⟩ := hQ
  have hW2 : Ws G A s ([[(a, .inr (5, [.null, .null]))], [(q1, .inr (10, [.int (nI 0), .ref (G.2.2.2 2), .int (nI 0)]))]]) H2 locs2 := hW2
  clear hW1
  refine W.eq (g2 := F0 m 12 ls [.ref q1, .ref a]) rfl ?_
  refine k_put (S' := [[(a, .inr (5, [.ref q1, .null]))], [(q1, .inr (10, [.int (nI 0), .ref (G.2.2.2 2), .int (nI 0)]))]]) C clX7 hW2 0 0 rfl rfl 0 (Nat.le_of_ble_eq_true rfl) rfl q1759 rfl (fun _ h => h) (Or.inr ⟨rfl, rfl⟩) (fty := (.object "java/util/List")) (v := .ref q1) (by decide +kernel) rfl rfl (Nat.le_of_ble_eq_true rfl) dX7_init_12 rfl (fun H3 locs3 hW3 => ?_)
  clear hW2
  refine lv_aload_n C.hx C.hb dX7_init_15 rfl (lv_at hl 0 rfl) ?_
  refine lv_aload_n C.hx C.hb dX7_init_16 rfl (lv_at hl 1 rfl) ?_
  refine k_put (S' := [[(a, .inr (5, [.ref q1, .ref st]))], [(q1, .inr (10, [.int (nI 0), .ref (G.2.2.2 2), .int (nI 0)]))]]) C clX7 hW3 0 0 rfl rfl 1 (Nat.le_of_ble_eq_true rfl) rfl q1761 rfl (fun _ h => h) (Or.inr ⟨rfl, rfl⟩) (fty := (.object "Bogsign$Stretch")) (v := .ref st) (by decide +kernel) rfl rfl (Nat.le_of_ble_eq_true rfl) dX7_init_17 rfl (fun H4 locs4 hW4 => ?_)
  clear hW3
  have hW5 : Ws G A s [[(a, .inr (5, [.ref q1, .ref st]))], [(q1, .inr (10, [.int (nI 0), .ref (G.2.2.2 2), .int (nI 0)]))]] H4 locs4 := hW4.pick 2 rfl [0, 1] (by decide) rfl
  clear hW4
  exact k_vret C hW5 rfl ⟨rfl, _, rfl⟩ (by omega) (by omega) dX7_init_20

def Q_ctX11_init (G : GT) (a r s1 w1 st ar : Nat) : Option Value → List va_W → Prop := fun v S1 => v = none ∧ S1 = [[(a, .inr (8, [.int (nI r), .int (nI s1), .int (nI w1), .int (nI st), .int (nI ar), .int (nI 0), .int (nI 0), .ref (G.2.2.2 15)]))]]
set_option maxHeartbeats 4000000 in
set_option maxRecDepth 100000 in
theorem ctX11_init (l : Launch) (G : GT) (a r s1 w1 st ar : Nat)  : Ct l G yX11_init cX11_init 6 none 1 20 0 0 [.ref a, .int (nI r), .int (nI s1), .int (nI w1), .int (nI st), .int (nI ar)] ([[(a, .inr (8, [.int 0, .int 0, .int 0, .int 0, .int 0, .int 0, .int 0, .null]))]]) noR (Q_ctX11_init G a r s1 w1 st ar) := by
  refine Ct.of (by decide +kernel) (Nat.le_of_ble_eq_true rfl) ?_
  intro p e s m below meth c A ls C hW hRo hl
  have hl : lv_has ls 6 [(0, .ref a), (1, .int (nI r)), (2, .int (nI s1)), (3, .int (nI w1)), (4, .int (nI st)), (5, .int (nI ar))] := hl
  refine lv_aload_n C.hx C.hb dX11_init_0 rfl (lv_at hl 0 rfl) ?_
  refine W.objInit C.hx C.hb C.hown (C.hts _ q2182) (C.hts _ q133) (C.hts _ q134) rfl (by rw [C.hml]; exact hl.1) rfl dX11_init_1 (Nat.le_of_ble_eq_true rfl) (Nat.le_of_ble_eq_true rfl) ?_
  refine W.eq (g2 := F0 m 4 ls []) rfl ?_
  refine lv_aload_n C.hx C.hb dX11_init_4 rfl (lv_at hl 0 rfl) ?_
  refine k_ldcS C (List.mem_of_getElem? (i := 5) rfl) rfl dX11_init_5 ?_
  refine k_put (S' := [[(a, .inr (8, [.int 0, .int 0, .int 0, .int 0, .int 0, .int 0, .int 0, .ref (G.2.2.2 15)]))]]) C clX11 hW 0 0 rfl rfl 7 (Nat.le_of_ble_eq_true rfl) rfl q2196 rfl (fun _ h => h) (Or.inr ⟨rfl, rfl⟩) (fty := (.object "java/lang/String")) (v := .ref (G.2.2.2 15)) (by decide +kernel) rfl rfl (Nat.le_of_ble_eq_true rfl) dX11_init_7 rfl (fun H1 locs1 hW1 => ?_)
  clear hW
  refine lv_aload_n C.hx C.hb dX11_init_10 rfl (lv_at hl 0 rfl) ?_
  refine lv_iload_n C.hx C.hb dX11_init_11 rfl (lv_at hl 1 rfl) ?_
  refine k_put (S' := [[(a, .inr (8, [.int (nI r), .int 0, .int 0, .int 0, .int 0, .int 0, .int 0, .ref (G.2.2.2 15)]))]]) C clX11 hW1 0 0 rfl rfl 0 (Nat.le_of_ble_eq_true rfl) rfl q2184 rfl (fun _ h => h) (Or.inr ⟨rfl, rfl⟩) (fty := .int) (v := .int (nI r)) (by decide +kernel) rfl rfl (Nat.le_of_ble_eq_true rfl) dX11_init_12 rfl (fun H2 locs2 hW2 => ?_)
  clear hW1
  refine lv_aload_n C.hx C.hb dX11_init_15 rfl (lv_at hl 0 rfl) ?_
  refine lv_iload_n C.hx C.hb dX11_init_16 rfl (lv_at hl 2 rfl) ?_
  refine k_put (S' := [[(a, .inr (8, [.int (nI r), .int (nI s1), .int 0, .int 0, .int 0, .int 0, .int 0, .ref (G.2.2.2 15)]))]]) C clX11 hW2 0 0 rfl rfl 1 (Nat.le_of_ble_eq_true rfl) rfl q2186 rfl (fun _ h => h) (Or.inr ⟨rfl, rfl⟩) (fty := .int) (v := .int (nI s1)) (by decide +kernel) rfl rfl (Nat.le_of_ble_eq_true rfl) dX11_init_17 rfl (fun H3 locs3 hW3 => ?_)
  clear hW2
  refine lv_aload_n C.hx C.hb dX11_init_20 rfl (lv_at hl 0 rfl) ?_
  refine lv_iload_n C.hx C.hb dX11_init_21 rfl (lv_at hl 3 rfl) ?_
  refine k_put (S' := [[(a, .inr (8, [.int (nI r), .int (nI s1), .int (nI w1), .int 0, .int 0, .int 0, .int 0, .ref (G.2.2.2 15)]))]]) C clX11 hW3 0 0 rfl rfl 2 (Nat.le_of_ble_eq_true rfl) rfl q2188 rfl (fun _ h => h) (Or.inr ⟨rfl, rfl⟩) (fty := .int) (v := .int (nI w1)) (by decide +kernel) rfl rfl (Nat.le_of_ble_eq_true rfl) dX11_init_22 rfl (fun H4 locs4 hW4 => ?_)
  clear hW3
  refine lv_aload_n C.hx C.hb dX11_init_25 rfl (lv_at hl 0 rfl) ?_
  refine lv_iload C.hx C.hb dX11_init_26 (lv_at hl 4 rfl) ?_
  refine k_put (S' := [[(a, .inr (8, [.int (nI r), .int (nI s1), .int (nI w1), .int (nI st), .int 0, .int 0, .int 0, .ref (G.2.2.2 15)]))]]) C clX11 hW4 0 0 rfl rfl 3 (Nat.le_of_ble_eq_true rfl) rfl q2190 rfl (fun _ h => h) (Or.inr ⟨rfl, rfl⟩) (fty := .int) (v := .int (nI st)) (by decide +kernel) rfl rfl (Nat.le_of_ble_eq_true rfl) dX11_init_28 rfl (fun H5 locs5 hW5 => ?_)
  clear hW4
  refine lv_aload_n C.hx C.hb dX11_init_31 rfl (lv_at hl 0 rfl) ?_
  refine lv_iload C.hx C.hb dX11_init_32 (lv_at hl 5 rfl) ?_
  refine k_put (S' := [[(a, .inr (8, [.int (nI r), .int (nI s1), .int (nI w1), .int (nI st), .int (nI ar), .int 0, .int 0, .ref (G.2.2.2 15)]))]]) C clX11 hW5 0 0 rfl rfl 4 (Nat.le_of_ble_eq_true rfl) rfl q2192 rfl (fun _ h => h) (Or.inr ⟨rfl, rfl⟩) (fty := .int) (v := .int (nI ar)) (by decide +kernel) rfl rfl (Nat.le_of_ble_eq_true rfl) dX11_init_34 rfl (fun H6 locs6 hW6 => ?_)
  clear hW5
  exact k_vret C hW6 rfl ⟨rfl, rfl⟩ (Nat.le_refl _) (Nat.le_refl _) dX11_init_37

def Q_ctX2_init (G : GT) (a n : Nat) : Option Value → List va_W → Prop := fun v S1 => v = none ∧ ∃ lb lp, S1 = [[(a, .inr (1, [.int (nI n), .ref lb, .ref lp, .int (nI 5), .int (nI 0), .int (nI 0), .int (nI 0), .ref (G.2.2.2 1)]))], llK lb (nI 0) 0 [], alW G lp 0 0 (nI 0) 0 []]
set_option maxHeartbeats 4000000 in
set_option maxRecDepth 100000 in
theorem ctX2_init (l : Launch) (G : GT) (a n : Nat)  : Ct l G yX2_init cX2_init 2 none 5 100 2 7 [.ref a, .int (nI n)] ([[(a, .inr (1, [.int 0, .null, .null, .int 0, .int 0, .int 0, .int 0, .null]))]]) noR (Q_ctX2_init G a n) := by
  refine Ct.of (by decide +kernel) (Nat.le_of_ble_eq_true rfl) ?_
  intro p e s m below meth c A ls C hW hRo hl
  have hl : lv_has ls 2 [(0, .ref a), (1, .int (nI n))] := hl
  refine lv_aload_n C.hx C.hb dX2_init_0 rfl (lv_at hl 0 rfl) ?_
  refine W.objInit C.hx C.hb C.hown (C.hts _ q253) (C.hts _ q133) (C.hts _ q134) rfl (by rw [C.hml]; exact hl.1) rfl dX2_init_1 (Nat.le_of_ble_eq_true rfl) (Nat.le_of_ble_eq_true rfl) ?_
  refine W.eq (g2 := F0 m 4 ls []) rfl ?_
  refine lv_aload_n C.hx C.hb dX2_init_4 rfl (lv_at hl 0 rfl) ?_
  refine k_new (fs := [.int 0, .int 0, .null, .null]) C clJ8 hW q254 rfl q255 q82 (fun j hj => (by have := co_dec (P := fun j => defaultValue (tyJ8 j) = vp_V [.int 0, .int 0, .null, .null] j) (N := 4) (by decide +kernel) hj; exact this)) (show 0 + 1 ≤ 2 by omega) (show 0 + 4 ≤ 7 by omega) dX2_init_5 (fun q1 H1 hW1 => ?_)
  have hW1 : Ws G A s [[(a, .inr (1, [.int 0, .null, .null, .int 0, .int 0, .int 0, .int 0, .null]))], [(q1, .inr (14, [.int 0, .int 0, .null, .null]))]] H1 [] := hW1
  clear hW
  refine lv_dup C.hx C.hb dX2_init_8 rfl ?_
  refine k_callI (Sc := [[(q1, .inr (14, [.int 0, .int 0, .null, .null]))]]) (Sr := [[(a, .inr (1, [.int 0, .null, .null, .int 0, .int 0, .int 0, .int 0, .null]))]]) (As := []) (rest := [.ref q1, .ref a]) C (ctJ8_init l G q1) hW1 q256 q257 q82 q258 rfl rfl ⟨by decide, by decide, Eq.trans (b := some 0) (by decide +kernel) rfl⟩ (Nat.le_of_ble_eq_true rfl) (Nat.le_of_ble_eq_true rfl) (show 1 + 0 ≤ 2 by omega) (show 4 + 0 ≤ 7 by omega) hl.1 rfl (Nat.le_of_ble_eq_true rfl) dX2_init_9 ((pick_perm [[(a, .inr (1, [.int 0, .null, .null, .int 0, .int 0, .int 0, .int 0, .null]))], [(q1, .inr (14, [.int 0, .int 0, .null, .null]))]] 2 rfl (is := [0, 1]) (by decide)).flatten.symm) (fun _ h => h.elim) (fun v H2 locs2 S1 hQ hz2 hW2 => ?_)
  obtain ⟨rfl, rfl⟩ := hQ
  have hW2 : Ws G A s ([[(a, .inr (1, [.int 0, .null, .null, .int 0, .int 0, .int 0, .int 0, .null]))], [(q1, .inr (14, [.int (nI 0), .int (nI 0), .null, .null]))]]) H2 locs2 := hW2
  clear hW1
  refine W.eq (g2 := F0 m 12 ls [.ref q1, .ref a]) rfl ?_
  refine k_put (S' := [[(a, .inr (1, [.int 0, .ref q1, .null, .int 0, .int 0, .int 0, .int 0, .null]))], [(q1, .inr (14, [.int (nI 0), .int (nI 0), .null, .null]))]]) C clX2 hW2 0 0 rfl rfl 1 (Nat.le_of_ble_eq_true rfl) rfl q284 rfl (fun _ h => h) (Or.inr ⟨rfl, rfl⟩) (fty := (.object "java/util/LinkedList")) (v := .ref q1) (by decide +kernel) rfl rfl (Nat.le_of_ble_eq_true rfl) dX2_init_12 rfl (fun H3 locs3 hW3 => ?_)
  clear hW2
  refine lv_aload_n C.hx C.hb dX2_init_15 rfl (lv_at hl 0 rfl) ?_
  refine k_new (fs := [.int 0, .null, .int 0]) C clJ2 hW3 q275 rfl q138 q75 (fun j hj => (by have := co_dec (P := fun j => defaultValue (tyJ2 j) = vp_V [.int 0, .null, .int 0] j) (N := 3) (by decide +kernel) hj; exact this)) (show 1 + 1 ≤ 2 by omega) (show 4 + 3 ≤ 7 by omega) dX2_init_16 (fun q4 H4 hW4 => ?_)
  have hW4 : Ws G A s [[(a, .inr (1, [.int 0, .ref q1, .null, .int 0, .int 0, .int 0, .int 0, .null]))], [(q1, .inr (14, [.int (nI 0), .int (nI 0), .null, .null]))], [(q4, .inr (10, [.int 0, .null, .int 0]))]] H4 locs3 := hW4
  clear hW3
  refine lv_dup C.hx C.hb dX2_init_19 rfl ?_
  refine k_callI (Sc := [[(q4, .inr (10, [.int 0, .null, .int 0]))]]) (Sr := [[(a, .inr (1, [.int 0, .ref q1, .null, .int 0, .int 0, .int 0, .int 0, .null]))], [(q1, .inr (14, [.int (nI 0), .int (nI 0), .null, .null]))]]) (As := []) (rest := [.ref q4, .ref a]) C (ctJ2_init l G q4) hW4 q276 q140 q75 q141 rfl rfl ⟨by decide, by decide, Eq.trans (b := some 0) (by decide +kernel) rfl⟩ (Nat.le_of_ble_eq_true rfl) (Nat.le_of_ble_eq_true rfl) (show 2 + 0 ≤ 2 by omega) (show 7 + 0 ≤ 7 by omega) hl.1 rfl (Nat.le_of_ble_eq_true rfl) dX2_init_20 ((pick_perm [[(a, .inr (1, [.int 0, .ref q1, .null, .int 0, .int 0, .int 0, .int 0, .null]))], [(q1, .inr (14, [.int (nI 0), .int (nI 0), .null, .null]))], [(q4, .inr (10, [.int 0, .null, .int 0]))]] 3 rfl (is := [0, 1, 2]) (by decide)).flatten.symm) (fun _ h => h.elim) (fun v H5 locs5 S1 hQ hz5 hW5 => ?_)
  obtain ⟨rfl, rfl⟩ := hQ
  have hW5 : Ws G A s ([[(a, .inr (1, [.int 0, .ref q1, .null, .int 0, .int 0, .int 0, .int 0, .null]))], [(q1, .inr (14, [.int (nI 0), .int (nI 0), .null, .null]))], [(q4, .inr (10, [.int (nI 0), .ref (G.2.2.2 2), .int (nI 0)]))]]) H5 locs5 := hW5
  clear hW4
  refine W.eq (g2 := F0 m 23 ls [.ref q4, .ref a]) rfl ?_
  refine k_put (S' := [[(a, .inr (1, [.int 0, .ref q1, .ref q4, .int 0, .int 0, .int 0, .int 0, .null]))], [(q1, .inr (14, [.int (nI 0), .int (nI 0), .null, .null]))], [(q4, .inr (10, [.int (nI 0), .ref (G.2.2.2 2), .int (nI 0)]))]]) C clX2 hW5 0 0 rfl rfl 2 (Nat.le_of_ble_eq_true rfl) rfl q286 rfl (fun _ h => h) (Or.inr ⟨rfl, rfl⟩) (fty := (.object "java/util/List")) (v := .ref q4) (by decide +kernel) rfl rfl (Nat.le_of_ble_eq_true rfl) dX2_init_23 rfl (fun H6 locs6 hW6 => ?_)
  clear hW5
  refine lv_aload_n C.hx C.hb dX2_init_26 rfl (lv_at hl 0 rfl) ?_
  refine kn_iconst (a := 5) C (by decide) dX2_init_27 ?_
  refine k_put (S' := [[(a, .inr (1, [.int 0, .ref q1, .ref q4, .int (nI 5), .int 0, .int 0, .int 0, .null]))], [(q1, .inr (14, [.int (nI 0), .int (nI 0), .null, .null]))], [(q4, .inr (10, [.int (nI 0), .ref (G.2.2.2 2), .int (nI 0)]))]]) C clX2 hW6 0 0 rfl rfl 3 (Nat.le_of_ble_eq_true rfl) rfl q287 rfl (fun _ h => h) (Or.inr ⟨rfl, rfl⟩) (fty := .int) (v := .int (nI 5)) (by decide +kernel) rfl rfl (Nat.le_of_ble_eq_true rfl) dX2_init_28 rfl (fun H7 locs7 hW7 => ?_)
  clear hW6
  refine lv_aload_n C.hx C.hb dX2_init_31 rfl (lv_at hl 0 rfl) ?_
  refine k_callS (Sc := []) (Sr := [[(a, .inr (1, [.int 0, .ref q1, .ref q4, .int (nI 5), .int 0, .int 0, .int 0, .null]))], [(q1, .inr (14, [.int (nI 0), .int (nI 0), .null, .null]))], [(q4, .inr (10, [.int (nI 0), .ref (G.2.2.2 2), .int (nI 0)]))]]) (As := []) (rest := [.ref a]) C (ctJ9_empty l G) hW7 q277 q278 q83 q279 rfl ⟨by decide, by decide, Eq.trans (b := some 0) (by decide +kernel) rfl⟩ (Nat.le_of_ble_eq_true rfl) (Nat.le_of_ble_eq_true rfl) (show 2 + 0 ≤ 2 by omega) (show 7 + 0 ≤ 7 by omega) hl.1 rfl (Nat.le_of_ble_eq_true rfl) dX2_init_32 (k_permR _) (fun _ h => h.elim) (fun v H8 locs8 S1 hQ hz8 hW8 => ?_)
  obtain ⟨rfl, rfl⟩ := hQ
  have hW8 : Ws G A s ([[(a, .inr (1, [.int 0, .ref q1, .ref q4, .int (nI 5), .int 0, .int 0, .int 0, .null]))], [(q1, .inr (14, [.int (nI 0), .int (nI 0), .null, .null]))], [(q4, .inr (10, [.int (nI 0), .ref (G.2.2.2 2), .int (nI 0)]))]]) H8 locs8 := hW8
  clear hW7
  refine W.eq (g2 := F0 m 35 ls [.ref (G.2.2.2 1), .ref a]) rfl ?_
  refine k_put (S' := [[(a, .inr (1, [.int 0, .ref q1, .ref q4, .int (nI 5), .int 0, .int 0, .int 0, .ref (G.2.2.2 1)]))], [(q1, .inr (14, [.int (nI 0), .int (nI 0), .null, .null]))], [(q4, .inr (10, [.int (nI 0), .ref (G.2.2.2 2), .int (nI 0)]))]]) C clX2 hW8 0 0 rfl rfl 7 (Nat.le_of_ble_eq_true rfl) rfl q293 rfl (fun _ h => h) (Or.inr ⟨rfl, rfl⟩) (fty := (.object "java/util/Optional")) (v := .ref (G.2.2.2 1)) (by decide +kernel) rfl rfl (Nat.le_of_ble_eq_true rfl) dX2_init_35 rfl (fun H9 locs9 hW9 => ?_)
  clear hW8
  refine lv_aload_n C.hx C.hb dX2_init_38 rfl (lv_at hl 0 rfl) ?_
  refine lv_iload_n C.hx C.hb dX2_init_39 rfl (lv_at hl 1 rfl) ?_
  refine k_put (S' := [[(a, .inr (1, [.int (nI n), .ref q1, .ref q4, .int (nI 5), .int 0, .int 0, .int 0, .ref (G.2.2.2 1)]))], [(q1, .inr (14, [.int (nI 0), .int (nI 0), .null, .null]))], [(q4, .inr (10, [.int (nI 0), .ref (G.2.2.2 2), .int (nI 0)]))]]) C clX2 hW9 0 0 rfl rfl 0 (Nat.le_of_ble_eq_true rfl) rfl q282 rfl (fun _ h => h) (Or.inr ⟨rfl, rfl⟩) (fty := .int) (v := .int (nI n)) (by decide +kernel) rfl rfl (Nat.le_of_ble_eq_true rfl) dX2_init_40 rfl (fun H10 locs10 hW10 => ?_)
  clear hW9
  have hW11 : Ws G A s [[(a, .inr (1, [.int (nI n), .ref q1, .ref q4, .int (nI 5), .int 0, .int 0, .int 0, .ref (G.2.2.2 1)]))], [(q1, .inr (14, [.int (nI 0), .int (nI 0), .null, .null]))], [(q4, .inr (10, [.int (nI 0), .ref (G.2.2.2 2), .int (nI 0)]))]] H10 locs10 := hW10.pick 3 rfl [0, 1, 2] (by decide) rfl
  clear hW10
  exact k_vret C hW11 rfl ⟨rfl, _, _, rfl⟩ (by omega) (by omega) dX2_init_43

