def Q_ctX1_isIn (G : GT) (x lo hi : Int32) : Option Value → List va_W → Prop := fun v S1 => v = some (.int (b01 (lo ≤ x ∧ x ≤ hi))) ∧ S1 = []
set_option maxHeartbeats 4000000 in
set_option maxRecDepth 100000 in
theorem ctX1_isIn (l : Launch) (G : GT) (x lo hi : Int32)  : Ct l G yX1_isIn cX1_isIn 3 (some .boolean) 0 0 0 0 [.int x, .int lo, .int hi] ([]) noR (Q_ctX1_isIn G x lo hi) := by
  refine Ct.of (by decide +kernel) (Nat.le_of_ble_eq_true rfl) ?_
  intro p e s m below meth c A ls C hW hRo hl
  have hl : lv_has ls 3 [(0, .int x), (1, .int lo), (2, .int hi)] := hl
  refine lv_iload_n C.hx C.hb dX1_isIn_0 rfl (lv_at hl 0 rfl) ?_
  refine lv_iload_n C.hx C.hb dX1_isIn_1 rfl (lv_at hl 1 rfl) ?_
  refine lv_icmp_lt (tgt := 14) C.hx C.hb dX1_isIn_2 (by decide) (fun c2 => ?_) (fun c2 => ?_)
  · refine kn_iconst (a := 0) C (by decide) dX1_isIn_14 ?_
    exact k_zret C hW rfl (by decide) ⟨by rw [b01_f (fun q => Int32.not_lt.mpr q.1 (by assumption))]; rfl, rfl⟩ (Nat.le_refl _) (Nat.le_refl _) dX1_isIn_15
  · refine lv_iload_n C.hx C.hb dX1_isIn_5 rfl (lv_at hl 0 rfl) ?_
    refine lv_iload_n C.hx C.hb dX1_isIn_6 rfl (lv_at hl 2 rfl) ?_
    refine lv_icmp_gt (tgt := 14) C.hx C.hb dX1_isIn_7 (by decide) (fun c7 => ?_) (fun c7 => ?_)
    · refine kn_iconst (a := 0) C (by decide) dX1_isIn_14 ?_
      exact k_zret C hW rfl (by decide) ⟨by rw [b01_f (fun q => Int32.not_lt.mpr q.2 (by assumption))]; rfl, rfl⟩ (Nat.le_refl _) (Nat.le_refl _) dX1_isIn_15
    · refine kn_iconst (a := 1) C (by decide) dX1_isIn_10 ?_
      refine lv_goto (tgt := 15) C.hx C.hb dX1_isIn_11 (by decide) ?_
      exact k_zret C hW rfl (by decide) ⟨by rw [b01_t ⟨Int32.not_lt.mp (by assumption), Int32.not_lt.mp (by assumption)⟩]; rfl, rfl⟩ (Nat.le_refl _) (Nat.le_refl _) dX1_isIn_15

def Q_ctX1_requireIndex (G : GT) (P : Prop) (hdec : Decidable P) : Option Value → List va_W → Prop := fun v S1 => v = none ∧ S1 = []
set_option maxHeartbeats 4000000 in
set_option maxRecDepth 100000 in
theorem ctX1_requireIndex (l : Launch) (G : GT) (P : Prop) (hdec : Decidable P) (hP : P) : Ct l G yX1_requireIndex cX1_requireIndex 1 none 0 0 0 0 [.int (b01 P)] ([]) noR (Q_ctX1_requireIndex G P hdec) := by
  refine Ct.of (by decide +kernel) (Nat.le_of_ble_eq_true rfl) ?_
  intro p e s m below meth c A ls C hW hRo hl
  have hl : lv_has ls 1 [(0, .int (b01 P))] := hl
  refine lv_iload_n C.hx C.hb dX1_requireIndex_0 rfl (lv_at hl 0 rfl) ?_
  refine kb_if_ne (tgt := 12) C dX1_requireIndex_1 (by decide) (fun c1 => ?_) (fun c1 => (absurd hP (by assumption)))
  exact k_vret C hW rfl ⟨rfl, rfl⟩ (Nat.le_refl _) (Nat.le_refl _) dX1_requireIndex_12

set_option maxHeartbeats 4000000 in
set_option maxRecDepth 100000 in
theorem xtX1_requireIndex (l : Launch) (hfl : l.stackTraces = false) (G : GT) (P : Prop) (hdec : Decidable P) (hP : ¬ P) : CtX l G yX1_requireIndex cX1_requireIndex 1 none 6 110 1 6 [.int (b01 P)] noR "java/lang/IndexOutOfBoundsException" := by
  refine CtX.of (by decide +kernel) (Nat.le_of_ble_eq_true rfl) ?_
  intro p e s m below meth c A ls C hnx hW hRo hl
  have hl : lv_has ls 1 [(0, .int (b01 P))] := hl
  refine lv_iload_n C.hx C.hb dX1_requireIndex_0 rfl (lv_at hl 0 rfl) ?_
  refine kb_if_ne (tgt := 12) C dX1_requireIndex_1 (by decide) (fun c1 => (absurd (by assumption) hP)) (fun c1 => ?_)
  exact k_throw C hfl hnx hW xIOB rfl hl.1 dX1_requireIndex_4 dX1_requireIndex_7 dX1_requireIndex_8 dX1_requireIndex_11 (Nat.le_of_ble_eq_true rfl) (Nat.le_of_ble_eq_true rfl) (show 0 + 1 ≤ 1 by omega) (show 0 + 6 ≤ 6 by omega) (by omega) (by omega) (Nat.le_of_ble_eq_true rfl)

def Q_ctX1_requireArgument (G : GT) (P : Prop) (hdec : Decidable P) : Option Value → List va_W → Prop := fun v S1 => v = none ∧ S1 = []
set_option maxHeartbeats 4000000 in
set_option maxRecDepth 100000 in
theorem ctX1_requireArgument (l : Launch) (G : GT) (P : Prop) (hdec : Decidable P) (hP : P) : Ct l G yX1_requireArgument cX1_requireArgument 1 none 0 0 0 0 [.int (b01 P)] ([]) noR (Q_ctX1_requireArgument G P hdec) := by
  refine Ct.of (by decide +kernel) (Nat.le_of_ble_eq_true rfl) ?_
  intro p e s m below meth c A ls C hW hRo hl
  have hl : lv_has ls 1 [(0, .int (b01 P))] := hl
  refine lv_iload_n C.hx C.hb dX1_requireArgument_0 rfl (lv_at hl 0 rfl) ?_
  refine kb_if_ne (tgt := 12) C dX1_requireArgument_1 (by decide) (fun c1 => ?_) (fun c1 => (absurd hP (by assumption)))
  exact k_vret C hW rfl ⟨rfl, rfl⟩ (Nat.le_refl _) (Nat.le_refl _) dX1_requireArgument_12

set_option maxHeartbeats 4000000 in
set_option maxRecDepth 100000 in
theorem xtX1_requireArgument (l : Launch) (hfl : l.stackTraces = false) (G : GT) (P : Prop) (hdec : Decidable P) (hP : ¬ P) : CtX l G yX1_requireArgument cX1_requireArgument 1 none 6 110 1 6 [.int (b01 P)] noR "java/lang/IllegalArgumentException" := by
  refine CtX.of (by decide +kernel) (Nat.le_of_ble_eq_true rfl) ?_
  intro p e s m below meth c A ls C hnx hW hRo hl
  have hl : lv_has ls 1 [(0, .int (b01 P))] := hl
  refine lv_iload_n C.hx C.hb dX1_requireArgument_0 rfl (lv_at hl 0 rfl) ?_
  refine kb_if_ne (tgt := 12) C dX1_requireArgument_1 (by decide) (fun c1 => (absurd (by assumption) hP)) (fun c1 => ?_)
  exact k_throw C hfl hnx hW xIAE rfl hl.1 dX1_requireArgument_4 dX1_requireArgument_7 dX1_requireArgument_8 dX1_requireArgument_11 (Nat.le_of_ble_eq_true rfl) (Nat.le_of_ble_eq_true rfl) (show 0 + 1 ≤ 1 by omega) (show 0 + 6 ≤ 6 by omega) (by omega) (by omega) (Nat.le_of_ble_eq_true rfl)

def Q_ctX1_requireState (G : GT) (P : Prop) (hdec : Decidable P) : Option Value → List va_W → Prop := fun v S1 => v = none ∧ S1 = []
set_option maxHeartbeats 4000000 in
set_option maxRecDepth 100000 in
theorem ctX1_requireState (l : Launch) (G : GT) (P : Prop) (hdec : Decidable P) (hP : P) : Ct l G yX1_requireState cX1_requireState 1 none 0 0 0 0 [.int (b01 P)] ([]) noR (Q_ctX1_requireState G P hdec) := by
  refine Ct.of (by decide +kernel) (Nat.le_of_ble_eq_true rfl) ?_
  intro p e s m below meth c A ls C hW hRo hl
  have hl : lv_has ls 1 [(0, .int (b01 P))] := hl
  refine lv_iload_n C.hx C.hb dX1_requireState_0 rfl (lv_at hl 0 rfl) ?_
  refine kb_if_ne (tgt := 12) C dX1_requireState_1 (by decide) (fun c1 => ?_) (fun c1 => (absurd hP (by assumption)))
  exact k_vret C hW rfl ⟨rfl, rfl⟩ (Nat.le_refl _) (Nat.le_refl _) dX1_requireState_12

set_option maxHeartbeats 4000000 in
set_option maxRecDepth 100000 in
theorem xtX1_requireState (l : Launch) (hfl : l.stackTraces = false) (G : GT) (P : Prop) (hdec : Decidable P) (hP : ¬ P) : CtX l G yX1_requireState cX1_requireState 1 none 6 110 1 6 [.int (b01 P)] noR "java/lang/IllegalStateException" := by
  refine CtX.of (by decide +kernel) (Nat.le_of_ble_eq_true rfl) ?_
  intro p e s m below meth c A ls C hnx hW hRo hl
  have hl : lv_has ls 1 [(0, .int (b01 P))] := hl
  refine lv_iload_n C.hx C.hb dX1_requireState_0 rfl (lv_at hl 0 rfl) ?_
  refine kb_if_ne (tgt := 12) C dX1_requireState_1 (by decide) (fun c1 => (absurd (by assumption) hP)) (fun c1 => ?_)
  exact k_throw C hfl hnx hW xISE rfl hl.1 dX1_requireState_4 dX1_requireState_7 dX1_requireState_8 dX1_requireState_11 (Nat.le_of_ble_eq_true rfl) (Nat.le_of_ble_eq_true rfl) (show 0 + 1 ≤ 1 by omega) (show 0 + 6 ≤ 6 by omega) (by omega) (by omega) (Nat.le_of_ble_eq_true rfl)

