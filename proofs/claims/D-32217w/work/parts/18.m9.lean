def Q_ctX4_deepest (G : GT) (h : Nat) (ad : Nat → Nat) (σ : Sg) (s1 : Nat) : Option Value → List va_W → Prop := fun v S1 => v = some (.int (nI (deepN σ s1 (σ 32 0)))) ∧ S1 = mW G h ad σ
set_option maxHeartbeats 4000000 in
set_option maxRecDepth 100000 in
theorem ctX4_deepest (l : Launch) (G : GT) (h : Nat) (ad : Nat → Nat) (σ : Sg) (s1 : Nat) (hS : Sf σ) (hs1 : s1 < 12) : Ct l G yX4_deepest cX4_deepest 5 (some .int) 0 0 0 0 [.ref h, .int (nI s1)] (mW G h ad σ) noR (Q_ctX4_deepest G h ad σ s1) := by
  refine Ct.of (by decide +kernel) (Nat.le_of_ble_eq_true rfl) ?_
  intro p e s m below meth c A ls C hW hRo hl
  have hl : lv_has ls 5 [(0, .ref h), (1, .int (nI s1))] := hl
  have hB : Bd σ := hS.1
  have h32 : σ 32 0 ≤ 200 := Nat.lt_succ_iff.mp (hB.lt 32 (by decide) 0)
  have h34 : σ 34 0 ≤ 480 := Nat.lt_succ_iff.mp (hB.lt 34 (by decide) 0)
  have h35 : σ 35 0 ≤ 64 := Nat.lt_succ_iff.mp (hB.lt 35 (by decide) 0)
  have h36 : σ 36 0 ≤ 60 := Nat.lt_succ_iff.mp (hB.lt 36 (by decide) 0)
  have h30 : σ 30 0 ≤ 5000 := Nat.lt_succ_iff.mp (hB.lt 30 (by decide) 0)
  refine kn_lconst (a := 0) C rfl dX4_deepest_0 ?_
  refine lv_lstore_n (lv' := [(2, .long (lN 0)), (0, .ref h), (1, .int (nI s1))]) C.hx C.hb dX4_deepest_1 rfl hl (Nat.le_of_ble_eq_true rfl) rfl (fun ls1 hl1 => ?_)
  clear hl
  refine kn_iconst (a := 0) C (by decide) dX4_deepest_2 ?_
  refine lv_istore (lv' := [(4, .int (nI 0)), (2, .long (lN 0)), (0, .ref h), (1, .int (nI s1))]) C.hx C.hb dX4_deepest_3 hl1 (Nat.le_of_ble_eq_true rfl) rfl (fun ls2 hl2 => ?_)
  clear hl1
  have La : ∀ (k3 : Nat) (b : Nat), (b ≤ σ 32 0) → σ 32 0 - b < k3 → ∀ (H3 : Heap) (locs3 : List Loc) (ls3 : Array Slot), Ws G A s (mW G h ad σ) H3 locs3 → lv_has ls3 5 [(2, .long (lN (deepN σ s1 b))), (4, .int (nI b)), (0, .ref h), (1, .int (nI s1))] → W p l e ({ frames := 0, cells := 0, slots := 0, locals := 0 } : Room) s m ([.ref h, .int (nI s1)] : List Value).toArray below meth c H3 locs3 0 0 (MQ below (cQ G A (Q_ctX4_deepest G h ad σ s1)) ([.ref h, .int (nI s1)] : List Value).toArray s 0 0 A) (F0 m 5 ls3 []) := by
    intro k3
    induction k3 with
    | zero => intro b hLa_0 hm3; exact absurd hm3 (Nat.not_lt_zero _)
    | succ k3 ih3 =>
      intro b hLa_0 hm3 H3 locs3 ls3 hW3 hl3
      refine lv_iload C.hx C.hb dX4_deepest_5 (lv_at hl3 1 rfl) ?_
      refine lv_aload_n C.hx C.hb dX4_deepest_7 rfl (lv_at hl3 2 rfl) ?_
      refine k_get (v := .int (nI (σ 32 0))) C clX4 (hW3.get 0 0 rfl rfl) 32 (Nat.le_of_ble_eq_true rfl) rfl q2356 rfl rfl dX4_deepest_8 ?_
      refine kn_icmp_ge (tgt := 62) C (by omega) (Nat.lt_of_lt_of_le (hB.lt 32 (by decide) 0) (by decide)) dX4_deepest_11 (by decide) (fun c11 => ?_) (fun c11 => ?_)
      · refine lv_lload_n C.hx C.hb dX4_deepest_62 rfl (lv_at hl3 0 rfl) ?_
        refine kn_l2i C dX4_deepest_63 ?_
        exact k_iret C hW3 rfl ⟨by rw [show b = σ 32 0 by omega], rfl⟩ (Nat.le_refl _) (Nat.le_refl _) dX4_deepest_64
      · refine lv_aload_n C.hx C.hb dX4_deepest_14 rfl (lv_at hl3 2 rfl) ?_
        refine k_get (v := .ref (ad 7)) C clX4 (hW3.get 0 0 rfl rfl) 7 (Nat.le_of_ble_eq_true rfl) rfl q2331 rfl rfl dX4_deepest_15 ?_
        refine lv_iload C.hx C.hb dX4_deepest_18 (lv_at hl3 1 rfl) ?_
        refine k_iald C (f := (fun i => nI (σ 7 i))) rfl (hW3.get 8 0 rfl rfl) (by omega) (by decide) dX4_deepest_20 ?_
        refine kn_iconst (a := 2) C (by decide) dX4_deepest_21 ?_
        refine kn_icmp_ne (tgt := 56) C (Nat.lt_of_lt_of_le (hB.lt 7 (by decide) b) (by decide)) (by decide) dX4_deepest_22 (by decide) (fun c22 => ?_) (fun c22 => ?_)
        · refine kn_iinc (lv' := [(4, .int (nI (b + 1))), (2, .long (lN (deepN σ s1 b))), (0, .ref h), (1, .int (nI s1))]) (k := 1) C dX4_deepest_56 hl3 rfl (Nat.le_of_ble_eq_true rfl) rfl (fun ls4 hl4 => ?_)
          clear hl3
          refine lv_goto (tgt := 5) C.hx C.hb dX4_deepest_59 (by decide) ?_
          have e5 : (deepN σ s1 (b + 1)) = (deepN σ s1 b) := by first | rfl | (rw [deepN_succ]; simp [c11, c22])
          exact ih3 (b + 1) (by omega) (by omega) _ _ _ hW3 (by rw [e5]; exact (lv_sub hl4 [1, 0, 2, 3] rfl))
        · refine lv_aload_n C.hx C.hb dX4_deepest_25 rfl (lv_at hl3 2 rfl) ?_
          refine k_get (v := .ref (ad 8)) C clX4 (hW3.get 0 0 rfl rfl) 8 (Nat.le_of_ble_eq_true rfl) rfl q2332 rfl rfl dX4_deepest_26 ?_
          refine lv_iload C.hx C.hb dX4_deepest_29 (lv_at hl3 1 rfl) ?_
          refine k_iald C (f := (fun i => nI (σ 8 i))) rfl (hW3.get 9 0 rfl rfl) (by omega) (by decide) dX4_deepest_31 ?_
          refine lv_iload_n C.hx C.hb dX4_deepest_32 rfl (lv_at hl3 3 rfl) ?_
          refine kw_icmp_ne (tgt := 56) C (Nat.lt_of_lt_of_le (hB.lt 8 (by decide) b) (by decide)) (by omega) dX4_deepest_33 (by decide) (fun c33 => ?_) (fun c33 => ?_)
          · refine kn_iinc (lv' := [(4, .int (nI (b + 1))), (2, .long (lN (deepN σ s1 b))), (0, .ref h), (1, .int (nI s1))]) (k := 1) C dX4_deepest_56 hl3 rfl (Nat.le_of_ble_eq_true rfl) rfl (fun ls6 hl6 => ?_)
            clear hl3
            refine lv_goto (tgt := 5) C.hx C.hb dX4_deepest_59 (by decide) ?_
            have e7 : (deepN σ s1 (b + 1)) = (deepN σ s1 b) := by first | rfl | (rw [deepN_succ]; simp [c11, c22, c33])
            exact ih3 (b + 1) (by omega) (by omega) _ _ _ hW3 (by rw [e7]; exact (lv_sub hl6 [1, 0, 2, 3] rfl))
          · refine lv_aload_n C.hx C.hb dX4_deepest_36 rfl (lv_at hl3 2 rfl) ?_
            refine k_get (v := .ref (ad 11)) C clX4 (hW3.get 0 0 rfl rfl) 11 (Nat.le_of_ble_eq_true rfl) rfl q2335 rfl rfl dX4_deepest_37 ?_
            refine lv_iload C.hx C.hb dX4_deepest_40 (lv_at hl3 1 rfl) ?_
            refine k_lald C (f := (fun i => lN (σ 11 i))) rfl (hW3.get 12 0 rfl rfl) (by omega) (by decide) dX4_deepest_42 ?_
            refine lv_lload_n C.hx C.hb dX4_deepest_43 rfl (lv_at hl3 0 rfl) ?_
            refine kl_le (tgt := 56) C (Nat.lt_of_lt_of_le (hB.lt 11 (by decide) b) (by decide)) (Nat.lt_trans (deepN_lt hB s1 b) (by decide)) dX4_deepest_44 dX4_deepest_45 (by decide) (fun c44 => ?_) (fun c44 => ?_)
            · refine kn_iinc (lv' := [(4, .int (nI (b + 1))), (2, .long (lN (deepN σ s1 b))), (0, .ref h), (1, .int (nI s1))]) (k := 1) C dX4_deepest_56 hl3 rfl (Nat.le_of_ble_eq_true rfl) rfl (fun ls8 hl8 => ?_)
              clear hl3
              refine lv_goto (tgt := 5) C.hx C.hb dX4_deepest_59 (by decide) ?_
              have e9 : (deepN σ s1 (b + 1)) = (deepN σ s1 b) := by first | rfl | (rw [deepN_succ]; simp [c11, c22, c33, Nat.not_lt.mpr c44])
              exact ih3 (b + 1) (by omega) (by omega) _ _ _ hW3 (by rw [e9]; exact (lv_sub hl8 [1, 0, 2, 3] rfl))
            · refine lv_aload_n C.hx C.hb dX4_deepest_48 rfl (lv_at hl3 2 rfl) ?_
              refine k_get (v := .ref (ad 11)) C clX4 (hW3.get 0 0 rfl rfl) 11 (Nat.le_of_ble_eq_true rfl) rfl q2335 rfl rfl dX4_deepest_49 ?_
              refine lv_iload C.hx C.hb dX4_deepest_52 (lv_at hl3 1 rfl) ?_
              refine k_lald C (f := (fun i => lN (σ 11 i))) rfl (hW3.get 12 0 rfl rfl) (by omega) (by decide) dX4_deepest_54 ?_
              refine lv_lstore_n (lv' := [(2, .long (lN (σ 11 b))), (4, .int (nI b)), (0, .ref h), (1, .int (nI s1))]) C.hx C.hb dX4_deepest_55 rfl hl3 (Nat.le_of_ble_eq_true rfl) rfl (fun ls10 hl10 => ?_)
              clear hl3
              refine kn_iinc (lv' := [(4, .int (nI (b + 1))), (2, .long (lN (σ 11 b))), (0, .ref h), (1, .int (nI s1))]) (k := 1) C dX4_deepest_56 hl10 rfl (Nat.le_of_ble_eq_true rfl) rfl (fun ls11 hl11 => ?_)
              clear hl10
              refine lv_goto (tgt := 5) C.hx C.hb dX4_deepest_59 (by decide) ?_
              have e12 : (deepN σ s1 (b + 1)) = (σ 11 b) := by first | rfl | (rw [deepN_succ]; simp [c11, c22, c33, Nat.lt_of_not_le c44])
              exact ih3 (b + 1) (by omega) (by omega) _ _ _ hW3 (by rw [e12]; exact (lv_sub hl11 [1, 0, 2, 3] rfl))
  have e13 : (deepN σ s1 0) = 0 := by first | rfl | (rw [deepN_succ]; simp [])
  exact La (σ 32 0 - 0 + 1) 0 (Nat.zero_le _) (Nat.lt_succ_self _) _ _ _ hW (by rw [e13]; exact (lv_sub hl2 [1, 0, 2, 3] rfl))

def Q_ctX4_guess (G : GT) (h : Nat) (ad : Nat → Nat) (σ : Sg) (s1 : Nat) : Option Value → List va_W → Prop := fun v S1 => v = some (.int (nI (guessF σ s1))) ∧ S1 = mW G h ad σ
set_option maxHeartbeats 4000000 in
set_option maxRecDepth 100000 in
theorem ctX4_guess (l : Launch) (G : GT) (h : Nat) (ad : Nat → Nat) (σ : Sg) (s1 : Nat) (hS : Sf σ) (hs1 : s1 < 12) : Ct l G yX4_guess cX4_guess 5 (some .int) 1 22 0 0 [.ref h, .int (nI s1)] (mW G h ad σ) noR (Q_ctX4_guess G h ad σ s1) := by
  refine Ct.of (by decide +kernel) (Nat.le_of_ble_eq_true rfl) ?_
  intro p e s m below meth c A ls C hW hRo hl
  have hl : lv_has ls 5 [(0, .ref h), (1, .int (nI s1))] := hl
  have hB : Bd σ := hS.1
  have h32 : σ 32 0 ≤ 200 := Nat.lt_succ_iff.mp (hB.lt 32 (by decide) 0)
  have h34 : σ 34 0 ≤ 480 := Nat.lt_succ_iff.mp (hB.lt 34 (by decide) 0)
  have h35 : σ 35 0 ≤ 64 := Nat.lt_succ_iff.mp (hB.lt 35 (by decide) 0)
  have h36 : σ 36 0 ≤ 60 := Nat.lt_succ_iff.mp (hB.lt 36 (by decide) 0)
  have h30 : σ 30 0 ≤ 5000 := Nat.lt_succ_iff.mp (hB.lt 30 (by decide) 0)
  refine lv_iconst (v := nI NONE) C.hx C.hb dX4_guess_0 (by decide) ?_
  refine lv_istore_n (lv' := [(2, .int (nI NONE)), (0, .ref h), (1, .int (nI s1))]) C.hx C.hb dX4_guess_1 rfl hl (Nat.le_of_ble_eq_true rfl) rfl (fun ls1 hl1 => ?_)
  clear hl
  refine kn_iconst (a := 0) C (by decide) dX4_guess_2 ?_
  refine lv_istore_n (lv' := [(3, .int (nI 0)), (2, .int (nI NONE)), (0, .ref h), (1, .int (nI s1))]) C.hx C.hb dX4_guess_3 rfl hl1 (Nat.le_of_ble_eq_true rfl) rfl (fun ls2 hl2 => ?_)
  clear hl1
  refine kn_iconst (a := 0) C (by decide) dX4_guess_4 ?_
  refine lv_istore (lv' := [(4, .int (nI 0)), (3, .int (nI 0)), (2, .int (nI NONE)), (0, .ref h), (1, .int (nI s1))]) C.hx C.hb dX4_guess_5 hl2 (Nat.le_of_ble_eq_true rfl) rfl (fun ls3 hl3 => ?_)
  clear hl2
  have La : ∀ (k4 : Nat) (m1 p1 p2 : Nat), (m1 ≤ σ 36 0) → ((p1, p2) = gsL σ s1 m1) → σ 36 0 - m1 < k4 → ∀ (H4 : Heap) (locs4 : List Loc) (ls4 : Array Slot), Ws G A s (mW G h ad σ) H4 locs4 → lv_has ls4 5 [(2, .int (nI p1)), (3, .int (nI p2)), (4, .int (nI m1)), (0, .ref h), (1, .int (nI s1))] → W p l e ({ frames := 1, cells := 0, slots := 0, locals := 22 } : Room) s m ([.ref h, .int (nI s1)] : List Value).toArray below meth c H4 locs4 0 0 (MQ below (cQ G A (Q_ctX4_guess G h ad σ s1)) ([.ref h, .int (nI s1)] : List Value).toArray s 0 0 A) (F0 m 7 ls4 []) := by
    intro k4
    induction k4 with
    | zero => intro m1 p1 p2 hLa_0 hLa_1 hm4; exact absurd hm4 (Nat.not_lt_zero _)
    | succ k4 ih4 =>
      intro m1 p1 p2 hLa_0 hLa_1 hm4 H4 locs4 ls4 hW4 hl4
      have hg := gsL_ok σ s1 m1 (by omega)
      rw [← hLa_1] at hg
      obtain ⟨g1, g2, g3⟩ := hg
      have p1w : p1 < 2 ^ 32 := by rcases g1 with q | q; rw [show p1 = NONE from q]; decide; have q2 : p1 < m1 := q; omega
      have g1 : p1 = NONE ∨ p1 < m1 := g1
      have g3 : p2 < 2 := g3
      have g2 : ¬ p2 = 0 → p1 < m1 := g2
      refine lv_iload C.hx C.hb dX4_guess_7 (lv_at hl4 2 rfl) ?_
      refine lv_aload_n C.hx C.hb dX4_guess_9 rfl (lv_at hl4 3 rfl) ?_
      refine k_get (v := .int (nI (σ 36 0))) C clX4 (hW4.get 0 0 rfl rfl) 36 (Nat.le_of_ble_eq_true rfl) rfl q2360 rfl rfl dX4_guess_10 ?_
      refine kn_icmp_ge (tgt := 90) C (by omega) (Nat.lt_of_lt_of_le (hB.lt 36 (by decide) 0) (by decide)) dX4_guess_13 (by decide) (fun c13 => ?_) (fun c13 => ?_)
      · refine lv_iload_n C.hx C.hb dX4_guess_90 rfl (lv_at hl4 1 rfl) ?_
        refine kn_if_eq (tgt := 111) C (by omega) dX4_guess_91 (by decide) (fun c91 => ?_) (fun c91 => ?_)
        · refine lv_aload_n C.hx C.hb dX4_guess_111 rfl (lv_at hl4 3 rfl) ?_
          refine k_get (v := .ref (ad 2)) C clX4 (hW4.get 0 0 rfl rfl) 2 (Nat.le_of_ble_eq_true rfl) rfl q2326 rfl rfl dX4_guess_112 ?_
          refine lv_iload_n C.hx C.hb dX4_guess_115 rfl (lv_at hl4 4 rfl) ?_
          refine k_iald C (f := (fun i => nI (σ 2 i))) rfl (hW4.get 3 0 rfl rfl) (by omega) (by decide) dX4_guess_116 ?_
          refine lv_iconst (v := nI NONE) C.hx C.hb dX4_guess_117 (by decide) ?_
          refine kw_icmp_ne (tgt := 125) C (Nat.lt_of_lt_of_le (hB.lt 2 (by decide) s1) (by decide)) (by decide) dX4_guess_118 (by decide) (fun c118 => ?_) (fun c118 => ?_)
          · refine lv_aload_n C.hx C.hb dX4_guess_125 rfl (lv_at hl4 3 rfl) ?_
            refine k_get (v := .ref (ad 2)) C clX4 (hW4.get 0 0 rfl rfl) 2 (Nat.le_of_ble_eq_true rfl) rfl q2326 rfl rfl dX4_guess_126 ?_
            refine lv_iload_n C.hx C.hb dX4_guess_129 rfl (lv_at hl4 4 rfl) ?_
            refine k_iald C (f := (fun i => nI (σ 2 i))) rfl (hW4.get 3 0 rfl rfl) (by omega) (by decide) dX4_guess_130 ?_
            exact k_iret C hW4 rfl ⟨by rw [show guessF σ s1 = (σ 2 s1) by unfold guessF; rw [show gsL σ s1 (σ 36 0) = (p1, p2) by rw [hLa_1, show m1 = σ 36 0 by omega]]; simp [c91, c118]], rfl⟩ (Nat.le_refl _) (Nat.le_refl _) dX4_guess_131
          · refine kn_iconst (a := 0) C (by decide) dX4_guess_121 ?_
            refine lv_goto (tgt := 131) C.hx C.hb dX4_guess_122 (by decide) ?_
            exact k_iret C hW4 rfl ⟨by rw [show guessF σ s1 = 0 by unfold guessF; rw [show gsL σ s1 (σ 36 0) = (p1, p2) by rw [hLa_1, show m1 = σ 36 0 by omega]]; simp [c91, c118]], rfl⟩ (Nat.le_refl _) (Nat.le_refl _) dX4_guess_131
        · refine lv_aload_n C.hx C.hb dX4_guess_94 rfl (lv_at hl4 3 rfl) ?_
          refine lv_aload_n C.hx C.hb dX4_guess_95 rfl (lv_at hl4 3 rfl) ?_
          refine k_get (v := .ref (ad 17)) C clX4 (hW4.get 0 0 rfl rfl) 17 (Nat.le_of_ble_eq_true rfl) rfl q2341 rfl rfl dX4_guess_96 ?_
          refine lv_iload_n C.hx C.hb dX4_guess_99 rfl (lv_at hl4 0 rfl) ?_
          refine k_iald C (f := (fun i => nI (σ 17 i))) rfl (hW4.get 18 0 rfl rfl) (by omega) (by decide) dX4_guess_100 ?_
          refine lv_aload_n C.hx C.hb dX4_guess_101 rfl (lv_at hl4 3 rfl) ?_
          refine k_get (v := .ref (ad 19)) C clX4 (hW4.get 0 0 rfl rfl) 19 (Nat.le_of_ble_eq_true rfl) rfl q2343 rfl rfl dX4_guess_102 ?_
          refine lv_iload_n C.hx C.hb dX4_guess_105 rfl (lv_at hl4 0 rfl) ?_
          refine k_iald C (f := (fun i => nI (σ 19 i))) rfl (hW4.get 20 0 rfl rfl) (by omega) (by decide) dX4_guess_106 ?_
          refine k_callV (Sc := mW G h ad σ) (Sr := []) (As := [.int (nI (σ 17 p1)), .int (nI (σ 19 p1))]) (rest := []) C (ctX4_meansOf l G h ad σ (σ 17 p1) (σ 19 p1) hS (hB.lt 17 (by decide) _) (hB.lt 19 (by decide) _)) hW4 clX4 (hW4.get 0 0 rfl rfl) q2595 q2597 qs64 q85 q2598 rfl rfl ⟨by decide, by decide, Eq.trans (b := some 2) (by decide +kernel) rfl⟩ (Nat.le_of_ble_eq_true rfl) (Nat.le_of_ble_eq_true rfl) (Nat.le_refl _) (Nat.le_refl _) hl4.1 rfl (Nat.le_of_ble_eq_true rfl) dX4_guess_107 (List.Perm.refl _) (fun _ h => h.elim) (fun v H5 locs5 S1 hQ hz5 hW5 => ?_)
          obtain ⟨rfl, rfl⟩ := hQ
          have hW5 : Ws G A s (mW G h ad σ) H5 locs5 := hW5
          clear hW4
          refine W.eq (g2 := F0 m 110 ls4 [.int (nI (meansF σ (σ 17 p1) (σ 19 p1)))]) rfl ?_
          exact k_iret C hW5 rfl ⟨by rw [show guessF σ s1 = (meansF σ (σ 17 p1) (σ 19 p1)) by unfold guessF; rw [show gsL σ s1 (σ 36 0) = (p1, p2) by rw [hLa_1, show m1 = σ 36 0 by omega]]; simp [c91]], rfl⟩ (Nat.le_refl _) (Nat.le_refl _) dX4_guess_110
      · refine lv_aload_n C.hx C.hb dX4_guess_16 rfl (lv_at hl4 3 rfl) ?_
        refine k_get (v := .ref (ad 18)) C clX4 (hW4.get 0 0 rfl rfl) 18 (Nat.le_of_ble_eq_true rfl) rfl q2342 rfl rfl dX4_guess_17 ?_
        refine lv_iload C.hx C.hb dX4_guess_20 (lv_at hl4 2 rfl) ?_
        refine k_iald C (f := (fun i => nI (σ 18 i))) rfl (hW4.get 19 0 rfl rfl) (by omega) (by decide) dX4_guess_22 ?_
        refine lv_iload_n C.hx C.hb dX4_guess_23 rfl (lv_at hl4 4 rfl) ?_
        refine kn_icmp_ne (tgt := 84) C (Nat.lt_of_lt_of_le (hB.lt 18 (by decide) m1) (by decide)) (by omega) dX4_guess_24 (by decide) (fun c24 => ?_) (fun c24 => ?_)
        · refine kn_iinc (lv' := [(4, .int (nI (m1 + 1))), (2, .int (nI p1)), (3, .int (nI p2)), (0, .ref h), (1, .int (nI s1))]) (k := 2) C dX4_guess_84 hl4 rfl (Nat.le_of_ble_eq_true rfl) rfl (fun ls6 hl6 => ?_)
          clear hl4
          refine lv_goto (tgt := 7) C.hx C.hb dX4_guess_87 (by decide) ?_
          exact ih4 (m1 + 1) p1 p2 (by omega) (by show _ = gsB σ s1 m1 (gsL σ s1 m1); rw [← hLa_1]; simp [gsB, c13, c24]) (by omega) _ _ _ hW4 (lv_sub hl6 [1, 2, 0, 3, 4] rfl)
        · refine lv_aload_n C.hx C.hb dX4_guess_27 rfl (lv_at hl4 3 rfl) ?_
          refine k_get (v := .ref (ad 22)) C clX4 (hW4.get 0 0 rfl rfl) 22 (Nat.le_of_ble_eq_true rfl) rfl q2346 rfl rfl dX4_guess_28 ?_
          refine lv_iload C.hx C.hb dX4_guess_31 (lv_at hl4 2 rfl) ?_
          refine k_zald C (f := (fun i => nI (σ 22 i))) rfl (hW4.get 23 0 rfl rfl) (by omega) (by decide) dX4_guess_33 ?_
          refine kn_if_ne (tgt := 40) C (Nat.lt_of_lt_of_le (hB.lt 22 (by decide) m1) (by decide)) dX4_guess_34 (by decide) (fun c34 => ?_) (fun c34 => ?_)
          · refine lv_iload_n C.hx C.hb dX4_guess_40 rfl (lv_at hl4 1 rfl) ?_
            refine kn_if_ne (tgt := 54) C (by omega) dX4_guess_41 (by decide) (fun c41 => ?_) (fun c41 => ?_)
            · refine kn_iconst (a := 1) C (by decide) dX4_guess_54 ?_
              refine lv_goto (tgt := 59) C.hx C.hb dX4_guess_55 (by decide) ?_
              refine lv_istore_n (lv' := [(3, .int (nI 1)), (2, .int (nI p1)), (4, .int (nI m1)), (0, .ref h), (1, .int (nI s1))]) C.hx C.hb dX4_guess_59 rfl hl4 (Nat.le_of_ble_eq_true rfl) rfl (fun ls7 hl7 => ?_)
              clear hl4
              refine lv_iload_n C.hx C.hb dX4_guess_60 rfl (lv_at hl7 1 rfl) ?_
              refine lv_iconst (v := nI NONE) C.hx C.hb dX4_guess_61 (by decide) ?_
              refine kw_icmp_eq (tgt := 81) C p1w (by decide) dX4_guess_62 (by decide) (fun c62 => ?_) (fun c62 => ?_)
              · refine lv_iload C.hx C.hb dX4_guess_81 (lv_at hl7 2 rfl) ?_
                refine lv_istore_n (lv' := [(2, .int (nI m1)), (3, .int (nI 1)), (4, .int (nI m1)), (0, .ref h), (1, .int (nI s1))]) C.hx C.hb dX4_guess_83 rfl hl7 (Nat.le_of_ble_eq_true rfl) rfl (fun ls8 hl8 => ?_)
                clear hl7
                refine kn_iinc (lv' := [(4, .int (nI (m1 + 1))), (2, .int (nI m1)), (3, .int (nI 1)), (0, .ref h), (1, .int (nI s1))]) (k := 2) C dX4_guess_84 hl8 rfl (Nat.le_of_ble_eq_true rfl) rfl (fun ls9 hl9 => ?_)
                clear hl8
                refine lv_goto (tgt := 7) C.hx C.hb dX4_guess_87 (by decide) ?_
                exact ih4 (m1 + 1) m1 1 (by omega) (by show _ = gsB σ s1 m1 (gsL σ s1 m1); rw [← hLa_1]; simp [gsB, c13, c24, c34, c41, c62]) (by omega) _ _ _ hW4 (lv_sub hl9 [1, 2, 0, 3, 4] rfl)
              · refine lv_aload_n C.hx C.hb dX4_guess_65 rfl (lv_at hl7 3 rfl) ?_
                refine k_get (v := .ref (ad 21)) C clX4 (hW4.get 0 0 rfl rfl) 21 (Nat.le_of_ble_eq_true rfl) rfl q2345 rfl rfl dX4_guess_66 ?_
                refine lv_iload C.hx C.hb dX4_guess_69 (lv_at hl7 2 rfl) ?_
                refine k_iald C (f := (fun i => nI (σ 21 i))) rfl (hW4.get 22 0 rfl rfl) (by omega) (by decide) dX4_guess_71 ?_
                refine lv_aload_n C.hx C.hb dX4_guess_72 rfl (lv_at hl7 3 rfl) ?_
                refine k_get (v := .ref (ad 21)) C clX4 (hW4.get 0 0 rfl rfl) 21 (Nat.le_of_ble_eq_true rfl) rfl q2345 rfl rfl dX4_guess_73 ?_
                refine lv_iload_n C.hx C.hb dX4_guess_76 rfl (lv_at hl7 1 rfl) ?_
                refine k_iald C (f := (fun i => nI (σ 21 i))) rfl (hW4.get 22 0 rfl rfl) (by omega) (by decide) dX4_guess_77 ?_
                refine kn_icmp_lt (tgt := 84) C (Nat.lt_of_lt_of_le (hB.lt 21 (by decide) m1) (by decide)) (Nat.lt_of_lt_of_le (hB.lt 21 (by decide) p1) (by decide)) dX4_guess_78 (by decide) (fun c78 => ?_) (fun c78 => ?_)
                · refine kn_iinc (lv' := [(4, .int (nI (m1 + 1))), (3, .int (nI 1)), (2, .int (nI p1)), (0, .ref h), (1, .int (nI s1))]) (k := 2) C dX4_guess_84 hl7 rfl (Nat.le_of_ble_eq_true rfl) rfl (fun ls10 hl10 => ?_)
                  clear hl7
                  refine lv_goto (tgt := 7) C.hx C.hb dX4_guess_87 (by decide) ?_
                  exact ih4 (m1 + 1) p1 1 (by omega) (by show _ = gsB σ s1 m1 (gsL σ s1 m1); rw [← hLa_1]; simp [gsB, c13, c24, c34, c41, c62, Nat.not_le.mpr c78]) (by omega) _ _ _ hW4 (lv_sub hl10 [2, 1, 0, 3, 4] rfl)
                · refine lv_iload C.hx C.hb dX4_guess_81 (lv_at hl7 2 rfl) ?_
                  refine lv_istore_n (lv' := [(2, .int (nI m1)), (3, .int (nI 1)), (4, .int (nI m1)), (0, .ref h), (1, .int (nI s1))]) C.hx C.hb dX4_guess_83 rfl hl7 (Nat.le_of_ble_eq_true rfl) rfl (fun ls11 hl11 => ?_)
                  clear hl7
                  refine kn_iinc (lv' := [(4, .int (nI (m1 + 1))), (2, .int (nI m1)), (3, .int (nI 1)), (0, .ref h), (1, .int (nI s1))]) (k := 2) C dX4_guess_84 hl11 rfl (Nat.le_of_ble_eq_true rfl) rfl (fun ls12 hl12 => ?_)
                  clear hl11
                  refine lv_goto (tgt := 7) C.hx C.hb dX4_guess_87 (by decide) ?_
                  exact ih4 (m1 + 1) m1 1 (by omega) (by show _ = gsB σ s1 m1 (gsL σ s1 m1); rw [← hLa_1]; simp [gsB, c13, c24, c34, c41, c62, Nat.le_of_not_lt c78]) (by omega) _ _ _ hW4 (lv_sub hl12 [1, 2, 0, 3, 4] rfl)
            · refine lv_aload_n C.hx C.hb dX4_guess_44 rfl (lv_at hl4 3 rfl) ?_
              refine k_get (v := .ref (ad 23)) C clX4 (hW4.get 0 0 rfl rfl) 23 (Nat.le_of_ble_eq_true rfl) rfl q2347 rfl rfl dX4_guess_45 ?_
              refine lv_iload C.hx C.hb dX4_guess_48 (lv_at hl4 2 rfl) ?_
              refine k_zald C (f := (fun i => nI (σ 23 i))) rfl (hW4.get 24 0 rfl rfl) (by omega) (by decide) dX4_guess_50 ?_
              refine kn_if_ne (tgt := 58) C (Nat.lt_of_lt_of_le (hB.lt 23 (by decide) m1) (by decide)) dX4_guess_51 (by decide) (fun c51 => ?_) (fun c51 => ?_)
              · refine kn_iconst (a := 0) C (by decide) dX4_guess_58 ?_
                refine lv_istore_n (lv' := [(3, .int (nI 0)), (2, .int (nI p1)), (4, .int (nI m1)), (0, .ref h), (1, .int (nI s1))]) C.hx C.hb dX4_guess_59 rfl hl4 (Nat.le_of_ble_eq_true rfl) rfl (fun ls13 hl13 => ?_)
                clear hl4
                refine lv_iload_n C.hx C.hb dX4_guess_60 rfl (lv_at hl13 1 rfl) ?_
                refine lv_iconst (v := nI NONE) C.hx C.hb dX4_guess_61 (by decide) ?_
                refine kw_icmp_eq (tgt := 81) C p1w (by decide) dX4_guess_62 (by decide) (fun c62 => ?_) (fun c62 => ?_)
                · refine lv_iload C.hx C.hb dX4_guess_81 (lv_at hl13 2 rfl) ?_
                  refine lv_istore_n (lv' := [(2, .int (nI m1)), (3, .int (nI 0)), (4, .int (nI m1)), (0, .ref h), (1, .int (nI s1))]) C.hx C.hb dX4_guess_83 rfl hl13 (Nat.le_of_ble_eq_true rfl) rfl (fun ls14 hl14 => ?_)
                  clear hl13
                  refine kn_iinc (lv' := [(4, .int (nI (m1 + 1))), (2, .int (nI m1)), (3, .int (nI 0)), (0, .ref h), (1, .int (nI s1))]) (k := 2) C dX4_guess_84 hl14 rfl (Nat.le_of_ble_eq_true rfl) rfl (fun ls15 hl15 => ?_)
                  clear hl14
                  refine lv_goto (tgt := 7) C.hx C.hb dX4_guess_87 (by decide) ?_
                  exact ih4 (m1 + 1) m1 0 (by omega) (by show _ = gsB σ s1 m1 (gsL σ s1 m1); rw [← hLa_1]; simp [gsB, c13, c24, c34, c41, c51, c62]) (by omega) _ _ _ hW4 (lv_sub hl15 [1, 2, 0, 3, 4] rfl)
                · refine lv_aload_n C.hx C.hb dX4_guess_65 rfl (lv_at hl13 3 rfl) ?_
                  refine k_get (v := .ref (ad 21)) C clX4 (hW4.get 0 0 rfl rfl) 21 (Nat.le_of_ble_eq_true rfl) rfl q2345 rfl rfl dX4_guess_66 ?_
                  refine lv_iload C.hx C.hb dX4_guess_69 (lv_at hl13 2 rfl) ?_
                  refine k_iald C (f := (fun i => nI (σ 21 i))) rfl (hW4.get 22 0 rfl rfl) (by omega) (by decide) dX4_guess_71 ?_
                  refine lv_aload_n C.hx C.hb dX4_guess_72 rfl (lv_at hl13 3 rfl) ?_
                  refine k_get (v := .ref (ad 21)) C clX4 (hW4.get 0 0 rfl rfl) 21 (Nat.le_of_ble_eq_true rfl) rfl q2345 rfl rfl dX4_guess_73 ?_
                  refine lv_iload_n C.hx C.hb dX4_guess_76 rfl (lv_at hl13 1 rfl) ?_
                  refine k_iald C (f := (fun i => nI (σ 21 i))) rfl (hW4.get 22 0 rfl rfl) (by omega) (by decide) dX4_guess_77 ?_
                  refine kn_icmp_lt (tgt := 84) C (Nat.lt_of_lt_of_le (hB.lt 21 (by decide) m1) (by decide)) (Nat.lt_of_lt_of_le (hB.lt 21 (by decide) p1) (by decide)) dX4_guess_78 (by decide) (fun c78 => ?_) (fun c78 => ?_)
                  · refine kn_iinc (lv' := [(4, .int (nI (m1 + 1))), (3, .int (nI 0)), (2, .int (nI p1)), (0, .ref h), (1, .int (nI s1))]) (k := 2) C dX4_guess_84 hl13 rfl (Nat.le_of_ble_eq_true rfl) rfl (fun ls16 hl16 => ?_)
                    clear hl13
                    refine lv_goto (tgt := 7) C.hx C.hb dX4_guess_87 (by decide) ?_
                    exact ih4 (m1 + 1) p1 0 (by omega) (by show _ = gsB σ s1 m1 (gsL σ s1 m1); rw [← hLa_1]; simp [gsB, c13, c24, c34, c41, c51, c62, Nat.not_le.mpr c78]) (by omega) _ _ _ hW4 (lv_sub hl16 [2, 1, 0, 3, 4] rfl)
                  · refine lv_iload C.hx C.hb dX4_guess_81 (lv_at hl13 2 rfl) ?_
                    refine lv_istore_n (lv' := [(2, .int (nI m1)), (3, .int (nI 0)), (4, .int (nI m1)), (0, .ref h), (1, .int (nI s1))]) C.hx C.hb dX4_guess_83 rfl hl13 (Nat.le_of_ble_eq_true rfl) rfl (fun ls17 hl17 => ?_)
                    clear hl13
                    refine kn_iinc (lv' := [(4, .int (nI (m1 + 1))), (2, .int (nI m1)), (3, .int (nI 0)), (0, .ref h), (1, .int (nI s1))]) (k := 2) C dX4_guess_84 hl17 rfl (Nat.le_of_ble_eq_true rfl) rfl (fun ls18 hl18 => ?_)
                    clear hl17
                    refine lv_goto (tgt := 7) C.hx C.hb dX4_guess_87 (by decide) ?_
                    exact ih4 (m1 + 1) m1 0 (by omega) (by show _ = gsB σ s1 m1 (gsL σ s1 m1); rw [← hLa_1]; simp [gsB, c13, c24, c34, c41, c51, c62, Nat.le_of_not_lt c78]) (by omega) _ _ _ hW4 (lv_sub hl18 [1, 2, 0, 3, 4] rfl)
              · refine kn_iconst (a := 1) C (by decide) dX4_guess_54 ?_
                refine lv_goto (tgt := 59) C.hx C.hb dX4_guess_55 (by decide) ?_
                refine lv_istore_n (lv' := [(3, .int (nI 1)), (2, .int (nI p1)), (4, .int (nI m1)), (0, .ref h), (1, .int (nI s1))]) C.hx C.hb dX4_guess_59 rfl hl4 (Nat.le_of_ble_eq_true rfl) rfl (fun ls19 hl19 => ?_)
                clear hl4
                refine lv_iload_n C.hx C.hb dX4_guess_60 rfl (lv_at hl19 1 rfl) ?_
                refine lv_iconst (v := nI NONE) C.hx C.hb dX4_guess_61 (by decide) ?_
                refine kw_icmp_eq (tgt := 81) C p1w (by decide) dX4_guess_62 (by decide) (fun c62 => ?_) (fun c62 => ?_)
                · refine lv_iload C.hx C.hb dX4_guess_81 (lv_at hl19 2 rfl) ?_
                  refine lv_istore_n (lv' := [(2, .int (nI m1)), (3, .int (nI 1)), (4, .int (nI m1)), (0, .ref h), (1, .int (nI s1))]) C.hx C.hb dX4_guess_83 rfl hl19 (Nat.le_of_ble_eq_true rfl) rfl (fun ls20 hl20 => ?_)
                  clear hl19
                  refine kn_iinc (lv' := [(4, .int (nI (m1 + 1))), (2, .int (nI m1)), (3, .int (nI 1)), (0, .ref h), (1, .int (nI s1))]) (k := 2) C dX4_guess_84 hl20 rfl (Nat.le_of_ble_eq_true rfl) rfl (fun ls21 hl21 => ?_)
                  clear hl20
                  refine lv_goto (tgt := 7) C.hx C.hb dX4_guess_87 (by decide) ?_
                  exact ih4 (m1 + 1) m1 1 (by omega) (by show _ = gsB σ s1 m1 (gsL σ s1 m1); rw [← hLa_1]; simp [gsB, c13, c24, c34, c41, c51, c62]) (by omega) _ _ _ hW4 (lv_sub hl21 [1, 2, 0, 3, 4] rfl)
                · refine lv_aload_n C.hx C.hb dX4_guess_65 rfl (lv_at hl19 3 rfl) ?_
                  refine k_get (v := .ref (ad 21)) C clX4 (hW4.get 0 0 rfl rfl) 21 (Nat.le_of_ble_eq_true rfl) rfl q2345 rfl rfl dX4_guess_66 ?_
                  refine lv_iload C.hx C.hb dX4_guess_69 (lv_at hl19 2 rfl) ?_
                  refine k_iald C (f := (fun i => nI (σ 21 i))) rfl (hW4.get 22 0 rfl rfl) (by omega) (by decide) dX4_guess_71 ?_
                  refine lv_aload_n C.hx C.hb dX4_guess_72 rfl (lv_at hl19 3 rfl) ?_
                  refine k_get (v := .ref (ad 21)) C clX4 (hW4.get 0 0 rfl rfl) 21 (Nat.le_of_ble_eq_true rfl) rfl q2345 rfl rfl dX4_guess_73 ?_
                  refine lv_iload_n C.hx C.hb dX4_guess_76 rfl (lv_at hl19 1 rfl) ?_
                  refine k_iald C (f := (fun i => nI (σ 21 i))) rfl (hW4.get 22 0 rfl rfl) (by omega) (by decide) dX4_guess_77 ?_
                  refine kn_icmp_lt (tgt := 84) C (Nat.lt_of_lt_of_le (hB.lt 21 (by decide) m1) (by decide)) (Nat.lt_of_lt_of_le (hB.lt 21 (by decide) p1) (by decide)) dX4_guess_78 (by decide) (fun c78 => ?_) (fun c78 => ?_)
                  · refine kn_iinc (lv' := [(4, .int (nI (m1 + 1))), (3, .int (nI 1)), (2, .int (nI p1)), (0, .ref h), (1, .int (nI s1))]) (k := 2) C dX4_guess_84 hl19 rfl (Nat.le_of_ble_eq_true rfl) rfl (fun ls22 hl22 => ?_)
                    clear hl19
                    refine lv_goto (tgt := 7) C.hx C.hb dX4_guess_87 (by decide) ?_
                    exact ih4 (m1 + 1) p1 1 (by omega) (by show _ = gsB σ s1 m1 (gsL σ s1 m1); rw [← hLa_1]; simp [gsB, c13, c24, c34, c41, c51, c62, Nat.not_le.mpr c78]) (by omega) _ _ _ hW4 (lv_sub hl22 [2, 1, 0, 3, 4] rfl)
                  · refine lv_iload C.hx C.hb dX4_guess_81 (lv_at hl19 2 rfl) ?_
                    refine lv_istore_n (lv' := [(2, .int (nI m1)), (3, .int (nI 1)), (4, .int (nI m1)), (0, .ref h), (1, .int (nI s1))]) C.hx C.hb dX4_guess_83 rfl hl19 (Nat.le_of_ble_eq_true rfl) rfl (fun ls23 hl23 => ?_)
                    clear hl19
                    refine kn_iinc (lv' := [(4, .int (nI (m1 + 1))), (2, .int (nI m1)), (3, .int (nI 1)), (0, .ref h), (1, .int (nI s1))]) (k := 2) C dX4_guess_84 hl23 rfl (Nat.le_of_ble_eq_true rfl) rfl (fun ls24 hl24 => ?_)
                    clear hl23
                    refine lv_goto (tgt := 7) C.hx C.hb dX4_guess_87 (by decide) ?_
                    exact ih4 (m1 + 1) m1 1 (by omega) (by show _ = gsB σ s1 m1 (gsL σ s1 m1); rw [← hLa_1]; simp [gsB, c13, c24, c34, c41, c51, c62, Nat.le_of_not_lt c78]) (by omega) _ _ _ hW4 (lv_sub hl24 [1, 2, 0, 3, 4] rfl)
          · refine lv_goto (tgt := 84) C.hx C.hb dX4_guess_37 (by decide) ?_
            refine kn_iinc (lv' := [(4, .int (nI (m1 + 1))), (2, .int (nI p1)), (3, .int (nI p2)), (0, .ref h), (1, .int (nI s1))]) (k := 2) C dX4_guess_84 hl4 rfl (Nat.le_of_ble_eq_true rfl) rfl (fun ls25 hl25 => ?_)
            clear hl4
            refine lv_goto (tgt := 7) C.hx C.hb dX4_guess_87 (by decide) ?_
            exact ih4 (m1 + 1) p1 p2 (by omega) (by show _ = gsB σ s1 m1 (gsL σ s1 m1); rw [← hLa_1]; simp [gsB, c13, c24, c34]) (by omega) _ _ _ hW4 (lv_sub hl25 [1, 2, 0, 3, 4] rfl)
  exact La (σ 36 0 - 0 + 1) 0 NONE 0 (Nat.zero_le _) rfl (Nat.lt_succ_self _) _ _ _ hW (lv_sub hl3 [2, 1, 0, 3, 4] rfl)

def Q_ctX4_isDoubted (G : GT) (h : Nat) (ad : Nat → Nat) (σ : Sg) (s1 : Nat) : Option Value → List va_W → Prop := fun v S1 => v = some (.int (b01 (doubtF σ s1))) ∧ S1 = mW G h ad σ
set_option maxHeartbeats 4000000 in
set_option maxRecDepth 100000 in
theorem ctX4_isDoubted (l : Launch) (G : GT) (h : Nat) (ad : Nat → Nat) (σ : Sg) (s1 : Nat) (hS : Sf σ) (hs1 : s1 < 12) (hF : ∀ s, σ 2 s = NONE ∨ σ 2 s < 2 ^ 30) : Ct l G yX4_isDoubted cX4_isDoubted 2 (some .boolean) 2 46 0 0 [.ref h, .int (nI s1)] (mW G h ad σ) noR (Q_ctX4_isDoubted G h ad σ s1) := by
  refine Ct.of (by decide +kernel) (Nat.le_of_ble_eq_true rfl) ?_
  intro p e s m below meth c A ls C hW hRo hl
  have hl : lv_has ls 2 [(0, .ref h), (1, .int (nI s1))] := hl
  have hB : Bd σ := hS.1
  have h32 : σ 32 0 ≤ 200 := Nat.lt_succ_iff.mp (hB.lt 32 (by decide) 0)
  have h34 : σ 34 0 ≤ 480 := Nat.lt_succ_iff.mp (hB.lt 34 (by decide) 0)
  have h35 : σ 35 0 ≤ 64 := Nat.lt_succ_iff.mp (hB.lt 35 (by decide) 0)
  have h36 : σ 36 0 ≤ 60 := Nat.lt_succ_iff.mp (hB.lt 36 (by decide) 0)
  have h30 : σ 30 0 ≤ 5000 := Nat.lt_succ_iff.mp (hB.lt 30 (by decide) 0)
  have hgl := guessF_lt hB s1 (hF s1)
  refine lv_aload_n C.hx C.hb dX4_isDoubted_0 rfl (lv_at hl 0 rfl) ?_
  refine lv_iload_n C.hx C.hb dX4_isDoubted_1 rfl (lv_at hl 1 rfl) ?_
  refine k_callV (Sc := mW G h ad σ) (Sr := []) (As := [.int (nI s1)]) (rest := []) C (ctX4_guess l G h ad σ s1 hS hs1) hW clX4 (hW.get 0 0 rfl rfl) q2619 q2621 qs68 q85 q2622 rfl rfl ⟨by decide, by decide, Eq.trans (b := some 1) (by decide +kernel) rfl⟩ (Nat.le_of_ble_eq_true rfl) (Nat.le_of_ble_eq_true rfl) (Nat.le_refl _) (Nat.le_refl _) hl.1 rfl (Nat.le_of_ble_eq_true rfl) dX4_isDoubted_2 (List.Perm.refl _) (fun _ h => h.elim) (fun v H1 locs1 S1 hQ hz1 hW1 => ?_)
  obtain ⟨rfl, rfl⟩ := hQ
  have hW1 : Ws G A s (mW G h ad σ) H1 locs1 := hW1
  clear hW
  refine W.eq (g2 := F0 m 5 ls [.int (nI (guessF σ s1))]) rfl ?_
  refine lv_aload_n C.hx C.hb dX4_isDoubted_5 rfl (lv_at hl 0 rfl) ?_
  refine k_get (v := .int (nI (σ 31 0))) C clX4 (hW1.get 0 0 rfl rfl) 31 (Nat.le_of_ble_eq_true rfl) rfl q2355 rfl rfl dX4_isDoubted_6 ?_
  refine kn_icmp_lt (tgt := 16) C (by omega) (Nat.lt_of_lt_of_le (hB.lt 31 (by decide) 0) (by decide)) dX4_isDoubted_9 (by decide) (fun c9 => ?_) (fun c9 => ?_)
  · refine kn_iconst (a := 0) C (by decide) dX4_isDoubted_16 ?_
    exact k_zret C hW1 rfl (by decide) ⟨by rw [b01_f (Nat.not_le.mpr c9)]; rfl, rfl⟩ (Nat.le_refl _) (Nat.le_refl _) dX4_isDoubted_17
  · refine kn_iconst (a := 1) C (by decide) dX4_isDoubted_12 ?_
    refine lv_goto (tgt := 17) C.hx C.hb dX4_isDoubted_13 (by decide) ?_
    exact k_zret C hW1 rfl (by decide) ⟨by rw [b01_t (Nat.le_of_not_lt c9)]; rfl, rfl⟩ (Nat.le_refl _) (Nat.le_refl _) dX4_isDoubted_17

def Q_ctX4_stretch (G : GT) (h : Nat) (ad : Nat → Nat) (σ : Sg) (x1 x2 : Int32) : Option Value → List va_W → Prop := fun v S1 => v = some (.int (nI (if cStr x1 x2 = 0 then strF σ (iN x1) (iN x2) else 0))) ∧ S1 = mW G h ad (if cStr x1 x2 = 0 then k0 σ 0 else k0 σ (cStr x1 x2))
set_option maxHeartbeats 4000000 in
set_option maxRecDepth 100000 in
theorem ctX4_stretch (l : Launch) (G : GT) (h : Nat) (ad : Nat → Nat) (σ : Sg) (x1 x2 : Int32) (hS : Sf σ) (hF : ∀ s, σ 2 s = NONE ∨ σ 2 s < 2 ^ 30) : Ct l G yX4_stretch cX4_stretch 3 (some .int) 3 67 0 0 [.ref h, .int x1, .int x2] (mW G h ad σ) noR (Q_ctX4_stretch G h ad σ x1 x2) := by
  refine Ct.of (by decide +kernel) (Nat.le_of_ble_eq_true rfl) ?_
  intro p e s m below meth c A ls C hW hRo hl
  have hl : lv_has ls 3 [(0, .ref h), (1, .int x1), (2, .int x2)] := hl
  have hB : Bd σ := hS.1
  have h32 : σ 32 0 ≤ 200 := Nat.lt_succ_iff.mp (hB.lt 32 (by decide) 0)
  have h34 : σ 34 0 ≤ 480 := Nat.lt_succ_iff.mp (hB.lt 34 (by decide) 0)
  have h35 : σ 35 0 ≤ 64 := Nat.lt_succ_iff.mp (hB.lt 35 (by decide) 0)
  have h36 : σ 36 0 ≤ 60 := Nat.lt_succ_iff.mp (hB.lt 36 (by decide) 0)
  have h30 : σ 30 0 ≤ 5000 := Nat.lt_succ_iff.mp (hB.lt 30 (by decide) 0)
  refine lv_aload_n C.hx C.hb dX4_stretch_0 rfl (lv_at hl 0 rfl) ?_
  refine lv_iload_n C.hx C.hb dX4_stretch_1 rfl (lv_at hl 1 rfl) ?_
  refine k_callS (Sc := []) (Sr := mW G h ad σ) (As := [.int x1]) (rest := [.ref h]) C (ctX4_isStretch l G x1) hW q2509 q2510 q85 q2511 rfl ⟨by decide, by decide, Eq.trans (b := some 1) (by decide +kernel) rfl⟩ (Nat.le_of_ble_eq_true rfl) (Nat.le_of_ble_eq_true rfl) (Nat.le_refl _) (Nat.le_refl _) hl.1 rfl (Nat.le_of_ble_eq_true rfl) dX4_stretch_2 (k_permR _) (fun _ h => h.elim) (fun v H1 locs1 S1 hQ hz1 hW1 => ?_)
  obtain ⟨rfl, rfl⟩ := hQ
  have hW1 : Ws G A s (mW G h ad σ) H1 locs1 := hW1
  clear hW
  refine W.eq (g2 := F0 m 5 ls [.int (b01 (inR x1 0 11)), .ref h]) rfl ?_
  refine lv_iload_n C.hx C.hb dX4_stretch_5 rfl (lv_at hl 2 rfl) ?_
  refine lv_i2l C.hx C.hb dX4_stretch_6 rfl ?_
  refine kn_lconst (a := 0) C rfl dX4_stretch_7 ?_
  refine lv_ldc2 (own := "BogsignModel") (v := (lN 6)) C.hx C.hb C.hown (C.hts _ q2577) dX4_stretch_8 ?_
  refine k_callS (Sc := []) (Sr := mW G h ad σ) (As := [.long (x2).toInt64, .long (lN 0), .long (lN 6)]) (rest := [.int (b01 (inR x1 0 11)), .ref h]) C (ctX4_isBetween l G ((x2).toInt64) (lN 0) (lN 6)) hW1 q2449 q2450 q85 q2451 rfl ⟨by decide, by decide, Eq.trans (b := some 3) (by decide +kernel) rfl⟩ (Nat.le_of_ble_eq_true rfl) (Nat.le_of_ble_eq_true rfl) (Nat.le_refl _) (Nat.le_refl _) hl.1 rfl (Nat.le_of_ble_eq_true rfl) dX4_stretch_11 (k_permR _) (fun _ h => h.elim) (fun v H2 locs2 S1 hQ hz2 hW2 => ?_)
  obtain ⟨rfl, rfl⟩ := hQ
  have hW2 : Ws G A s (mW G h ad σ) H2 locs2 := hW2
  clear hW1
  refine W.eq (g2 := F0 m 14 ls [.int (b01 ((lN 0) ≤ (x2).toInt64 ∧ (x2).toInt64 ≤ (lN 6))), .int (b01 (inR x1 0 11)), .ref h]) rfl ?_
  refine k_op (y := .int (b01 (inR x2 0 6))) (by rw [b01_cg (inR64 x2 0 6 rfl rfl)]; rfl) ?_
  refine k_callV (Sc := mW G h ad σ) (Sr := []) (As := [.int (b01 (inR x1 0 11)), .int (b01 (inR x2 0 6))]) (rest := []) C (ctX4_goesBoth l G h ad σ (inR x1 0 11) (inR x2 0 6) hS) hW2 clX4 (hW2.get 0 0 rfl rfl) q2453 q2455 qs47 q85 q2456 rfl rfl ⟨by decide, by decide, Eq.trans (b := some 2) (by decide +kernel) rfl⟩ (Nat.le_of_ble_eq_true rfl) (Nat.le_of_ble_eq_true rfl) (Nat.le_refl _) (Nat.le_refl _) hl.1 rfl (Nat.le_of_ble_eq_true rfl) dX4_stretch_14 (List.Perm.refl _) (fun _ h => h.elim) (fun v H3 locs3 S1 hQ hz3 hW3 => ?_)
  obtain ⟨rfl, rfl⟩ := hQ
  have hW3 : Ws G A s (mW G h ad (s2 σ 37 0 (c2_ (inR x1 0 11) (inR x2 0 6)))) H3 locs3 := hW3
  clear hW2
  refine W.eq (g2 := F0 m 17 ls [.int (b01 ((inR x1 0 11) ∧ (inR x2 0 6)))]) rfl ?_
  refine kb_if_ne (tgt := 22) C dX4_stretch_17 (by decide) (fun c17 => ?_) (fun c17 => ?_)
  · have hc : (c2_ (inR x1 0 11) (inR x2 0 6)) = 0 := c2_0 c17
    rw [hc] at hW3
    obtain ⟨hx4, hy4, hz4⟩ := iN_eq (a := 0) (b := 11) (by decide) c17.1
    have hl4 : lv_has ls 3 [(0, .ref h), (1, .int (nI (iN x1))), (2, .int x2)] := by rw [← hx4]; exact hl
    obtain ⟨hx5, hy5, hz5⟩ := iN_eq (a := 0) (b := 6) (by decide) c17.2
    have hl5 : lv_has ls 3 [(0, .ref h), (1, .int (nI (iN x1))), (2, .int (nI (iN x2)))] := by rw [← hx5]; exact hl4
    refine lv_iload_n C.hx C.hb dX4_stretch_22 rfl (lv_at hl5 2 rfl) ?_
    have hv6 : (nI (iN x2)).toInt = ((iN x2) : Nat) := nI_toInt (by omega)
    by_cases u0 : (iN x2) = 0
    · refine lv_tableIn (tgt := 60) (off := 37) C.hx C.hb dX4_stretch_23 (by rw [hv6]; omega) (by rw [hv6]; omega) (by rw [hv6, u0]; rfl) (by decide) ?_
      refine lv_aload_n C.hx C.hb dX4_stretch_60 rfl (lv_at hl5 0 rfl) ?_
      refine lv_iload_n C.hx C.hb dX4_stretch_61 rfl (lv_at hl5 1 rfl) ?_
      refine k_callV (Sc := mW G h ad (s2 σ 37 0 0)) (Sr := []) (As := [.int (nI (iN x1))]) (rest := []) C (ctX4_lying l G h ad (s2 σ 37 0 0) (iN x1) (hS.s2o (by decide) (Or.inr (by decide))) (by omega)) hW3 clX4 (hW3.get 0 0 rfl rfl) q2607 q2609 qs66 q85 q2610 rfl rfl ⟨by decide, by decide, Eq.trans (b := some 1) (by decide +kernel) rfl⟩ (Nat.le_of_ble_eq_true rfl) (Nat.le_of_ble_eq_true rfl) (Nat.le_refl _) (Nat.le_refl _) hl5.1 rfl (Nat.le_of_ble_eq_true rfl) dX4_stretch_62 (List.Perm.refl _) (fun _ h => h.elim) (fun v H7 locs7 S1 hQ hz7 hW7 => ?_)
      obtain ⟨rfl, rfl⟩ := hQ
      have hW7 : Ws G A s (mW G h ad (s2 σ 37 0 0)) H7 locs7 := hW7
      clear hW3
      refine W.eq (g2 := F0 m 65 ls [.int (nI (lyingN σ (iN x1) (σ 32 0)))]) rfl ?_
      exact k_iret C hW7 rfl ⟨by rw [if_pos (show cStr x1 x2 = 0 from hc)]; unfold strF; rw [if_pos u0], by rw [if_pos (show cStr x1 x2 = 0 from hc)]⟩ (Nat.le_refl _) (Nat.le_refl _) dX4_stretch_65
    by_cases u1 : (iN x2) = 1
    · refine lv_tableIn (tgt := 66) (off := 43) C.hx C.hb dX4_stretch_23 (by rw [hv6]; omega) (by rw [hv6]; omega) (by rw [hv6, u1]; rfl) (by decide) ?_
      refine lv_aload_n C.hx C.hb dX4_stretch_66 rfl (lv_at hl5 0 rfl) ?_
      refine lv_iload_n C.hx C.hb dX4_stretch_67 rfl (lv_at hl5 1 rfl) ?_
      refine k_callV (Sc := mW G h ad (s2 σ 37 0 0)) (Sr := []) (As := [.int (nI (iN x1))]) (rest := []) C (ctX4_depthOf l G h ad (s2 σ 37 0 0) (iN x1) (hS.s2o (by decide) (Or.inr (by decide))) (by omega) (dsum_63 hB _ h32)) hW3 clX4 (hW3.get 0 0 rfl rfl) q2603 q2605 qs65 q85 q2606 rfl rfl ⟨by decide, by decide, Eq.trans (b := some 1) (by decide +kernel) rfl⟩ (Nat.le_of_ble_eq_true rfl) (Nat.le_of_ble_eq_true rfl) (Nat.le_refl _) (Nat.le_refl _) hl5.1 rfl (Nat.le_of_ble_eq_true rfl) dX4_stretch_68 (List.Perm.refl _) (fun _ h => h.elim) (fun v H8 locs8 S1 hQ hz8 hW8 => ?_)
      obtain ⟨rfl, rfl⟩ := hQ
      have hW8 : Ws G A s (mW G h ad (s2 σ 37 0 0)) H8 locs8 := hW8
      clear hW3
      refine W.eq (g2 := F0 m 71 ls [.int (nI (depthF σ (iN x1)))]) rfl ?_
      exact k_iret C hW8 rfl ⟨by rw [if_pos (show cStr x1 x2 = 0 from hc)]; unfold strF; rw [if_neg u0, if_pos u1], by rw [if_pos (show cStr x1 x2 = 0 from hc)]⟩ (Nat.le_refl _) (Nat.le_refl _) dX4_stretch_71
    by_cases u2 : (iN x2) = 2
    · refine lv_tableIn (tgt := 72) (off := 49) C.hx C.hb dX4_stretch_23 (by rw [hv6]; omega) (by rw [hv6]; omega) (by rw [hv6, u2]; rfl) (by decide) ?_
      refine lv_aload_n C.hx C.hb dX4_stretch_72 rfl (lv_at hl5 0 rfl) ?_
      refine lv_iload_n C.hx C.hb dX4_stretch_73 rfl (lv_at hl5 1 rfl) ?_
      refine k_callV (Sc := mW G h ad (s2 σ 37 0 0)) (Sr := []) (As := [.int (nI (iN x1))]) (rest := []) C (ctX4_deepest l G h ad (s2 σ 37 0 0) (iN x1) (hS.s2o (by decide) (Or.inr (by decide))) (by omega)) hW3 clX4 (hW3.get 0 0 rfl rfl) q2615 q2617 qs67 q85 q2618 rfl rfl ⟨by decide, by decide, Eq.trans (b := some 1) (by decide +kernel) rfl⟩ (Nat.le_of_ble_eq_true rfl) (Nat.le_of_ble_eq_true rfl) (Nat.le_refl _) (Nat.le_refl _) hl5.1 rfl (Nat.le_of_ble_eq_true rfl) dX4_stretch_74 (List.Perm.refl _) (fun _ h => h.elim) (fun v H9 locs9 S1 hQ hz9 hW9 => ?_)
      obtain ⟨rfl, rfl⟩ := hQ
      have hW9 : Ws G A s (mW G h ad (s2 σ 37 0 0)) H9 locs9 := hW9
      clear hW3
      refine W.eq (g2 := F0 m 77 ls [.int (nI (deepN σ (iN x1) (σ 32 0)))]) rfl ?_
      exact k_iret C hW9 rfl ⟨by rw [if_pos (show cStr x1 x2 = 0 from hc)]; unfold strF; rw [if_neg u0, if_neg u1, if_pos u2], by rw [if_pos (show cStr x1 x2 = 0 from hc)]⟩ (Nat.le_refl _) (Nat.le_refl _) dX4_stretch_77
    by_cases u3 : (iN x2) = 3
    · refine lv_tableIn (tgt := 78) (off := 55) C.hx C.hb dX4_stretch_23 (by rw [hv6]; omega) (by rw [hv6]; omega) (by rw [hv6, u3]; rfl) (by decide) ?_
      refine lv_aload_n C.hx C.hb dX4_stretch_78 rfl (lv_at hl5 0 rfl) ?_
      refine k_get (v := .ref (ad 3)) C clX4 (hW3.get 0 0 rfl rfl) 3 (Nat.le_of_ble_eq_true rfl) rfl q2327 rfl rfl dX4_stretch_79 ?_
      refine lv_iload_n C.hx C.hb dX4_stretch_82 rfl (lv_at hl5 1 rfl) ?_
      refine k_iald C (f := (fun i => nI ((s2 σ 37 0 0) 3 i))) rfl (hW3.get 4 0 rfl rfl) (by omega) (by decide) dX4_stretch_83 ?_
      refine k_op (y := .int (nI (σ 3 (iN x1)))) (by simp [s2_rd]) ?_
      exact k_iret C hW3 rfl ⟨by rw [if_pos (show cStr x1 x2 = 0 from hc)]; unfold strF; rw [if_neg u0, if_neg u1, if_neg u2, if_pos u3], by rw [if_pos (show cStr x1 x2 = 0 from hc)]⟩ (Nat.le_refl _) (Nat.le_refl _) dX4_stretch_84
    by_cases u4 : (iN x2) = 4
    · refine lv_tableIn (tgt := 85) (off := 62) C.hx C.hb dX4_stretch_23 (by rw [hv6]; omega) (by rw [hv6]; omega) (by rw [hv6, u4]; rfl) (by decide) ?_
      refine lv_aload_n C.hx C.hb dX4_stretch_85 rfl (lv_at hl5 0 rfl) ?_
      refine lv_iload_n C.hx C.hb dX4_stretch_86 rfl (lv_at hl5 1 rfl) ?_
      refine k_callV (Sc := mW G h ad (s2 σ 37 0 0)) (Sr := []) (As := [.int (nI (iN x1))]) (rest := []) C (ctX4_guess l G h ad (s2 σ 37 0 0) (iN x1) (hS.s2o (by decide) (Or.inr (by decide))) (by omega)) hW3 clX4 (hW3.get 0 0 rfl rfl) q2619 q2621 qs68 q85 q2622 rfl rfl ⟨by decide, by decide, Eq.trans (b := some 1) (by decide +kernel) rfl⟩ (Nat.le_of_ble_eq_true rfl) (Nat.le_of_ble_eq_true rfl) (Nat.le_refl _) (Nat.le_refl _) hl5.1 rfl (Nat.le_of_ble_eq_true rfl) dX4_stretch_87 (List.Perm.refl _) (fun _ h => h.elim) (fun v H10 locs10 S1 hQ hz10 hW10 => ?_)
      obtain ⟨rfl, rfl⟩ := hQ
      have hW10 : Ws G A s (mW G h ad (s2 σ 37 0 0)) H10 locs10 := hW10
      clear hW3
      refine W.eq (g2 := F0 m 90 ls [.int (nI (guessF σ (iN x1)))]) rfl ?_
      exact k_iret C hW10 rfl ⟨by rw [if_pos (show cStr x1 x2 = 0 from hc)]; unfold strF; rw [if_neg u0, if_neg u1, if_neg u2, if_neg u3, if_pos u4], by rw [if_pos (show cStr x1 x2 = 0 from hc)]⟩ (Nat.le_refl _) (Nat.le_refl _) dX4_stretch_90
    by_cases u5 : (iN x2) = 5
    · refine lv_tableIn (tgt := 91) (off := 68) C.hx C.hb dX4_stretch_23 (by rw [hv6]; omega) (by rw [hv6]; omega) (by rw [hv6, u5]; rfl) (by decide) ?_
      refine lv_aload_n C.hx C.hb dX4_stretch_91 rfl (lv_at hl5 0 rfl) ?_
      refine lv_iload_n C.hx C.hb dX4_stretch_92 rfl (lv_at hl5 1 rfl) ?_
      refine k_callV (Sc := mW G h ad (s2 σ 37 0 0)) (Sr := []) (As := [.int (nI (iN x1))]) (rest := []) C (ctX4_isDoubted l G h ad (s2 σ 37 0 0) (iN x1) (hS.s2o (by decide) (Or.inr (by decide))) (by omega) hF) hW3 clX4 (hW3.get 0 0 rfl rfl) q2623 q2625 qs69 q85 q2626 rfl rfl ⟨by decide, by decide, Eq.trans (b := some 1) (by decide +kernel) rfl⟩ (Nat.le_of_ble_eq_true rfl) (Nat.le_of_ble_eq_true rfl) (Nat.le_refl _) (Nat.le_refl _) hl5.1 rfl (Nat.le_of_ble_eq_true rfl) dX4_stretch_93 (List.Perm.refl _) (fun _ h => h.elim) (fun v H11 locs11 S1 hQ hz11 hW11 => ?_)
      obtain ⟨rfl, rfl⟩ := hQ
      have hW11 : Ws G A s (mW G h ad (s2 σ 37 0 0)) H11 locs11 := hW11
      clear hW3
      refine W.eq (g2 := F0 m 96 ls [.int (b01 (doubtF σ (iN x1)))]) rfl ?_
      refine kb_if_eq (tgt := 103) C dX4_stretch_96 (by decide) (fun c96 => ?_) (fun c96 => ?_)
      · refine kn_iconst (a := 0) C (by decide) dX4_stretch_103 ?_
        exact k_iret C hW11 rfl ⟨by rw [if_pos (show cStr x1 x2 = 0 from hc)]; unfold strF; rw [if_neg u0, if_neg u1, if_neg u2, if_neg u3, if_neg u4, if_pos u5, if_neg c96], by rw [if_pos (show cStr x1 x2 = 0 from hc)]⟩ (Nat.le_refl _) (Nat.le_refl _) dX4_stretch_104
      · refine kn_iconst (a := 1) C (by decide) dX4_stretch_99 ?_
        refine lv_goto (tgt := 104) C.hx C.hb dX4_stretch_100 (by decide) ?_
        exact k_iret C hW11 rfl ⟨by rw [if_pos (show cStr x1 x2 = 0 from hc)]; unfold strF; rw [if_neg u0, if_neg u1, if_neg u2, if_neg u3, if_neg u4, if_pos u5, if_pos c96], by rw [if_pos (show cStr x1 x2 = 0 from hc)]⟩ (Nat.le_refl _) (Nat.le_refl _) dX4_stretch_104
    refine lv_tableOut (tgt := 105) C.hx C.hb dX4_stretch_23 (by rw [hv6]; omega) (by decide) ?_
    refine lv_aload_n C.hx C.hb dX4_stretch_105 rfl (lv_at hl5 0 rfl) ?_
    refine k_get (v := .ref (ad 0)) C clX4 (hW3.get 0 0 rfl rfl) 0 (Nat.le_of_ble_eq_true rfl) rfl q2324 rfl rfl dX4_stretch_106 ?_
    refine lv_iload_n C.hx C.hb dX4_stretch_109 rfl (lv_at hl5 1 rfl) ?_
    refine k_iald C (f := (fun i => nI ((s2 σ 37 0 0) 0 i))) rfl (hW3.get 1 0 rfl rfl) (by omega) (by decide) dX4_stretch_110 ?_
    refine k_op (y := .int (nI (σ 0 (iN x1)))) (by simp [s2_rd]) ?_
    exact k_iret C hW3 rfl ⟨by rw [if_pos (show cStr x1 x2 = 0 from hc)]; unfold strF; rw [if_neg u0, if_neg u1, if_neg u2, if_neg u3, if_neg u4, if_neg u5], by rw [if_pos (show cStr x1 x2 = 0 from hc)]⟩ (Nat.le_refl _) (Nat.le_refl _) dX4_stretch_111
  · have hc : ¬ (c2_ (inR x1 0 11) (inR x2 0 6)) = 0 := c2_n c17
    refine kn_iconst (a := 0) C (by decide) dX4_stretch_20 ?_
    exact k_iret C hW3 rfl ⟨by rw [if_neg (show ¬ cStr x1 x2 = 0 from hc)], by rw [if_neg (show ¬ cStr x1 x2 = 0 from hc)]; rfl⟩ (Nat.le_refl _) (Nat.le_refl _) dX4_stretch_21

def Q_ctX4_takesBy (G : GT) (h : Nat) (ad : Nat → Nat) (σ : Sg) (k1 : Nat) : Option Value → List va_W → Prop := fun v S1 => v = some (.int (nI (takesF σ k1))) ∧ S1 = mW G h ad σ
set_option maxHeartbeats 4000000 in
set_option maxRecDepth 100000 in
theorem ctX4_takesBy (l : Launch) (G : GT) (h : Nat) (ad : Nat → Nat) (σ : Sg) (k1 : Nat) (hS : Sf σ) (hk1 : k1 < 6) (hF : ∀ s, σ 2 s = NONE ∨ σ 2 s < 2 ^ 30) : Ct l G yX4_takesBy cX4_takesBy 4 (some .int) 3 67 0 0 [.ref h, .int (nI k1)] (mW G h ad σ) noR (Q_ctX4_takesBy G h ad σ k1) := by
  refine Ct.of (by decide +kernel) (Nat.le_of_ble_eq_true rfl) ?_
  intro p e s m below meth c A ls C hW hRo hl
  have hl : lv_has ls 4 [(0, .ref h), (1, .int (nI k1))] := hl
  have hB : Bd σ := hS.1
  have h32 : σ 32 0 ≤ 200 := Nat.lt_succ_iff.mp (hB.lt 32 (by decide) 0)
  have h34 : σ 34 0 ≤ 480 := Nat.lt_succ_iff.mp (hB.lt 34 (by decide) 0)
  have h35 : σ 35 0 ≤ 64 := Nat.lt_succ_iff.mp (hB.lt 35 (by decide) 0)
  have h36 : σ 36 0 ≤ 60 := Nat.lt_succ_iff.mp (hB.lt 36 (by decide) 0)
  have h30 : σ 30 0 ≤ 5000 := Nat.lt_succ_iff.mp (hB.lt 30 (by decide) 0)
  have hly1 := lying_le σ k1 (σ 32 0)
  have hly2 := lying_le σ (k1 + 6) (σ 32 0)
  refine lv_aload_n C.hx C.hb dX4_takesBy_0 rfl (lv_at hl 0 rfl) ?_
  refine lv_iload_n C.hx C.hb dX4_takesBy_1 rfl (lv_at hl 1 rfl) ?_
  refine k_callV (Sc := mW G h ad σ) (Sr := []) (As := [.int (nI k1)]) (rest := []) C (ctX4_isDoubted l G h ad σ k1 hS (by omega) hF) hW clX4 (hW.get 0 0 rfl rfl) q2623 q2625 qs69 q85 q2626 rfl rfl ⟨by decide, by decide, Eq.trans (b := some 1) (by decide +kernel) rfl⟩ (Nat.le_of_ble_eq_true rfl) (Nat.le_of_ble_eq_true rfl) (Nat.le_refl _) (Nat.le_refl _) hl.1 rfl (Nat.le_of_ble_eq_true rfl) dX4_takesBy_2 (List.Perm.refl _) (fun _ h => h.elim) (fun v H1 locs1 S1 hQ hz1 hW1 => ?_)
  obtain ⟨rfl, rfl⟩ := hQ
  have hW1 : Ws G A s (mW G h ad σ) H1 locs1 := hW1
  clear hW
  refine W.eq (g2 := F0 m 5 ls [.int (b01 (doubtF σ k1))]) rfl ?_
  refine kb_if_eq (tgt := 15) C dX4_takesBy_5 (by decide) (fun c5 => ?_) (fun c5 => ?_)
  · refine lv_iload_n C.hx C.hb dX4_takesBy_15 rfl (lv_at hl 1 rfl) ?_
    refine lv_istore_n (lv' := [(2, .int (nI k1)), (0, .ref h), (1, .int (nI k1))]) C.hx C.hb dX4_takesBy_16 rfl hl (Nat.le_of_ble_eq_true rfl) rfl (fun ls2 hl2 => ?_)
    clear hl
    refine lv_aload_n C.hx C.hb dX4_takesBy_17 rfl (lv_at hl2 1 rfl) ?_
    refine lv_iload_n C.hx C.hb dX4_takesBy_18 rfl (lv_at hl2 2 rfl) ?_
    refine k_callV (Sc := mW G h ad σ) (Sr := []) (As := [.int (nI k1)]) (rest := []) C (ctX4_isDoubted l G h ad σ k1 hS (by omega) hF) hW1 clX4 (hW1.get 0 0 rfl rfl) q2623 q2625 qs69 q85 q2626 rfl rfl ⟨by decide, by decide, Eq.trans (b := some 1) (by decide +kernel) rfl⟩ (Nat.le_of_ble_eq_true rfl) (Nat.le_of_ble_eq_true rfl) (Nat.le_refl _) (Nat.le_refl _) hl2.1 rfl (Nat.le_of_ble_eq_true rfl) dX4_takesBy_19 (List.Perm.refl _) (fun _ h => h.elim) (fun v H3 locs3 S1 hQ hz3 hW3 => ?_)
    obtain ⟨rfl, rfl⟩ := hQ
    have hW3 : Ws G A s (mW G h ad σ) H3 locs3 := hW3
    clear hW1
    refine W.eq (g2 := F0 m 22 ls2 [.int (b01 (doubtF σ k1))]) rfl ?_
    refine kb_if_eq (tgt := 29) C dX4_takesBy_22 (by decide) (fun c22 => ?_) (fun c22 => ?_)
    · refine lv_iload_n C.hx C.hb dX4_takesBy_29 rfl (lv_at hl2 2 rfl) ?_
      refine kn_bipush (a := 6) C (by decide) dX4_takesBy_30 ?_
      refine kn_iadd C  dX4_takesBy_32 ?_
      refine lv_istore_n (lv' := [(3, .int (nI (k1 + 6))), (2, .int (nI k1)), (0, .ref h), (1, .int (nI k1))]) C.hx C.hb dX4_takesBy_33 rfl hl2 (Nat.le_of_ble_eq_true rfl) rfl (fun ls4 hl4 => ?_)
      clear hl2
      refine lv_aload_n C.hx C.hb dX4_takesBy_34 rfl (lv_at hl4 2 rfl) ?_
      refine lv_iload_n C.hx C.hb dX4_takesBy_35 rfl (lv_at hl4 1 rfl) ?_
      refine k_callV (Sc := mW G h ad σ) (Sr := []) (As := [.int (nI k1)]) (rest := []) C (ctX4_lying l G h ad σ k1 hS (by omega)) hW3 clX4 (hW3.get 0 0 rfl rfl) q2607 q2609 qs66 q85 q2610 rfl rfl ⟨by decide, by decide, Eq.trans (b := some 1) (by decide +kernel) rfl⟩ (Nat.le_of_ble_eq_true rfl) (Nat.le_of_ble_eq_true rfl) (Nat.le_refl _) (Nat.le_refl _) hl4.1 rfl (Nat.le_of_ble_eq_true rfl) dX4_takesBy_36 (List.Perm.refl _) (fun _ h => h.elim) (fun v H5 locs5 S1 hQ hz5 hW5 => ?_)
      obtain ⟨rfl, rfl⟩ := hQ
      have hW5 : Ws G A s (mW G h ad σ) H5 locs5 := hW5
      clear hW3
      refine W.eq (g2 := F0 m 39 ls4 [.int (nI (lyingN σ k1 (σ 32 0)))]) rfl ?_
      refine kn_if_le (tgt := 46) C (by have : σ 32 0 < 201 := hB.lt 32 (by decide) 0; omega) dX4_takesBy_39 (by decide) (fun c39 => ?_) (fun c39 => ?_)
      · refine lv_aload_n C.hx C.hb dX4_takesBy_46 rfl (lv_at hl4 2 rfl) ?_
        refine lv_iload_n C.hx C.hb dX4_takesBy_47 rfl (lv_at hl4 0 rfl) ?_
        refine k_callV (Sc := mW G h ad σ) (Sr := []) (As := [.int (nI (k1 + 6))]) (rest := []) C (ctX4_lying l G h ad σ (k1 + 6) hS (by omega)) hW5 clX4 (hW5.get 0 0 rfl rfl) q2607 q2609 qs66 q85 q2610 rfl rfl ⟨by decide, by decide, Eq.trans (b := some 1) (by decide +kernel) rfl⟩ (Nat.le_of_ble_eq_true rfl) (Nat.le_of_ble_eq_true rfl) (Nat.le_refl _) (Nat.le_refl _) hl4.1 rfl (Nat.le_of_ble_eq_true rfl) dX4_takesBy_48 (List.Perm.refl _) (fun _ h => h.elim) (fun v H6 locs6 S1 hQ hz6 hW6 => ?_)
        obtain ⟨rfl, rfl⟩ := hQ
        have hW6 : Ws G A s (mW G h ad σ) H6 locs6 := hW6
        clear hW5
        refine W.eq (g2 := F0 m 51 ls4 [.int (nI (lyingN σ (k1 + 6) (σ 32 0)))]) rfl ?_
        refine kn_if_le (tgt := 58) C (by have : σ 32 0 < 201 := hB.lt 32 (by decide) 0; omega) dX4_takesBy_51 (by decide) (fun c51 => ?_) (fun c51 => ?_)
        · refine lv_iconst (v := nI NONE) C.hx C.hb dX4_takesBy_58 (by decide) ?_
          exact k_iret C hW6 rfl ⟨by rw [show takesF σ k1 = NONE by unfold takesF; simp only [c5, if_true, if_false]; simp [c39, c51]], rfl⟩ (Nat.le_refl _) (Nat.le_refl _) dX4_takesBy_59
        · refine lv_iload_n C.hx C.hb dX4_takesBy_54 rfl (lv_at hl4 0 rfl) ?_
          refine lv_goto (tgt := 59) C.hx C.hb dX4_takesBy_55 (by decide) ?_
          exact k_iret C hW6 rfl ⟨by rw [show takesF σ k1 = (k1 + 6) by unfold takesF; simp only [c5, if_true, if_false]; simp [c39, c51]], rfl⟩ (Nat.le_refl _) (Nat.le_refl _) dX4_takesBy_59
      · refine lv_iload_n C.hx C.hb dX4_takesBy_42 rfl (lv_at hl4 1 rfl) ?_
        refine lv_goto (tgt := 59) C.hx C.hb dX4_takesBy_43 (by decide) ?_
        exact k_iret C hW5 rfl ⟨by rw [show takesF σ k1 = k1 by unfold takesF; simp only [c5, if_true, if_false]; simp [c39]], rfl⟩ (Nat.le_refl _) (Nat.le_refl _) dX4_takesBy_59
    · exact absurd c22 c5
  · refine lv_iload_n C.hx C.hb dX4_takesBy_8 rfl (lv_at hl 1 rfl) ?_
    refine kn_bipush (a := 6) C (by decide) dX4_takesBy_9 ?_
    refine kn_iadd C  dX4_takesBy_11 ?_
    refine lv_goto (tgt := 16) C.hx C.hb dX4_takesBy_12 (by decide) ?_
    refine lv_istore_n (lv' := [(2, .int (nI (k1 + 6))), (0, .ref h), (1, .int (nI k1))]) C.hx C.hb dX4_takesBy_16 rfl hl (Nat.le_of_ble_eq_true rfl) rfl (fun ls7 hl7 => ?_)
    clear hl
    refine lv_aload_n C.hx C.hb dX4_takesBy_17 rfl (lv_at hl7 1 rfl) ?_
    refine lv_iload_n C.hx C.hb dX4_takesBy_18 rfl (lv_at hl7 2 rfl) ?_
    refine k_callV (Sc := mW G h ad σ) (Sr := []) (As := [.int (nI k1)]) (rest := []) C (ctX4_isDoubted l G h ad σ k1 hS (by omega) hF) hW1 clX4 (hW1.get 0 0 rfl rfl) q2623 q2625 qs69 q85 q2626 rfl rfl ⟨by decide, by decide, Eq.trans (b := some 1) (by decide +kernel) rfl⟩ (Nat.le_of_ble_eq_true rfl) (Nat.le_of_ble_eq_true rfl) (Nat.le_refl _) (Nat.le_refl _) hl7.1 rfl (Nat.le_of_ble_eq_true rfl) dX4_takesBy_19 (List.Perm.refl _) (fun _ h => h.elim) (fun v H8 locs8 S1 hQ hz8 hW8 => ?_)
    obtain ⟨rfl, rfl⟩ := hQ
    have hW8 : Ws G A s (mW G h ad σ) H8 locs8 := hW8
    clear hW1
    refine W.eq (g2 := F0 m 22 ls7 [.int (b01 (doubtF σ k1))]) rfl ?_
    refine kb_if_eq (tgt := 29) C dX4_takesBy_22 (by decide) (fun c22 => ?_) (fun c22 => ?_)
    · exact absurd c5 c22
    · refine lv_iload_n C.hx C.hb dX4_takesBy_25 rfl (lv_at hl7 2 rfl) ?_
      refine lv_goto (tgt := 33) C.hx C.hb dX4_takesBy_26 (by decide) ?_
      refine lv_istore_n (lv' := [(3, .int (nI k1)), (2, .int (nI (k1 + 6))), (0, .ref h), (1, .int (nI k1))]) C.hx C.hb dX4_takesBy_33 rfl hl7 (Nat.le_of_ble_eq_true rfl) rfl (fun ls9 hl9 => ?_)
      clear hl7
      refine lv_aload_n C.hx C.hb dX4_takesBy_34 rfl (lv_at hl9 2 rfl) ?_
      refine lv_iload_n C.hx C.hb dX4_takesBy_35 rfl (lv_at hl9 1 rfl) ?_
      refine k_callV (Sc := mW G h ad σ) (Sr := []) (As := [.int (nI (k1 + 6))]) (rest := []) C (ctX4_lying l G h ad σ (k1 + 6) hS (by omega)) hW8 clX4 (hW8.get 0 0 rfl rfl) q2607 q2609 qs66 q85 q2610 rfl rfl ⟨by decide, by decide, Eq.trans (b := some 1) (by decide +kernel) rfl⟩ (Nat.le_of_ble_eq_true rfl) (Nat.le_of_ble_eq_true rfl) (Nat.le_refl _) (Nat.le_refl _) hl9.1 rfl (Nat.le_of_ble_eq_true rfl) dX4_takesBy_36 (List.Perm.refl _) (fun _ h => h.elim) (fun v H10 locs10 S1 hQ hz10 hW10 => ?_)
      obtain ⟨rfl, rfl⟩ := hQ
      have hW10 : Ws G A s (mW G h ad σ) H10 locs10 := hW10
      clear hW8
      refine W.eq (g2 := F0 m 39 ls9 [.int (nI (lyingN σ (k1 + 6) (σ 32 0)))]) rfl ?_
      refine kn_if_le (tgt := 46) C (by have : σ 32 0 < 201 := hB.lt 32 (by decide) 0; omega) dX4_takesBy_39 (by decide) (fun c39 => ?_) (fun c39 => ?_)
      · refine lv_aload_n C.hx C.hb dX4_takesBy_46 rfl (lv_at hl9 2 rfl) ?_
        refine lv_iload_n C.hx C.hb dX4_takesBy_47 rfl (lv_at hl9 0 rfl) ?_
        refine k_callV (Sc := mW G h ad σ) (Sr := []) (As := [.int (nI k1)]) (rest := []) C (ctX4_lying l G h ad σ k1 hS (by omega)) hW10 clX4 (hW10.get 0 0 rfl rfl) q2607 q2609 qs66 q85 q2610 rfl rfl ⟨by decide, by decide, Eq.trans (b := some 1) (by decide +kernel) rfl⟩ (Nat.le_of_ble_eq_true rfl) (Nat.le_of_ble_eq_true rfl) (Nat.le_refl _) (Nat.le_refl _) hl9.1 rfl (Nat.le_of_ble_eq_true rfl) dX4_takesBy_48 (List.Perm.refl _) (fun _ h => h.elim) (fun v H11 locs11 S1 hQ hz11 hW11 => ?_)
        obtain ⟨rfl, rfl⟩ := hQ
        have hW11 : Ws G A s (mW G h ad σ) H11 locs11 := hW11
        clear hW10
        refine W.eq (g2 := F0 m 51 ls9 [.int (nI (lyingN σ k1 (σ 32 0)))]) rfl ?_
        refine kn_if_le (tgt := 58) C (by have : σ 32 0 < 201 := hB.lt 32 (by decide) 0; omega) dX4_takesBy_51 (by decide) (fun c51 => ?_) (fun c51 => ?_)
        · refine lv_iconst (v := nI NONE) C.hx C.hb dX4_takesBy_58 (by decide) ?_
          exact k_iret C hW11 rfl ⟨by rw [show takesF σ k1 = NONE by unfold takesF; simp only [c5, if_true, if_false]; simp [c39, c51]], rfl⟩ (Nat.le_refl _) (Nat.le_refl _) dX4_takesBy_59
        · refine lv_iload_n C.hx C.hb dX4_takesBy_54 rfl (lv_at hl9 0 rfl) ?_
          refine lv_goto (tgt := 59) C.hx C.hb dX4_takesBy_55 (by decide) ?_
          exact k_iret C hW11 rfl ⟨by rw [show takesF σ k1 = k1 by unfold takesF; simp only [c5, if_true, if_false]; simp [c39, c51]], rfl⟩ (Nat.le_refl _) (Nat.le_refl _) dX4_takesBy_59
      · refine lv_iload_n C.hx C.hb dX4_takesBy_42 rfl (lv_at hl9 1 rfl) ?_
        refine lv_goto (tgt := 59) C.hx C.hb dX4_takesBy_43 (by decide) ?_
        exact k_iret C hW10 rfl ⟨by rw [show takesF σ k1 = (k1 + 6) by unfold takesF; simp only [c5, if_true, if_false]; simp [c39]], rfl⟩ (Nat.le_refl _) (Nat.le_refl _) dX4_takesBy_59
