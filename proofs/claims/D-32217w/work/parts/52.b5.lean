def Q_ctX2_presses_1 (G : GT) (st sn lb lp sf wt fd isf lat k n kp q cap y : Nat) (md mdp : Int32) (bo : Nat → Nat) (δ : Sg) (ns : List (Nat × Nat)) (xs : List Nat) : Option Value → List va_W → Prop := fun v S1 => v = none ∧ ∃ (kp2 : List (Nat × Nat)) (md2 : Int32) (q2 qi : Nat), kp2.map (fun z => z.2) = (ns.map (fun z => z.2)).filter (fun b => decide (dpF δ y ns 5 b < 1000)) ∧ intE G (qi, y) ∧ S1 = [llK lb md2 kp2.length (lm bo kp2), alW G lp q2 (capS cap kp) (mdp + 1) (kp + 1) (xs ++ [qi]), intC qi y, flat n (bdF bo (lvF (dpF δ y ns) (kp + 1) ns))]
set_option maxHeartbeats 4000000 in
set_option maxRecDepth 100000 in
theorem ctX2_presses_1 (l : Launch) (G : GT) (st sn lb lp sf wt fd isf lat k n kp q cap y : Nat) (md mdp : Int32) (bo : Nat → Nat) (δ : Sg) (ns : List (Nat × Nat)) (xs : List Nat) (hk : ns.length = k) (hk2 : k ≤ 200) (hns : ∀ z ∈ ns, z.2 < n) (hd : ∀ b, b < n → δ 5 b < 30000) (hy : y ≤ 25000) (hkp : xs.length = kp) (hok : aOk cap xs) (h0 : 0 < k) (hnd : (ns.map (fun z => z.2)).Nodup) : Ct l G yX2_presses cX2_presses 6 none 10 271 ((3 + k)) ((6 + gC cap kp + 3 * k)) [.ref st, .int (nI y)] ([(llK lb md k (lm bo ns)), (alW G lp q cap mdp kp xs), (flat n (bdF bo δ))]) ((fun z => z = .inl (st, .inr (1, [.int (nI sn), .ref lb, .ref lp, .int (nI sf), .int (nI wt), .int (nI fd), .int (nI isf), .ref lat])) ∨ ∃ x ∈ xs, z = .inr x)) (Q_ctX2_presses_1 G st sn lb lp sf wt fd isf lat k n kp q cap y md mdp bo δ ns xs) := by
  refine Ct.of (by decide +kernel) (Nat.le_of_ble_eq_true rfl) ?_
  intro p e s m below meth c A ls C hW hRo hl
  have hl : lv_has ls 6 [(0, .ref st), (1, .int (nI y))] := hl
  refine lv_aload_n C.hx C.hb dX2_presses_0 rfl (lv_at hl 0 rfl) ?_
  refine k_callV (Sc := []) (Sr := [(llK lb md k (lm bo ns)), (alW G lp q cap mdp kp xs), (flat n (bdF bo δ))]) (As := []) (rest := []) C (ctX2_isBare l G st sn lb lp sf wt fd isf lat k md (hdo (lm bo ns) none) (lst (lm bo ns) none) (by omega)) hW clX2 ((hRo _ (Or.inl rfl)).at hW) q1970 q1971 q1972 q80 q1973 rfl rfl ⟨by decide, by decide, Eq.trans (b := some 0) (by decide +kernel) rfl⟩ (Nat.le_of_ble_eq_true rfl) (Nat.le_of_ble_eq_true rfl) (show 0 + 0 ≤ (3 + k) by omega) (show 0 + 0 ≤ (6 + gC cap kp + 3 * k) by omega) hl.1 rfl (Nat.le_of_ble_eq_true rfl) dX2_presses_1 (k_permR _) (fun z => (fun hz => hz.elim (fun e => by cases e; exact Or.inr (Or.inr (hRo _ (Or.inl rfl)))) (fun e => by cases e; exact Or.inl ⟨_, rfl, seg_memP (i := 0) rfl (llK_hd _ _ _ _)⟩))) (fun v H1 locs1 S1 hQ hz1 hW1 => ?_)
  obtain ⟨rfl, rfl⟩ := hQ
  have hW1 : Ws G A s ([(llK lb md k (lm bo ns)), (alW G lp q cap mdp kp xs), (flat n (bdF bo δ))]) H1 locs1 := hW1
  clear hW
  refine W.eq (g2 := F0 m 4 ls [.int (b01 (k = 0))]) rfl ?_
  refine kb_if_eq (tgt := 8) C dX2_presses_4 (by decide) (fun c4 => ?_) (fun c4 => (absurd (by assumption) (by omega : ¬ k = 0)))
  refine lv_aload_n C.hx C.hb dX2_presses_8 rfl (lv_at hl 0 rfl) ?_
  refine k_get (v := .ref lp) C clX2 ((hRo _ (Or.inl rfl)).at hW1) 2 (Nat.le_of_ble_eq_true rfl) rfl q286 rfl rfl dX2_presses_9 ?_
  refine lv_iload_n C.hx C.hb dX2_presses_12 rfl (lv_at hl 1 rfl) ?_
  refine k_callS (Sc := []) (Sr := [(llK lb md k (lm bo ns)), (alW G lp q cap mdp kp xs), (flat n (bdF bo δ))]) (As := [.int (nI y)]) (rest := [.ref lp]) C (cI_val l G y (by omega)) hW1 q1975 q1289 q92 q1290 rfl ⟨by decide, by decide, Eq.trans (b := some 1) (by decide +kernel) rfl⟩ (Nat.le_of_ble_eq_true rfl) (Nat.le_of_ble_eq_true rfl) (show 0 + 1 ≤ (3 + k) by omega) (show 0 + 1 ≤ (6 + gC cap kp + 3 * k) by omega) hl.1 rfl (Nat.le_of_ble_eq_true rfl) dX2_presses_13 (k_permR _) (fun _ h => h.elim) (fun v H2 locs2 S1 hQ hz2 hW2 => ?_)
  obtain ⟨q4, rfl, rfl, hq4⟩ := hQ
  have hW2 : Ws G A s ([(llK lb md k (lm bo ns)), (alW G lp q cap mdp kp xs), (flat n (bdF bo δ)), (intC q4 y)]) H2 locs2 := hW2
  clear hW1
  refine W.eq (g2 := F0 m 16 ls [.ref q4, .ref lp]) rfl ?_
  refine k_callF (Sc := [(alW G lp q cap mdp kp xs)]) (Sr := [(llK lb md k (lm bo ns)), (flat n (bdF bo δ)), (intC q4 y)]) (As := [.ref q4]) (rest := []) C (cA_add l G lp q cap q4 kp mdp xs hkp hok) hW2 clJ2 (hW2.mem (seg_memP (i := 1) rfl (alW_hd _ _ _ _ _ _ _))) q1977 q1667 q1669 q75 q1671 q1666 q1665 q1670 q1668 q373 rfl ⟨by decide, by decide, Eq.trans (b := some 1) (by decide +kernel) rfl⟩ (Nat.le_of_ble_eq_true rfl) (Nat.le_of_ble_eq_true rfl) (show 1 + 1 ≤ (3 + k) by omega) (show 1 + (gC cap kp) ≤ (6 + gC cap kp + 3 * k) by omega) hl.1 rfl (Nat.le_of_ble_eq_true rfl) dX2_presses_16 ((pick_perm [(llK lb md k (lm bo ns)), (alW G lp q cap mdp kp xs), (flat n (bdF bo δ)), (intC q4 y)] 4 rfl (is := [0, 2, 3, 1]) (by decide)).flatten.symm) (fun z hz => by obtain ⟨x9, hx9, rfl⟩ := hz; rcases List.mem_cons.mp hx9 with rfl | hx9; exact int_lv C.hX hW2 hq4 (fun x hx => seg_memP (i := 2) rfl hx) (fun x hx => seg_memP (i := 3) rfl hx); exact Or.inr (Or.inr (hRo _ (Or.inr ⟨x9, hx9, rfl⟩)))) (fun v H3 locs3 S1 hQ hz3 hW3 => ?_)
  obtain ⟨rfl, q2, rfl⟩ := hQ
  have hW3 : Ws G A s ([(llK lb md k (lm bo ns)), (flat n (bdF bo δ)), (intC q4 y), (alW G lp q2 (capS cap kp) (mdp + 1) (kp + 1) (xs ++ [q4]))]) H3 locs3 := hW3
  clear hW2
  refine W.eq (g2 := F0 m 21 ls [.int (nI 1)]) rfl ?_
  refine lv_istore_n (lv' := [(2, .int (nI 1)), (0, .ref st), (1, .int (nI y))]) C.hx C.hb dX2_presses_21 rfl hl (Nat.le_of_ble_eq_true rfl) rfl (fun ls4 hl4 => ?_)
  clear hl
  refine lv_aload_n C.hx C.hb dX2_presses_22 rfl (lv_at hl4 1 rfl) ?_
  refine k_get (v := .ref lb) C clX2 ((hRo _ (Or.inl rfl)).at hW3) 1 (Nat.le_of_ble_eq_true rfl) rfl q284 rfl rfl dX2_presses_23 ?_
  refine k_callU (owner := "java/util/AbstractSequentialList") (Sc := []) (Sr := [(llK lb md k (lm bo ns)), (flat n (bdF bo δ)), (intC q4 y), (alW G lp q2 (capS cap kp) (mdp + 1) (kp + 1) (xs ++ [q4]))]) (As := []) (rest := []) C (cL_iter l G lb k md (lm bo ns) (by rw [lm_len]; exact hk) (by omega)) hW3 clJ8 (hW3.mem (seg_memP (i := 0) rfl (llK_hd _ _ _ _))) q1978 q1100 q1102 q403 q81 q405 rfl rfl ⟨by decide, by decide, Eq.trans (b := some 0) (by decide +kernel) rfl⟩ (Nat.le_of_ble_eq_true rfl) (Nat.le_of_ble_eq_true rfl) (show 2 + 1 ≤ (3 + k) by omega) (show (1 + (gC cap kp)) + 5 ≤ (6 + gC cap kp + 3 * k) by omega) hl4.1 rfl (Nat.le_of_ble_eq_true rfl) dX2_presses_26 (k_permR _) (fun z => (fun e => by cases e; exact Or.inl ⟨_, rfl, seg_memP (i := 0) rfl (llK_hd _ _ _ _)⟩)) (fun v H5 locs5 S1 hQ hz5 hW5 => ?_)
  obtain ⟨q0, rfl, rfl⟩ := hQ
  have hW5 : Ws G A s ([(llK lb md k (lm bo ns)), (flat n (bdF bo δ)), (intC q4 y), (alW G lp q2 (capS cap kp) (mdp + 1) (kp + 1) (xs ++ [q4])), [(q0, .inr (22, [.null, vr (hdo (lm bo ns) none), .int (nI 0), .int md, .ref lb]))]]) H5 locs5 := hW5
  clear hW3
  refine W.eq (g2 := F0 m 29 ls4 [.ref q0]) rfl ?_
  refine lv_astore_n (lv' := [(3, .ref q0), (2, .int (nI 1)), (0, .ref st), (1, .int (nI y))]) C.hx C.hb dX2_presses_29 rfl hl4 (Nat.le_of_ble_eq_true rfl) rfl (fun ls6 hl6 => ?_)
  clear hl4
  have L : ∀ (k7 : Nat) (i1 t1 : List (Nat × Nat)) (lr : Option Nat), (ns = i1 ++ t1) → t1.length < k7 → ∀ (H7 : Heap) (locs7 : List Loc) (ls7 : Array Slot), Ws G A s ([(llK lb md k (lm bo ns)), (alW G lp q2 (capS cap kp) (mdp + 1) (kp + 1) (xs ++ [q4])), (intC q4 y), (flat n (bdF bo (dpF δ y i1))), [(q0, .inr (22, [vr lr, vr (hdo (lm bo t1) none), .int (nI i1.length), .int md, .ref lb]))]]) H7 locs7 → lv_has ls7 6 [(3, .ref q0), (0, .ref st), (1, .int (nI y))] → W p l e ({ frames := 10, cells := (3 + k), slots := (6 + gC cap kp + 3 * k), locals := 271 } : Room) s m ([.ref st, .int (nI y)] : List Value).toArray below meth c H7 locs7 3 (1 + (gC cap kp) + 5) (MQ below (cQ G A (Q_ctX2_presses_1 G st sn lb lp sf wt fd isf lat k n kp q cap y md mdp bo δ ns xs)) ([.ref st, .int (nI y)] : List Value).toArray s ((3 + k)) ((6 + gC cap kp + 3 * k)) A) (F0 m 30 ls7 []) := by
    intro k7
    induction k7 with
    | zero => intro i1 t1 lr hL_0 hm7; exact absurd hm7 (Nat.not_lt_zero _)
    | succ k7 ih7 =>
      intro i1 t1 lr hL_0 hm7 H7 locs7 ls7 hW7 hl7
      have hlen := congrArg List.length hL_0
      rw [List.length_append] at hlen
      refine lv_aload_n C.hx C.hb dX2_presses_30 rfl (lv_at hl7 0 rfl) ?_
      refine k_callF (Sc := [[(q0, .inr (22, [vr lr, vr (hdo (lm bo t1) none), .int (nI i1.length), .int md, .ref lb]))]]) (Sr := [(llK lb md k (lm bo ns)), (alW G lp q2 (capS cap kp) (mdp + 1) (kp + 1) (xs ++ [q4])), (intC q4 y), (flat n (bdF bo (dpF δ y i1)))]) (As := []) (rest := []) C (ctJ35_hasNext l G q0 lb k i1.length md (hdo (lm bo ns) none) (lst (lm bo ns) none) lr (hdo (lm bo t1) none) (by omega) (by omega)) hW7 clJ35 (hW7.get 4 0 rfl rfl) q1980 q856 q858 q118 q860 q824 q823 q859 q857 q855 rfl ⟨by decide, by decide, Eq.trans (b := some 0) (by decide +kernel) rfl⟩ (Nat.le_of_ble_eq_true rfl) (Nat.le_of_ble_eq_true rfl) (show 3 + 0 ≤ (3 + k) by omega) (show (1 + (gC cap kp) + 5) + 0 ≤ (6 + gC cap kp + 3 * k) by omega) hl7.1 rfl (Nat.le_of_ble_eq_true rfl) dX2_presses_31 ((pick_perm [(llK lb md k (lm bo ns)), (alW G lp q2 (capS cap kp) (mdp + 1) (kp + 1) (xs ++ [q4])), (intC q4 y), (flat n (bdF bo (dpF δ y i1))), [(q0, .inr (22, [vr lr, vr (hdo (lm bo t1) none), .int (nI i1.length), .int md, .ref lb]))]] 5 rfl (is := [0, 1, 2, 3, 4]) (by decide)).flatten.symm) (fun z => (fun e => by cases e; exact Or.inl ⟨_, rfl, seg_memP (i := 0) rfl (llK_hd _ _ _ _)⟩)) (fun v H8 locs8 S1 hQ hz8 hW8 => ?_)
      obtain ⟨rfl, rfl⟩ := hQ
      have hW8 : Ws G A s ([(llK lb md k (lm bo ns)), (alW G lp q2 (capS cap kp) (mdp + 1) (kp + 1) (xs ++ [q4])), (intC q4 y), (flat n (bdF bo (dpF δ y i1))), [(q0, .inr (22, [vr lr, vr (hdo (lm bo t1) none), .int (nI i1.length), .int md, .ref lb]))]]) H8 locs8 := hW8
      clear hW7
      refine W.eq (g2 := F0 m 36 ls7 [.int (b01 (i1.length < k))]) rfl ?_
      refine kb_if_eq (tgt := 64) C dX2_presses_36 (by decide) (fun c36 => ?_) (fun c36 => ?_)
      · have ht1 : t1 = [] := List.eq_nil_of_length_eq_zero (by omega)
        subst ht1
        rw [List.append_nil] at hL_0
        subst hL_0
        have hW9 : Ws G A s [(llK lb md k (lm bo ns)), (alW G lp q2 (capS cap kp) (mdp + 1) (kp + 1) (xs ++ [q4])), (intC q4 y), (flat n (bdF bo (dpF δ y ns))), [(q0, .inr (22, [vr lr, vr (hdo (lm bo []) none), .int (nI ns.length), .int md, .ref lb]))]] H8 locs8 := hW8.pick 5 rfl [0, 1, 2, 3, 4] (by decide) rfl
        clear hW8
        have hW10 : Ws G A s [(llK lb md k (lm bo ns)), (alW G lp q2 (capS cap kp) (mdp + 1) (kp + 1) (xs ++ [q4])), (intC q4 y), (flat n (bdF bo (dpF δ y ns)))] H8 locs8 := hW9.drop (S2 := [[(q0, .inr (22, [vr lr, vr (hdo (lm bo []) none), .int (nI ns.length), .int md, .ref lb]))]]) rfl
        clear hW9
        refine lv_aload_n C.hx C.hb dX2_presses_64 rfl (lv_at hl7 1 rfl) ?_
        refine k_get (v := .ref lb) C clX2 ((hRo _ (Or.inl rfl)).at hW10) 1 (Nat.le_of_ble_eq_true rfl) rfl q284 rfl rfl dX2_presses_65 ?_
        refine k_callV (Sc := []) (Sr := [(llK lb md k (lm bo ns)), (alW G lp q2 (capS cap kp) (mdp + 1) (kp + 1) (xs ++ [q4])), (intC q4 y), (flat n (bdF bo (dpF δ y ns)))]) (As := []) (rest := []) C (ctJ8_size l G lb k md (hdo (lm bo ns) none) (lst (lm bo ns) none)) hW10 clJ8 (hW10.mem (seg_memP (i := 0) rfl (llK_hd _ _ _ _))) q1984 q838 q2666 q82 q839 rfl rfl ⟨by decide, by decide, Eq.trans (b := some 0) (by decide +kernel) rfl⟩ (Nat.le_of_ble_eq_true rfl) (Nat.le_of_ble_eq_true rfl) (show 3 + 0 ≤ (3 + k) by omega) (show (1 + (gC cap kp) + 5) + 0 ≤ (6 + gC cap kp + 3 * k) by omega) hl7.1 rfl (Nat.le_of_ble_eq_true rfl) dX2_presses_68 (k_permR _) (fun z => (fun e => by cases e; exact Or.inl ⟨_, rfl, seg_memP (i := 0) rfl (llK_hd _ _ _ _)⟩)) (fun v H11 locs11 S1 hQ hz11 hW11 => ?_)
        obtain ⟨rfl, rfl⟩ := hQ
        have hW11 : Ws G A s ([(llK lb md k (lm bo ns)), (alW G lp q2 (capS cap kp) (mdp + 1) (kp + 1) (xs ++ [q4])), (intC q4 y), (flat n (bdF bo (dpF δ y ns)))]) H11 locs11 := hW11
        clear hW10
        refine W.eq (g2 := F0 m 71 ls7 [.int (nI k)]) rfl ?_
        refine lv_istore_n (lv' := [(3, .int (nI k)), (0, .ref st), (1, .int (nI y))]) C.hx C.hb dX2_presses_71 rfl hl7 (Nat.le_of_ble_eq_true rfl) rfl (fun ls12 hl12 => ?_)
        clear hl7
        refine kn_iconst (a := 0) C (by decide) dX2_presses_72 ?_
        refine lv_istore (lv' := [(4, .int (nI 0)), (3, .int (nI k)), (0, .ref st), (1, .int (nI y))]) C.hx C.hb dX2_presses_73 hl12 (Nat.le_of_ble_eq_true rfl) rfl (fun ls13 hl13 => ?_)
        clear hl12
        have M : ∀ (k14 : Nat) (i2 t2 kp2 : List (Nat × Nat)) (md2 : Int32), (ns = i2 ++ t2) → (kp2.map (fun z => z.2) = (i2.map (fun z => z.2)).filter (fun b => decide (dpF δ y ns 5 b < 1000))) → t2.length < k14 → ∀ (H14 : Heap) (locs14 : List Loc) (ls14 : Array Slot), Ws G A s ([(llK lb md2 (t2.length + kp2.length) (lm bo (t2 ++ kp2))), (alW G lp q2 (capS cap kp) (mdp + 1) (kp + 1) (xs ++ [q4])), (intC q4 y), (flat n (bdF bo (lvF (dpF δ y ns) (kp + 1) i2)))]) H14 locs14 → lv_has ls14 6 [(4, .int (nI i2.length)), (3, .int (nI k)), (0, .ref st), (1, .int (nI y))] → W p l e ({ frames := 10, cells := (3 + k), slots := (6 + gC cap kp + 3 * k), locals := 271 } : Room) s m ([.ref st, .int (nI y)] : List Value).toArray below meth c H14 locs14 (3 + kp2.length) ((6 + gC cap kp) + 3 * kp2.length) (MQ below (cQ G A (Q_ctX2_presses_1 G st sn lb lp sf wt fd isf lat k n kp q cap y md mdp bo δ ns xs)) ([.ref st, .int (nI y)] : List Value).toArray s ((3 + k)) ((6 + gC cap kp + 3 * k)) A) (F0 m 75 ls14 []) := by
          intro k14
          induction k14 with
          | zero => intro i2 t2 kp2 md2 hM_0 hM_1 hm14; exact absurd hm14 (Nat.not_lt_zero _)
          | succ k14 ih14 =>
            intro i2 t2 kp2 md2 hM_0 hM_1 hm14 H14 locs14 ls14 hW14 hl14
            have hlen := congrArg List.length hM_0
            rw [List.length_append] at hlen
            have hkk := congrArg List.length hM_1
            rw [List.length_map] at hkk
            have hkf := List.length_filter_le (fun b => decide (dpF δ y ns 5 b < 1000)) (i2.map (fun z => z.2))
            rw [List.length_map] at hkf
            refine lv_iload C.hx C.hb dX2_presses_75 (lv_at hl14 0 rfl) ?_
            refine lv_iload_n C.hx C.hb dX2_presses_77 rfl (lv_at hl14 1 rfl) ?_
            refine kn_icmp_ge (tgt := 129) C (by omega) (by omega) dX2_presses_78 (by decide) (fun c78 => ?_) (fun c78 => ?_)
            · have ht1 : t2 = [] := List.eq_nil_of_length_eq_zero (by omega)
              subst ht1
              rw [List.append_nil] at hM_0
              subst hM_0
              have hW15 : Ws G A s [(llK lb md2 kp2.length (lm bo kp2)), (alW G lp q2 (capS cap kp) (mdp + 1) (kp + 1) (xs ++ [q4])), (intC q4 y), (flat n (bdF bo (lvF (dpF δ y ns) (kp + 1) ns)))] H14 locs14 := by
                have h9 := hW14
                rw [List.nil_append, show ([] : List (Nat × Nat)).length + kp2.length = kp2.length by simp] at h9
                exact h9
              clear hW14
              exact k_vret C hW15 rfl ⟨rfl, kp2, md2, q2, q4, hM_1, hq4, rfl⟩ (by omega) (by omega) dX2_presses_129
            · refine lv_aload_n C.hx C.hb dX2_presses_81 rfl (lv_at hl14 2 rfl) ?_
              refine k_get (v := .ref lb) C clX2 ((hRo _ (Or.inl rfl)).at hW14) 1 (Nat.le_of_ble_eq_true rfl) rfl q284 rfl rfl dX2_presses_82 ?_
              rcases t2 with _ | ⟨⟨n1, b1⟩, t3⟩
              · exact absurd hlen (by simp; omega)
              have hb1 : b1 < n := hns (n1, b1) (by rw [hM_0]; simp)
              have hdb := hd b1 hb1
              have hmem : (n1, b1) ∈ ns := by rw [hM_0]; simp
              have hW16 : Ws G A s [(llK lb md2 (t3.length + kp2.length + 1) ((n1, bo b1) :: lm bo (t3 ++ kp2))), (alW G lp q2 (capS cap kp) (mdp + 1) (kp + 1) (xs ++ [q4])), (intC q4 y), (flat n (bdF bo (lvF (dpF δ y ns) (kp + 1) i2)))] H14 locs14 := by
                have h9 := hW14
                rw [show ((n1, b1) :: t3).length + kp2.length = t3.length + kp2.length + 1 by simp; omega] at h9
                exact h9
              clear hW14
              refine k_callV (Sc := [(llK lb md2 (t3.length + kp2.length + 1) ((n1, bo b1) :: lm bo (t3 ++ kp2)))]) (Sr := [(alW G lp q2 (capS cap kp) (mdp + 1) (kp + 1) (xs ++ [q4])), (intC q4 y), (flat n (bdF bo (lvF (dpF δ y ns) (kp + 1) i2)))]) (As := []) (rest := []) C (cL_poll l G lb n1 (bo b1) (t3.length + kp2.length) md2 (lm bo (t3 ++ kp2)) (by rw [lm_len, List.length_append])) hW16 clJ8 (hW16.mem (seg_memP (i := 0) rfl (llK_hd _ _ _ _))) q1985 q1571 q1572 q82 q1573 rfl rfl ⟨by decide, by decide, Eq.trans (b := some 0) (by decide +kernel) rfl⟩ (Nat.le_of_ble_eq_true rfl) (Nat.le_of_ble_eq_true rfl) (show (3 + kp2.length) + 0 ≤ (3 + k) by omega) (show ((6 + gC cap kp) + 3 * kp2.length) + 0 ≤ (6 + gC cap kp + 3 * k) by omega) hl14.1 rfl (Nat.le_of_ble_eq_true rfl) dX2_presses_85 ((pick_perm [(llK lb md2 (t3.length + kp2.length + 1) ((n1, bo b1) :: lm bo (t3 ++ kp2))), (alW G lp q2 (capS cap kp) (mdp + 1) (kp + 1) (xs ++ [q4])), (intC q4 y), (flat n (bdF bo (lvF (dpF δ y ns) (kp + 1) i2)))] 4 rfl (is := [1, 2, 3, 0]) (by decide)).flatten.symm) (fun _ h => h.elim) (fun v H17 locs17 S1 hQ hz17 hW17 => ?_)
              obtain ⟨rfl, rfl⟩ := hQ
              have hW17 : Ws G A s ([(alW G lp q2 (capS cap kp) (mdp + 1) (kp + 1) (xs ++ [q4])), (intC q4 y), (flat n (bdF bo (lvF (dpF δ y ns) (kp + 1) i2))), (llK lb (md2 + 1) (t3.length + kp2.length) (lm bo (t3 ++ kp2)))]) H17 locs17 := hW17
              clear hW16
              refine W.eq (g2 := F0 m 88 ls14 [.ref (bo b1)]) rfl ?_
              have hW18 : Ws G A s [(alW G lp q2 (capS cap kp) (mdp + 1) (kp + 1) (xs ++ [q4])), (intC q4 y), (flatx n b1 (bdF bo (lvF (dpF δ y ns) (kp + 1) i2))), (llK lb (md2 + 1) (t3.length + kp2.length) (lm bo (t3 ++ kp2))), [((bo b1), .inr (4, [.int (nI ((lvF (dpF δ y ns) (kp + 1) i2) 0 b1)), .int (nI ((lvF (dpF δ y ns) (kp + 1) i2) 1 b1)), .int (nI ((lvF (dpF δ y ns) (kp + 1) i2) 2 b1)), .int (nI ((lvF (dpF δ y ns) (kp + 1) i2) 3 b1)), .int (nI ((lvF (dpF δ y ns) (kp + 1) i2) 4 b1)), .int (nI ((lvF (dpF δ y ns) (kp + 1) i2) 5 b1)), .int (nI ((lvF (dpF δ y ns) (kp + 1) i2) 6 b1)), .int (nI ((lvF (dpF δ y ns) (kp + 1) i2) 7 b1))]))]] H17 locs17 := hW17.opn 2 rfl hb1 rfl
              clear hW17
              have h5 : (lvF (dpF δ y ns) (kp + 1) i2) 5 b1 = dpF δ y ns 5 b1 := lvF_o _ _ _ _ (by decide) (by decide) _
              have h5b := dpF_le δ y ns b1 hnd
              have h5c : (lvF (dpF δ y ns) (kp + 1) i2) 5 b1 < 2 ^ 31 := by omega
              refine k_castS C clX5 (hW18.get 4 0 rfl rfl) q1983 rfl dX2_presses_88 ?_
              refine lv_astore (lv' := [(5, .ref (bo b1)), (4, .int (nI i2.length)), (3, .int (nI k)), (0, .ref st), (1, .int (nI y))]) C.hx C.hb dX2_presses_91 hl14 (Nat.le_of_ble_eq_true rfl) rfl (fun ls19 hl19 => ?_)
              clear hl14
              refine lv_aload C.hx C.hb dX2_presses_93 (lv_at hl19 0 rfl) ?_
              refine k_getN (v := .int (nI ((lvF (dpF δ y ns) (kp + 1) i2) 5 b1))) C clX5 (hW18.get 4 0 rfl rfl) 5 (Nat.le_of_ble_eq_true rfl) rfl q1640 rfl rfl dX2_presses_95 ?_
              refine kn_sipush (a := 1000) C (by decide) dX2_presses_98 ?_
              refine kn_icmp_ge (tgt := 116) C (by omega) (by decide) dX2_presses_101 (by decide) (fun c101 => ?_) (fun c101 => ?_)
              · refine lv_aload_n C.hx C.hb dX2_presses_116 rfl (lv_at hl19 3 rfl) ?_
                refine lv_aload C.hx C.hb dX2_presses_117 (lv_at hl19 0 rfl) ?_
                refine kn_iconst (a := 3) C (by decide) dX2_presses_119 ?_
                refine k_callV (Sc := [[((bo b1), .inr (4, [.int (nI ((lvF (dpF δ y ns) (kp + 1) i2) 0 b1)), .int (nI ((lvF (dpF δ y ns) (kp + 1) i2) 1 b1)), .int (nI ((lvF (dpF δ y ns) (kp + 1) i2) 2 b1)), .int (nI ((lvF (dpF δ y ns) (kp + 1) i2) 3 b1)), .int (nI ((lvF (dpF δ y ns) (kp + 1) i2) 4 b1)), .int (nI ((lvF (dpF δ y ns) (kp + 1) i2) 5 b1)), .int (nI ((lvF (dpF δ y ns) (kp + 1) i2) 6 b1)), .int (nI ((lvF (dpF δ y ns) (kp + 1) i2) 7 b1))]))]]) (Sr := [(alW G lp q2 (capS cap kp) (mdp + 1) (kp + 1) (xs ++ [q4])), (intC q4 y), (flatx n b1 (bdF bo (lvF (dpF δ y ns) (kp + 1) i2))), (llK lb (md2 + 1) (t3.length + kp2.length) (lm bo (t3 ++ kp2)))]) (As := [.ref (bo b1), .int (nI 3)]) (rest := []) C (ctX2_leaves l G st sn lb lp sf wt fd isf lat (bo b1) ((lvF (dpF δ y ns) (kp + 1) i2) 0 b1) ((lvF (dpF δ y ns) (kp + 1) i2) 1 b1) ((lvF (dpF δ y ns) (kp + 1) i2) 2 b1) ((lvF (dpF δ y ns) (kp + 1) i2) 3 b1) ((lvF (dpF δ y ns) (kp + 1) i2) 4 b1) ((lvF (dpF δ y ns) (kp + 1) i2) 5 b1) ((lvF (dpF δ y ns) (kp + 1) i2) 6 b1) ((lvF (dpF δ y ns) (kp + 1) i2) 7 b1) q2 (capS cap kp) (kp + 1) 3 (mdp + 1)) hW18 clX2 ((hRo _ (Or.inl rfl)).at hW18) q1986 q1988 qs41 q80 q1989 rfl rfl ⟨by decide, by decide, Eq.trans (b := some 2) (by decide +kernel) rfl⟩ (Nat.le_of_ble_eq_true rfl) (Nat.le_of_ble_eq_true rfl) (show (3 + kp2.length) + 0 ≤ (3 + k) by omega) (show ((6 + gC cap kp) + 3 * kp2.length) + 0 ≤ (6 + gC cap kp + 3 * k) by omega) hl19.1 rfl (Nat.le_of_ble_eq_true rfl) dX2_presses_120 ((pick_perm [(alW G lp q2 (capS cap kp) (mdp + 1) (kp + 1) (xs ++ [q4])), (intC q4 y), (flatx n b1 (bdF bo (lvF (dpF δ y ns) (kp + 1) i2))), (llK lb (md2 + 1) (t3.length + kp2.length) (lm bo (t3 ++ kp2))), [((bo b1), .inr (4, [.int (nI ((lvF (dpF δ y ns) (kp + 1) i2) 0 b1)), .int (nI ((lvF (dpF δ y ns) (kp + 1) i2) 1 b1)), .int (nI ((lvF (dpF δ y ns) (kp + 1) i2) 2 b1)), .int (nI ((lvF (dpF δ y ns) (kp + 1) i2) 3 b1)), .int (nI ((lvF (dpF δ y ns) (kp + 1) i2) 4 b1)), .int (nI ((lvF (dpF δ y ns) (kp + 1) i2) 5 b1)), .int (nI ((lvF (dpF δ y ns) (kp + 1) i2) 6 b1)), .int (nI ((lvF (dpF δ y ns) (kp + 1) i2) 7 b1))]))]] 5 rfl (is := [0, 1, 2, 3, 4]) (by decide)).flatten.symm) (fun z => (fun hz => hz.elim (fun e => by cases e; exact Or.inr (Or.inr (hRo _ (Or.inl rfl)))) (fun e => by cases e; exact Or.inl ⟨_, rfl, seg_memP (i := 0) rfl (alW_hd _ _ _ _ _ _ _)⟩))) (fun v H20 locs20 S1 hQ hz20 hW20 => ?_)
                obtain ⟨rfl, rfl⟩ := hQ
                have hW20 : Ws G A s ([(alW G lp q2 (capS cap kp) (mdp + 1) (kp + 1) (xs ++ [q4])), (intC q4 y), (flatx n b1 (bdF bo (lvF (dpF δ y ns) (kp + 1) i2))), (llK lb (md2 + 1) (t3.length + kp2.length) (lm bo (t3 ++ kp2))), [((bo b1), .inr (4, [.int (nI ((lvF (dpF δ y ns) (kp + 1) i2) 0 b1)), .int (nI ((lvF (dpF δ y ns) (kp + 1) i2) 1 b1)), .int (nI ((lvF (dpF δ y ns) (kp + 1) i2) 2 b1)), .int (nI 3), .int (nI ((lvF (dpF δ y ns) (kp + 1) i2) 4 b1)), .int (nI ((lvF (dpF δ y ns) (kp + 1) i2) 5 b1)), .int (nI ((lvF (dpF δ y ns) (kp + 1) i2) 6 b1)), .int (nI (kp + 1))]))]]) H20 locs20 := hW20
                clear hW18
                refine W.eq (g2 := F0 m 123 ls19 []) rfl ?_
                have hW21 : Ws G A s [(alW G lp q2 (capS cap kp) (mdp + 1) (kp + 1) (xs ++ [q4])), (intC q4 y), (flat n (bdF bo (s2 (s2 (lvF (dpF δ y ns) (kp + 1) i2) 3 b1 3) 7 b1 (kp + 1)))), (llK lb (md2 + 1) (t3.length + kp2.length) (lm bo (t3 ++ kp2)))] H20 locs20 := hW20.cls 2 4 (bdF bo (s2 (s2 (lvF (dpF δ y ns) (kp + 1) i2) 3 b1 3) 7 b1 (kp + 1))) rfl rfl (by decide) hb1 bdF_set2 (by first | rfl | simp [bdF, bdL, s2_rd]) rfl
                clear hW20
                refine kn_iinc (lv' := [(4, .int (nI (i2.length + 1))), (5, .ref (bo b1)), (3, .int (nI k)), (0, .ref st), (1, .int (nI y))]) (k := 1) C dX2_presses_123 hl19 rfl (Nat.le_of_ble_eq_true rfl) rfl (fun ls22 hl22 => ?_)
                clear hl19
                refine lv_goto (tgt := 75) C.hx C.hb dX2_presses_126 (by decide) ?_
                have hW23 : Ws G A s [(llK lb (md2 + 1) (t3.length + kp2.length) (lm bo (t3 ++ kp2))), (alW G lp q2 (capS cap kp) (mdp + 1) (kp + 1) (xs ++ [q4])), (intC q4 y), (flat n (bdF bo (s2 (s2 (lvF (dpF δ y ns) (kp + 1) i2) 3 b1 3) 7 b1 (kp + 1))))] H20 locs20 := hW21.pick 4 rfl [3, 0, 1, 2] (by decide) rfl
                clear hW21
                have hc9 : ¬ lvF (dpF δ y ns) (kp + 1) i2 5 b1 < 1000 := by omega
                have hc8 : ¬ dpF δ y ns 5 b1 < 1000 := by omega
                have hW24 : Ws G A s [(llK lb (md2 + 1) (t3.length + kp2.length) (lm bo (t3 ++ kp2))), (alW G lp q2 (capS cap kp) (mdp + 1) (kp + 1) (xs ++ [q4])), (intC q4 y), (flat n (bdF bo (lvF (dpF δ y ns) (kp + 1) (i2 ++ [(n1, b1)]))))] H20 locs20 := by
                  rw [lvF_snoc, if_neg hc9]
                  exact hW23
                clear hW23
                have e25 : (i2 ++ [(n1, b1)]).length = (i2.length + 1) := by first | rfl | (simp; done) | (simp; omega)
                exact ih14 (i2 ++ [(n1, b1)]) t3 kp2 (md2 + 1) (by rw [hM_0]; simp) (by rw [List.map_append, List.filter_append, hM_1]; simp [hc8]) (by simp at hm14; omega) _ _ _ hW24 (by rw [e25]; exact (lv_sub hl22 [0, 2, 3, 4] rfl))
              · refine lv_aload_n C.hx C.hb dX2_presses_104 rfl (lv_at hl19 3 rfl) ?_
                refine k_get (v := .ref lb) C clX2 ((hRo _ (Or.inl rfl)).at hW18) 1 (Nat.le_of_ble_eq_true rfl) rfl q284 rfl rfl dX2_presses_105 ?_
                refine lv_aload C.hx C.hb dX2_presses_108 (lv_at hl19 0 rfl) ?_
                have hW26 : Ws G A s [(alW G lp q2 (capS cap kp) (mdp + 1) (kp + 1) (xs ++ [q4])), (intC q4 y), (flat n (bdF bo (lvF (dpF δ y ns) (kp + 1) i2))), (llK lb (md2 + 1) (t3.length + kp2.length) (lm bo (t3 ++ kp2)))] H17 locs17 := hW18.cls 2 4 (bdF bo (lvF (dpF δ y ns) (kp + 1) i2)) rfl rfl (by decide) hb1 (fun _ _ => rfl) (by first | rfl | simp [bdF, bdL, s2_rd]) rfl
                clear hW18
                refine k_callV (Sc := [(llK lb (md2 + 1) (t3.length + kp2.length) (lm bo (t3 ++ kp2)))]) (Sr := [(alW G lp q2 (capS cap kp) (mdp + 1) (kp + 1) (xs ++ [q4])), (intC q4 y), (flat n (bdF bo (lvF (dpF δ y ns) (kp + 1) i2)))]) (As := [.ref (bo b1)]) (rest := []) C (cL_add l G lb (bo b1) (t3.length + kp2.length) (md2 + 1) (lm bo (t3 ++ kp2)) (by rw [lm_len, List.length_append])) hW26 clJ8 (hW26.mem (seg_memP (i := 3) rfl (llK_hd _ _ _ _))) q1867 q1852 q1853 q82 q1854 rfl rfl ⟨by decide, by decide, Eq.trans (b := some 1) (by decide +kernel) rfl⟩ (Nat.le_of_ble_eq_true rfl) (Nat.le_of_ble_eq_true rfl) (show (3 + kp2.length) + 1 ≤ (3 + k) by omega) (show ((6 + gC cap kp) + 3 * kp2.length) + 3 ≤ (6 + gC cap kp + 3 * k) by omega) hl19.1 rfl (Nat.le_of_ble_eq_true rfl) dX2_presses_110 ((pick_perm [(alW G lp q2 (capS cap kp) (mdp + 1) (kp + 1) (xs ++ [q4])), (intC q4 y), (flat n (bdF bo (lvF (dpF δ y ns) (kp + 1) i2))), (llK lb (md2 + 1) (t3.length + kp2.length) (lm bo (t3 ++ kp2)))] 4 rfl (is := [0, 1, 2, 3]) (by decide)).flatten.symm) (fun _ h => h.elim) (fun v H27 locs27 S1 hQ hz27 hW27 => ?_)
                obtain ⟨rfl, q9, rfl⟩ := hQ
                have hW27 : Ws G A s ([(alW G lp q2 (capS cap kp) (mdp + 1) (kp + 1) (xs ++ [q4])), (intC q4 y), (flat n (bdF bo (lvF (dpF δ y ns) (kp + 1) i2))), (llK lb (md2 + 1 + 1) (t3.length + kp2.length + 1) (lm bo (t3 ++ kp2) ++ [(q9, bo b1)]))]) H27 locs27 := hW27
                clear hW26
                refine W.eq (g2 := F0 m 113 ls19 []) rfl ?_
                refine lv_goto (tgt := 123) C.hx C.hb dX2_presses_113 (by decide) ?_
                refine kn_iinc (lv' := [(4, .int (nI (i2.length + 1))), (5, .ref (bo b1)), (3, .int (nI k)), (0, .ref st), (1, .int (nI y))]) (k := 1) C dX2_presses_123 hl19 rfl (Nat.le_of_ble_eq_true rfl) rfl (fun ls28 hl28 => ?_)
                clear hl19
                refine lv_goto (tgt := 75) C.hx C.hb dX2_presses_126 (by decide) ?_
                have hW29 : Ws G A s [(llK lb (md2 + 1 + 1) (t3.length + kp2.length + 1) (lm bo (t3 ++ kp2) ++ [(q9, bo b1)])), (alW G lp q2 (capS cap kp) (mdp + 1) (kp + 1) (xs ++ [q4])), (intC q4 y), (flat n (bdF bo (lvF (dpF δ y ns) (kp + 1) i2)))] H27 locs27 := hW27.pick 4 rfl [3, 0, 1, 2] (by decide) rfl
                clear hW27
                have hc9 : lvF (dpF δ y ns) (kp + 1) i2 5 b1 < 1000 := by omega
                have hc8 : dpF δ y ns 5 b1 < 1000 := by omega
                have hkl : (kp2 ++ [(q9, b1)]).length = kp2.length + 1 := by simp
                have hW30 : Ws G A s [(llK lb (md2 + 1 + 1) (t3.length + (kp2 ++ [(q9, b1)]).length) (lm bo (t3 ++ (kp2 ++ [(q9, b1)])))), (alW G lp q2 (capS cap kp) (mdp + 1) (kp + 1) (xs ++ [q4])), (intC q4 y), (flat n (bdF bo (lvF (dpF δ y ns) (kp + 1) (i2 ++ [(n1, b1)]))))] H27 locs27 := by
                  rw [lvF_snoc, if_pos hc9, ← List.append_assoc, lm_app bo (t3 ++ kp2), show t3.length + (kp2 ++ [(q9, b1)]).length = t3.length + kp2.length + 1 by simp; omega]
                  exact hW29
                clear hW29
                refine W.widen (k := 3 + (kp2 ++ [(q9, b1)]).length) (n := (6 + gC cap kp) + 3 * (kp2 ++ [(q9, b1)]).length) (by omega) (by omega) ?_
                have e31 : (i2 ++ [(n1, b1)]).length = (i2.length + 1) := by first | rfl | (simp; done) | (simp; omega)
                exact ih14 (i2 ++ [(n1, b1)]) t3 (kp2 ++ [(q9, b1)]) (md2 + 1 + 1) (by rw [hM_0]; simp) (by rw [List.map_append, List.map_append, List.filter_append, hM_1]; simp [hc8]) (by simp at hm14; omega) _ _ _ hW30 (by rw [e31]; exact (lv_sub hl28 [0, 2, 3, 4] rfl))
        have hW32 : Ws G A s [(llK lb md (ns.length + nilP.length) (lm bo (ns ++ nilP))), (alW G lp q2 (capS cap kp) (mdp + 1) (kp + 1) (xs ++ [q4])), (intC q4 y), (flat n (bdF bo (lvF (dpF δ y ns) (kp + 1) nilP)))] H11 locs11 := by
          rw [List.append_nil, show ns.length + nilP.length = k from hk]
          exact hW11
        clear hW11
        refine W.widen (k := 3 + nilP.length) (n := (6 + gC cap kp) + 3 * nilP.length) (by omega) (by omega) ?_
        have e33 : nilP.length = 0 := by first | rfl | (simp; done) | (simp; omega)
        exact M (ns.length + 1) nilP ns nilP md rfl rfl (Nat.lt_succ_self _) _ _ _ hW32 (by rw [e33]; exact (lv_sub hl13 [0, 1, 2, 3] rfl))
      · rcases t1 with _ | ⟨⟨n1, b1⟩, t2⟩
        · exact absurd hlen (by simp; omega)
        have hb1 : b1 < n := hns (n1, b1) (by rw [hL_0]; simp)
        have hdb := hd b1 hb1
        have hW34 : Ws G A s [(llK lb md k (lm bo ns)), (alW G lp q2 (capS cap kp) (mdp + 1) (kp + 1) (xs ++ [q4])), (intC q4 y), (flat n (bdF bo (dpF δ y i1))), [(q0, .inr (22, [vr lr, .ref n1, .int (nI i1.length), .int md, .ref lb]))]] H8 locs8 := hW8
        clear hW8
        refine lv_aload_n C.hx C.hb dX2_presses_39 rfl (lv_at hl7 0 rfl) ?_
        refine k_callF (Sc := [[(q0, .inr (22, [vr lr, .ref n1, .int (nI i1.length), .int md, .ref lb]))]]) (Sr := [(llK lb md k (lm bo ns)), (alW G lp q2 (capS cap kp) (mdp + 1) (kp + 1) (xs ++ [q4])), (intC q4 y), (flat n (bdF bo (dpF δ y i1)))]) (As := []) (rest := []) C (ctJ35_next l G q0 lb k i1.length n1 (bo b1) md (hdo (lm bo ns) none) (lst (lm bo ns) none) lr (hdo (lm bo t2) none) (lst (lm bo i1) none) (by omega) (by assumption)) hW34 clJ35 (hW34.get 4 0 rfl rfl) q1982 q1032 q1034 q118 q1036 q864 q863 q1035 q1033 q855 rfl ⟨by decide, by decide, Eq.trans (b := some 0) (by decide +kernel) rfl⟩ (Nat.le_of_ble_eq_true rfl) (Nat.le_of_ble_eq_true rfl) (show 3 + 0 ≤ (3 + k) by omega) (show (1 + (gC cap kp) + 5) + 0 ≤ (6 + gC cap kp + 3 * k) by omega) hl7.1 rfl (Nat.le_of_ble_eq_true rfl) dX2_presses_40 ((pick_perm [(llK lb md k (lm bo ns)), (alW G lp q2 (capS cap kp) (mdp + 1) (kp + 1) (xs ++ [q4])), (intC q4 y), (flat n (bdF bo (dpF δ y i1))), [(q0, .inr (22, [vr lr, .ref n1, .int (nI i1.length), .int md, .ref lb]))]] 5 rfl (is := [0, 1, 2, 3, 4]) (by decide)).flatten.symm) (fun z => (fun hz => hz.elim (fun e => by cases e; exact Or.inl ⟨_, rfl, seg_memP (i := 0) rfl (llK_hd _ _ _ _)⟩) (fun e => by cases e; exact Or.inl ⟨_, rfl, seg_memP (i := 0) rfl (lm_nd bo lb md k n1 b1 hL_0)⟩))) (fun v H35 locs35 S1 hQ hz35 hW35 => ?_)
        obtain ⟨rfl, rfl⟩ := hQ
        have hW35 : Ws G A s ([(llK lb md k (lm bo ns)), (alW G lp q2 (capS cap kp) (mdp + 1) (kp + 1) (xs ++ [q4])), (intC q4 y), (flat n (bdF bo (dpF δ y i1))), [(q0, .inr (22, [.ref n1, vr (hdo (lm bo t2) none), .int (nI (i1.length + 1)), .int md, .ref lb]))]]) H35 locs35 := hW35
        clear hW34
        refine W.eq (g2 := F0 m 45 ls7 [.ref (bo b1)]) rfl ?_
        have hW36 : Ws G A s [(llK lb md k (lm bo ns)), (alW G lp q2 (capS cap kp) (mdp + 1) (kp + 1) (xs ++ [q4])), (intC q4 y), (flatx n b1 (bdF bo (dpF δ y i1))), [(q0, .inr (22, [.ref n1, vr (hdo (lm bo t2) none), .int (nI (i1.length + 1)), .int md, .ref lb]))], [((bo b1), .inr (4, [.int (nI ((dpF δ y i1) 0 b1)), .int (nI ((dpF δ y i1) 1 b1)), .int (nI ((dpF δ y i1) 2 b1)), .int (nI ((dpF δ y i1) 3 b1)), .int (nI ((dpF δ y i1) 4 b1)), .int (nI ((dpF δ y i1) 5 b1)), .int (nI ((dpF δ y i1) 6 b1)), .int (nI ((dpF δ y i1) 7 b1))]))]] H35 locs35 := hW35.opn 3 rfl hb1 rfl
        clear hW35
        refine k_castS C clX5 (hW36.get 5 0 rfl rfl) q1983 rfl dX2_presses_45 ?_
        refine lv_astore (lv' := [(4, .ref (bo b1)), (3, .ref q0), (0, .ref st), (1, .int (nI y))]) C.hx C.hb dX2_presses_48 hl7 (Nat.le_of_ble_eq_true rfl) rfl (fun ls37 hl37 => ?_)
        clear hl7
        refine lv_aload C.hx C.hb dX2_presses_50 (lv_at hl37 0 rfl) ?_
        refine lv_dup C.hx C.hb dX2_presses_52 rfl ?_
        refine k_getN (v := .int (nI ((dpF δ y i1) 5 b1))) C clX5 (hW36.get 5 0 rfl rfl) 5 (Nat.le_of_ble_eq_true rfl) rfl q1640 rfl rfl dX2_presses_53 ?_
        refine lv_iload_n C.hx C.hb dX2_presses_56 rfl (lv_at hl37 3 rfl) ?_
        refine kn_iadd C  dX2_presses_57 ?_
        refine k_putN (S' := [(llK lb md k (lm bo ns)), (alW G lp q2 (capS cap kp) (mdp + 1) (kp + 1) (xs ++ [q4])), (intC q4 y), (flatx n b1 (bdF bo (dpF δ y i1))), [(q0, .inr (22, [.ref n1, vr (hdo (lm bo t2) none), .int (nI (i1.length + 1)), .int md, .ref lb]))], [((bo b1), .inr (4, [.int (nI ((dpF δ y i1) 0 b1)), .int (nI ((dpF δ y i1) 1 b1)), .int (nI ((dpF δ y i1) 2 b1)), .int (nI ((dpF δ y i1) 3 b1)), .int (nI ((dpF δ y i1) 4 b1)), .int (nI (((dpF δ y i1) 5 b1) + y)), .int (nI ((dpF δ y i1) 6 b1)), .int (nI ((dpF δ y i1) 7 b1))]))]]) C clX5 hW36 5 0 rfl rfl 5 (Nat.le_of_ble_eq_true rfl) rfl q1640 rfl rfl (fty := .int) (v := .int (nI (((dpF δ y i1) 5 b1) + y))) (by decide +kernel) rfl rfl (Nat.le_of_ble_eq_true rfl) dX2_presses_58 rfl (fun H38 locs38 hW38 => ?_)
        clear hW36
        have hW39 : Ws G A s [(llK lb md k (lm bo ns)), (alW G lp q2 (capS cap kp) (mdp + 1) (kp + 1) (xs ++ [q4])), (intC q4 y), (flat n (bdF bo (s2 (dpF δ y i1) 5 b1 (dpF δ y i1 5 b1 + y)))), [(q0, .inr (22, [.ref n1, vr (hdo (lm bo t2) none), .int (nI (i1.length + 1)), .int md, .ref lb]))]] H38 locs38 := hW38.cls 3 5 (bdF bo (s2 (dpF δ y i1) 5 b1 (dpF δ y i1 5 b1 + y))) rfl rfl (by decide) hb1 bdF_set (by first | rfl | simp [bdF, bdL, s2_rd]) rfl
        clear hW38
        refine lv_goto (tgt := 30) C.hx C.hb dX2_presses_61 (by decide) ?_
        have e40 : ([(llK lb md k (lm bo ns)), (alW G lp q2 (capS cap kp) (mdp + 1) (kp + 1) (xs ++ [q4])), (intC q4 y), (flat n (bdF bo (dpF δ y (i1 ++ [(n1, b1)])))), [(q0, .inr (22, [vr (some n1), vr (hdo (lm bo t2) none), .int (nI (i1 ++ [(n1, b1)]).length), .int md, .ref lb]))]] : List va_W) = [(llK lb md k (lm bo ns)), (alW G lp q2 (capS cap kp) (mdp + 1) (kp + 1) (xs ++ [q4])), (intC q4 y), (flat n (bdF bo (s2 (dpF δ y i1) 5 b1 (dpF δ y i1 5 b1 + y)))), [(q0, .inr (22, [.ref n1, vr (hdo (lm bo t2) none), .int (nI (i1.length + 1)), .int md, .ref lb]))]] := by first | rfl | (simp [dpF_snoc, vr_s]; done)
        exact ih7 (i1 ++ [(n1, b1)]) t2 (some n1) (by rw [hL_0]; simp) (by simp at hm7; omega) _ _ _ (by rw [e40]; exact hW39) (lv_sub hl37 [1, 2, 3] rfl)
  have hW41 : Ws G A s [(llK lb md k (lm bo ns)), (alW G lp q2 (capS cap kp) (mdp + 1) (kp + 1) (xs ++ [q4])), (intC q4 y), (flat n (bdF bo δ)), [(q0, .inr (22, [.null, vr (hdo (lm bo ns) none), .int (nI 0), .int md, .ref lb]))]] H5 locs5 := hW5.pick 5 rfl [0, 3, 2, 1, 4] (by decide) rfl
  clear hW5
  have hl42 : lv_has ls6 6 [(3, .ref q0), (0, .ref st), (1, .int (nI y))] := lv_sub hl6 [0, 2, 3] rfl
  have e43 : ([(llK lb md k (lm bo ns)), (alW G lp q2 (capS cap kp) (mdp + 1) (kp + 1) (xs ++ [q4])), (intC q4 y), (flat n (bdF bo (dpF δ y nilP))), [(q0, .inr (22, [vr none, vr (hdo (lm bo ns) none), .int (nI nilP.length), .int md, .ref lb]))]] : List va_W) = [(llK lb md k (lm bo ns)), (alW G lp q2 (capS cap kp) (mdp + 1) (kp + 1) (xs ++ [q4])), (intC q4 y), (flat n (bdF bo δ)), [(q0, .inr (22, [.null, vr (hdo (lm bo ns) none), .int (nI 0), .int md, .ref lb]))]] := by first | rfl | (simp [dpF_snoc, vr_s]; done)
  exact L (ns.length + 1) nilP ns none rfl (Nat.lt_succ_self _) _ _ _ (by rw [e43]; exact hW41) (lv_sub hl42 [0, 1, 2] rfl)

def Q_ctX2_presses_0 (G : GT) (st sn lb lp sf wt fd isf lat k n kp q cap y : Nat) (md mdp : Int32) (bo : Nat → Nat) (δ : Sg) (ns : List (Nat × Nat)) (xs : List Nat) : Option Value → List va_W → Prop := fun v S1 => v = none ∧ S1 = [(llK lb md k (lm bo ns)), (alW G lp q cap mdp kp xs), (flat n (bdF bo δ))]
set_option maxHeartbeats 4000000 in
set_option maxRecDepth 100000 in
theorem ctX2_presses_0 (l : Launch) (G : GT) (st sn lb lp sf wt fd isf lat k n kp q cap y : Nat) (md mdp : Int32) (bo : Nat → Nat) (δ : Sg) (ns : List (Nat × Nat)) (xs : List Nat) (hk0 : k = 0) : Ct l G yX2_presses cX2_presses 6 none 3 60 0 0 [.ref st, .int (nI y)] ([(llK lb md k (lm bo ns)), (alW G lp q cap mdp kp xs), (flat n (bdF bo δ))]) ((fun z => z = .inl (st, .inr (1, [.int (nI sn), .ref lb, .ref lp, .int (nI sf), .int (nI wt), .int (nI fd), .int (nI isf), .ref lat])) ∨ ∃ x ∈ xs, z = .inr x)) (Q_ctX2_presses_0 G st sn lb lp sf wt fd isf lat k n kp q cap y md mdp bo δ ns xs) := by
  refine Ct.of (by decide +kernel) (Nat.le_of_ble_eq_true rfl) ?_
  intro p e s m below meth c A ls C hW hRo hl
  have hl : lv_has ls 6 [(0, .ref st), (1, .int (nI y))] := hl
  refine lv_aload_n C.hx C.hb dX2_presses_0 rfl (lv_at hl 0 rfl) ?_
  refine k_callV (Sc := []) (Sr := [(llK lb md k (lm bo ns)), (alW G lp q cap mdp kp xs), (flat n (bdF bo δ))]) (As := []) (rest := []) C (ctX2_isBare l G st sn lb lp sf wt fd isf lat k md (hdo (lm bo ns) none) (lst (lm bo ns) none) (by omega)) hW clX2 ((hRo _ (Or.inl rfl)).at hW) q1970 q1971 q1972 q80 q1973 rfl rfl ⟨by decide, by decide, Eq.trans (b := some 0) (by decide +kernel) rfl⟩ (Nat.le_of_ble_eq_true rfl) (Nat.le_of_ble_eq_true rfl) (Nat.le_refl _) (Nat.le_refl _) hl.1 rfl (Nat.le_of_ble_eq_true rfl) dX2_presses_1 (k_permR _) (fun z => (fun hz => hz.elim (fun e => by cases e; exact Or.inr (Or.inr (hRo _ (Or.inl rfl)))) (fun e => by cases e; exact Or.inl ⟨_, rfl, seg_memP (i := 0) rfl (llK_hd _ _ _ _)⟩))) (fun v H1 locs1 S1 hQ hz1 hW1 => ?_)
  obtain ⟨rfl, rfl⟩ := hQ
  have hW1 : Ws G A s ([(llK lb md k (lm bo ns)), (alW G lp q cap mdp kp xs), (flat n (bdF bo δ))]) H1 locs1 := hW1
  clear hW
  refine W.eq (g2 := F0 m 4 ls [.int (b01 (k = 0))]) rfl ?_
  refine kb_if_eq (tgt := 8) C dX2_presses_4 (by decide) (fun c4 => (absurd hk0 (by assumption))) (fun c4 => ?_)
  exact k_vret C hW1 rfl ⟨rfl, rfl⟩ (Nat.le_refl _) (Nat.le_refl _) dX2_presses_7

