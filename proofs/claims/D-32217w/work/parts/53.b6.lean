def Q_ctX2_carries (G : GT) (st sn lb lp sf wt fd isf lat k n kp q cap w1 : Nat) (md mdp : Int32) (bo : Nat → Nat) (δ : Sg) (ns : List (Nat × Nat)) (xs : List Nat) : Option Value → List va_W → Prop := fun v S1 => v = none ∧ ∃ (kp2 : List (Nat × Nat)) (md2 : Int32) (q2 qi : Nat), kp2.map (fun z => z.2) = (ns.map (fun z => z.2)).filter (fun b => decide (dpF δ (sf * w1 / k) ns 5 b < 1000)) ∧ intE G (qi, (sf * w1 / k)) ∧ S1 = [[(st, .inr (1, [.int (nI sn), .ref lb, .ref lp, .int (nI sf), .int (nI (wt + w1)), .int (nI fd), .int (nI isf), .ref lat]))], llK lb md2 kp2.length (lm bo kp2), alW G lp q2 (capS cap kp) (mdp + 1) (kp + 1) (xs ++ [qi]), intC qi (sf * w1 / k), flat n (bdF bo (lvF (dpF δ (sf * w1 / k) ns) (kp + 1) ns))]
set_option maxHeartbeats 4000000 in
set_option maxRecDepth 100000 in
theorem ctX2_carries (l : Launch) (G : GT) (st sn lb lp sf wt fd isf lat k n kp q cap w1 : Nat) (md mdp : Int32) (bo : Nat → Nat) (δ : Sg) (ns : List (Nat × Nat)) (xs : List Nat) (hk : ns.length = k) (hk2 : k ≤ 200) (hns : ∀ z ∈ ns, z.2 < n) (hd : ∀ b, b < n → δ 5 b < 30000) (hsf : sf ≤ 50) (hw1 : w1 ≤ 500) (hkp : xs.length = kp) (hok : aOk cap xs) (h0 : 0 < k) (hnd : (ns.map (fun z => z.2)).Nodup) : Ct l G yX2_carries cX2_carries 2 none 11 296 ((3 + k)) ((6 + gC cap kp + 3 * k)) [.ref st, .int (nI w1)] ([[(st, .inr (1, [.int (nI sn), .ref lb, .ref lp, .int (nI sf), .int (nI wt), .int (nI fd), .int (nI isf), .ref lat]))], (llK lb md k (lm bo ns)), (alW G lp q cap mdp kp xs), (flat n (bdF bo δ))]) ((fun z => ∃ x ∈ xs, z = .inr x)) (Q_ctX2_carries G st sn lb lp sf wt fd isf lat k n kp q cap w1 md mdp bo δ ns xs) := by
  refine Ct.of (by decide +kernel) (Nat.le_of_ble_eq_true rfl) ?_
  intro p e s m below meth c A ls C hW hRo hl
  have hl : lv_has ls 2 [(0, .ref st), (1, .int (nI w1))] := hl
  have hm1 : sf * w1 ≤ 50 * 500 := Nat.mul_le_mul hsf hw1
  have hm2 : (sf * w1 / k) ≤ 25000 := Nat.le_trans (Nat.div_le_self _ _) hm1
  refine lv_aload_n C.hx C.hb dX2_carries_0 rfl (lv_at hl 0 rfl) ?_
  refine lv_dup C.hx C.hb dX2_carries_1 rfl ?_
  refine k_get (v := .int (nI wt)) C clX2 (hW.get 0 0 rfl rfl) 4 (Nat.le_of_ble_eq_true rfl) rfl q289 rfl rfl dX2_carries_2 ?_
  refine lv_iload_n C.hx C.hb dX2_carries_5 rfl (lv_at hl 1 rfl) ?_
  refine kn_iadd C  dX2_carries_6 ?_
  refine k_put (S' := [[(st, .inr (1, [.int (nI sn), .ref lb, .ref lp, .int (nI sf), .int (nI (wt + w1)), .int (nI fd), .int (nI isf), .ref lat]))], (llK lb md k (lm bo ns)), (alW G lp q cap mdp kp xs), (flat n (bdF bo δ))]) C clX2 hW 0 0 rfl rfl 4 (Nat.le_of_ble_eq_true rfl) rfl q289 rfl (fun _ h => h) (Or.inl rfl) (fty := .int) (v := .int (nI (wt + w1))) (by decide +kernel) rfl rfl (Nat.le_of_ble_eq_true rfl) dX2_carries_7 rfl (fun H1 locs1 hW1 => ?_)
  clear hW
  refine lv_aload_n C.hx C.hb dX2_carries_10 rfl (lv_at hl 0 rfl) ?_
  refine lv_aload_n C.hx C.hb dX2_carries_11 rfl (lv_at hl 0 rfl) ?_
  refine k_get (v := .int (nI sf)) C clX2 (hW1.get 0 0 rfl rfl) 3 (Nat.le_of_ble_eq_true rfl) rfl q287 rfl rfl dX2_carries_12 ?_
  refine lv_iload_n C.hx C.hb dX2_carries_15 rfl (lv_at hl 1 rfl) ?_
  refine kn_imul C  dX2_carries_16 ?_
  refine lv_aload_n C.hx C.hb dX2_carries_17 rfl (lv_at hl 0 rfl) ?_
  refine k_get (v := .ref lb) C clX2 (hW1.get 0 0 rfl rfl) 1 (Nat.le_of_ble_eq_true rfl) rfl q284 rfl rfl dX2_carries_18 ?_
  refine k_callV (Sc := []) (Sr := [[(st, .inr (1, [.int (nI sn), .ref lb, .ref lp, .int (nI sf), .int (nI (wt + w1)), .int (nI fd), .int (nI isf), .ref lat]))], (llK lb md k (lm bo ns)), (alW G lp q cap mdp kp xs), (flat n (bdF bo δ))]) (As := []) (rest := [.int (nI (sf * w1)), .ref st]) C (ctJ8_size l G lb k md (hdo (lm bo ns) none) (lst (lm bo ns) none)) hW1 clJ8 (hW1.mem (seg_memP (i := 1) rfl (llK_hd _ _ _ _))) q1984 q838 q2666 q82 q839 rfl rfl ⟨by decide, by decide, Eq.trans (b := some 0) (by decide +kernel) rfl⟩ (Nat.le_of_ble_eq_true rfl) (Nat.le_of_ble_eq_true rfl) (show 0 + 0 ≤ (3 + k) by omega) (show 0 + 0 ≤ (6 + gC cap kp + 3 * k) by omega) hl.1 rfl (Nat.le_of_ble_eq_true rfl) dX2_carries_21 (k_permR _) (fun z => (fun e => by cases e; exact Or.inl ⟨_, rfl, seg_memP (i := 1) rfl (llK_hd _ _ _ _)⟩)) (fun v H2 locs2 S1 hQ hz2 hW2 => ?_)
  obtain ⟨rfl, rfl⟩ := hQ
  have hW2 : Ws G A s ([[(st, .inr (1, [.int (nI sn), .ref lb, .ref lp, .int (nI sf), .int (nI (wt + w1)), .int (nI fd), .int (nI isf), .ref lat]))], (llK lb md k (lm bo ns)), (alW G lp q cap mdp kp xs), (flat n (bdF bo δ))]) H2 locs2 := hW2
  clear hW1
  refine W.eq (g2 := F0 m 24 ls [.int (nI k), .int (nI (sf * w1)), .ref st]) rfl ?_
  refine kn_idiv C (by omega) (by omega) (by omega) dX2_carries_24 ?_
  refine k_callV (Sc := [(llK lb md k (lm bo ns)), (alW G lp q cap mdp kp xs), (flat n (bdF bo δ))]) (Sr := [[(st, .inr (1, [.int (nI sn), .ref lb, .ref lp, .int (nI sf), .int (nI (wt + w1)), .int (nI fd), .int (nI isf), .ref lat]))]]) (As := [.int (nI ((sf * w1) / k))]) (rest := []) C (ctX2_presses_1 l G st sn lb lp sf (wt + w1) fd isf lat k n kp q cap (sf * w1 / k) md mdp bo δ ns xs hk hk2 hns hd hm2 hkp hok h0 hnd) hW2 clX2 (hW2.get 0 0 rfl rfl) q2309 q1967 q1968 q80 q1969 rfl rfl ⟨by decide, by decide, Eq.trans (b := some 1) (by decide +kernel) rfl⟩ (Nat.le_of_ble_eq_true rfl) (Nat.le_of_ble_eq_true rfl) (show 0 + (3 + k) ≤ (3 + k) by omega) (show 0 + (6 + gC cap kp + 3 * k) ≤ (6 + gC cap kp + 3 * k) by omega) hl.1 rfl (Nat.le_of_ble_eq_true rfl) dX2_carries_25 ((pick_perm [[(st, .inr (1, [.int (nI sn), .ref lb, .ref lp, .int (nI sf), .int (nI (wt + w1)), .int (nI fd), .int (nI isf), .ref lat]))], (llK lb md k (lm bo ns)), (alW G lp q cap mdp kp xs), (flat n (bdF bo δ))] 4 rfl (is := [0, 1, 2, 3]) (by decide)).flatten.symm) (fun z => (fun hz => hz.elim (fun e => by cases e; exact Or.inl ⟨_, rfl, seg_mem (i := 0) (j := 0) rfl rfl⟩) (fun h => Or.inr (Or.inr (hRo z h))))) (fun v H3 locs3 S1 hQ hz3 hW3 => ?_)
  obtain ⟨rfl, kp2, md2, q2, qi, hf1, hf2, rfl⟩ := hQ
  have hW3 : Ws G A s ([[(st, .inr (1, [.int (nI sn), .ref lb, .ref lp, .int (nI sf), .int (nI (wt + w1)), .int (nI fd), .int (nI isf), .ref lat]))], (llK lb md2 kp2.length (lm bo kp2)), (alW G lp q2 (capS cap kp) (mdp + 1) (kp + 1) (xs ++ [qi])), (intC qi (sf * w1 / k)), (flat n (bdF bo (lvF (dpF δ (sf * w1 / k) ns) (kp + 1) ns)))]) H3 locs3 := hW3
  clear hW2
  refine W.eq (g2 := F0 m 28 ls []) rfl ?_
  exact k_vret C hW3 rfl ⟨rfl, kp2, md2, q2, qi, hf1, hf2, rfl⟩ (by omega) (by omega) dX2_carries_28

def Q_ctX2_depthAgain_1 (G : GT) (st sn lb lp sf wt fd isf lat b b0 b1 b2 b3 b4 b5 b6 b7 q cap kp : Nat) (mdp : Int32) (es : List (Nat × Nat)) : Option Value → List va_W → Prop := fun v S1 => v = some (.int (nI (prS (es.map (fun z => z.2)) b6 (kp - b6)))) ∧ S1 = []
set_option maxHeartbeats 4000000 in
set_option maxRecDepth 100000 in
theorem ctX2_depthAgain_1 (l : Launch) (G : GT) (st sn lb lp sf wt fd isf lat b b0 b1 b2 b3 b4 b5 b6 b7 q cap kp : Nat) (mdp : Int32) (es : List (Nat × Nat)) (hkp : es.length = kp) (hok : aOk cap (es.map (fun z => z.1))) (hb7 : b7 < 2 ^ 32) (hb6 : b6 < 2 ^ 30) (hn : b7 = NONE) : Ct l G yX2_depthAgain cX2_depthAgain 5 (some .int) 3 64 0 0 [.ref st, .ref b] ([]) ((fun z => z = .inl (st, .inr (1, [.int (nI sn), .ref lb, .ref lp, .int (nI sf), .int (nI wt), .int (nI fd), .int (nI isf), .ref lat])) ∨ z = .inl (b, .inr (4, [.int (nI b0), .int (nI b1), .int (nI b2), .int (nI b3), .int (nI b4), .int (nI b5), .int (nI b6), .int (nI b7)])) ∨ (∃ y ∈ alW G lp q cap mdp kp (es.map (fun z => z.1)), z = .inl y) ∨ ∃ y ∈ es, z = .inl (y.1, .inr (16, [.int (nI y.2)])))) (Q_ctX2_depthAgain_1 G st sn lb lp sf wt fd isf lat b b0 b1 b2 b3 b4 b5 b6 b7 q cap kp mdp es) := by
  refine Ct.of (by decide +kernel) (Nat.le_of_ble_eq_true rfl) ?_
  intro p e s m below meth c A ls C hW hRo hl
  have hl : lv_has ls 5 [(0, .ref st), (1, .ref b)] := hl
  have hk24 := hok.2.2
  have hk25 := hok.1
  rw [List.length_map] at hk25
  refine kn_iconst (a := 0) C (by decide) dX2_depthAgain_0 ?_
  refine lv_istore_n (lv' := [(2, .int (nI 0)), (0, .ref st), (1, .ref b)]) C.hx C.hb dX2_depthAgain_1 rfl hl (Nat.le_of_ble_eq_true rfl) rfl (fun ls1 hl1 => ?_)
  clear hl
  refine lv_aload_n C.hx C.hb dX2_depthAgain_2 rfl (lv_at hl1 2 rfl) ?_
  refine k_getN (v := .int (nI b7)) C clX5 ((hRo _ (Or.inr (Or.inl rfl))).at hW) 7 (Nat.le_of_ble_eq_true rfl) rfl q1644 rfl rfl dX2_depthAgain_3 ?_
  refine lv_iconst (v := nI NONE) C.hx C.hb dX2_depthAgain_6 (by decide) ?_
  refine kw_icmp_ne (tgt := 22) C hb7 (by decide) dX2_depthAgain_7 (by decide) (fun c7 => (absurd hn c7)) (fun c7 => ?_)
  refine lv_aload_n C.hx C.hb dX2_depthAgain_10 rfl (lv_at hl1 1 rfl) ?_
  refine k_get (v := .ref lp) C clX2 ((hRo _ (Or.inl rfl)).at hW) 2 (Nat.le_of_ble_eq_true rfl) rfl q286 rfl rfl dX2_depthAgain_11 ?_
  refine k_callF (Sc := []) (Sr := []) (As := []) (rest := []) C (ctJ2_size l G lp kp mdp (some (if cap = 0 then G.2.2.2 2 else q))) hW clJ2 ((hRo _ (Or.inr (Or.inr (Or.inl ⟨_, alW_hd _ _ _ _ _ _ _, rfl⟩)))).at hW) q1054 q1057 q835 q75 q836 q1056 q1055 q1059 q1058 q373 rfl ⟨by decide, by decide, Eq.trans (b := some 0) (by decide +kernel) rfl⟩ (Nat.le_of_ble_eq_true rfl) (Nat.le_of_ble_eq_true rfl) (Nat.le_refl _) (Nat.le_refl _) hl1.1 rfl (Nat.le_of_ble_eq_true rfl) dX2_depthAgain_14 (k_permR _) (fun z => (fun e => by cases e; exact Or.inr (Or.inr (hRo _ (Or.inr (Or.inr (Or.inl ⟨_, alW_hd _ _ _ _ _ _ _, rfl⟩))))))) (fun v H2 locs2 S1 hQ hz2 hW2 => ?_)
  obtain ⟨rfl, rfl⟩ := hQ
  have hW2 : Ws G A s ([]) H2 locs2 := hW2
  clear hW
  refine W.eq (g2 := F0 m 19 ls1 [.int (nI kp)]) rfl ?_
  refine lv_goto (tgt := 26) C.hx C.hb dX2_depthAgain_19 (by decide) ?_
  refine lv_istore_n (lv' := [(3, .int (nI kp)), (2, .int (nI 0)), (0, .ref st), (1, .ref b)]) C.hx C.hb dX2_depthAgain_26 rfl hl1 (Nat.le_of_ble_eq_true rfl) rfl (fun ls3 hl3 => ?_)
  clear hl1
  refine lv_aload_n C.hx C.hb dX2_depthAgain_27 rfl (lv_at hl3 3 rfl) ?_
  refine k_getN (v := .int (nI b6)) C clX5 ((hRo _ (Or.inr (Or.inl rfl))).at hW2) 6 (Nat.le_of_ble_eq_true rfl) rfl q1642 rfl rfl dX2_depthAgain_28 ?_
  refine lv_istore (lv' := [(4, .int (nI b6)), (3, .int (nI kp)), (2, .int (nI 0)), (0, .ref st), (1, .ref b)]) C.hx C.hb dX2_depthAgain_31 hl3 (Nat.le_of_ble_eq_true rfl) rfl (fun ls4 hl4 => ?_)
  clear hl3
  have L : ∀ (k5 : Nat) (j : Nat), (j ≤ kp - b6) → kp - b6 - j < k5 → ∀ (H5 : Heap) (locs5 : List Loc) (ls5 : Array Slot), Ws G A s ([]) H5 locs5 → lv_has ls5 5 [(2, .int (nI (prS (es.map (fun z => z.2)) b6 j))), (3, .int (nI kp)), (4, .int (nI (b6 + j))), (0, .ref st)] → W p l e ({ frames := 3, cells := 0, slots := 0, locals := 64 } : Room) s m ([.ref st, .ref b] : List Value).toArray below meth c H5 locs5 0 0 (MQ below (cQ G A (Q_ctX2_depthAgain_1 G st sn lb lp sf wt fd isf lat b b0 b1 b2 b3 b4 b5 b6 b7 q cap kp mdp es)) ([.ref st, .ref b] : List Value).toArray s 0 0 A) (F0 m 33 ls5 []) := by
    intro k5
    induction k5 with
    | zero => intro j hL_0 hm5; exact absurd hm5 (Nat.not_lt_zero _)
    | succ k5 ih5 =>
      intro j hL_0 hm5 H5 locs5 ls5 hW5 hl5
      refine lv_iload C.hx C.hb dX2_depthAgain_33 (lv_at hl5 2 rfl) ?_
      refine lv_iload_n C.hx C.hb dX2_depthAgain_35 rfl (lv_at hl5 1 rfl) ?_
      refine kn_icmp_ge (tgt := 65) C (by omega) (by omega) dX2_depthAgain_36 (by decide) (fun c36 => ?_) (fun c36 => ?_)
      · refine lv_iload_n C.hx C.hb dX2_depthAgain_65 rfl (lv_at hl5 0 rfl) ?_
        exact k_iret C hW5 rfl ⟨by rw [show j = kp - b6 by omega], rfl⟩ (Nat.le_refl _) (Nat.le_refl _) dX2_depthAgain_66
      · have hj0 : b6 + j < es.length := by omega
        obtain ⟨⟨x9, v9⟩, hx9⟩ : ∃ z, es[b6 + j]? = some z := ⟨_, List.getElem?_eq_getElem hj0⟩
        have hxm : (x9, v9) ∈ es := List.mem_of_getElem? hx9
        have hxx : (es.map (fun z => z.1))[b6 + j]? = some x9 := by rw [List.getElem?_map, hx9]; rfl
        have hgd : (es.map (fun z => z.2)).getD (b6 + j) 0 = v9 := by rw [List.getD_eq_getElem?_getD, List.getElem?_map, hx9]; rfl
        have hc0 : cap ≠ 0 := by have := hok.1; rw [List.length_map] at this; omega
        refine lv_iload_n C.hx C.hb dX2_depthAgain_39 rfl (lv_at hl5 0 rfl) ?_
        refine lv_aload_n C.hx C.hb dX2_depthAgain_40 rfl (lv_at hl5 3 rfl) ?_
        refine k_get (v := .ref lp) C clX2 ((hRo _ (Or.inl rfl)).at hW5) 2 (Nat.le_of_ble_eq_true rfl) rfl q286 rfl rfl dX2_depthAgain_41 ?_
        refine lv_iload C.hx C.hb dX2_depthAgain_44 (lv_at hl5 2 rfl) ?_
        refine k_callF (Sc := []) (Sr := []) (As := [.int (nI (b6 + j))]) (rest := [.int (nI (prS (es.map (fun z => z.2)) b6 j))]) C (ctJ2_get l G lp q kp cap (b6 + j) x9 mdp (es.map (fun z => z.1)) hxx (by rw [List.length_map]; exact hkp) (by have := hok.1; rw [List.length_map] at this; omega) (by have := hok.2.2; omega)) hW5 clJ2 ((hRo _ (Or.inr (Or.inr (Or.inl ⟨_, alW_hd _ _ _ _ _ _ _, rfl⟩)))).at hW5) q1064 q1067 q879 q75 q880 q1066 q1065 q1069 q1068 q373 rfl ⟨by decide, by decide, Eq.trans (b := some 1) (by decide +kernel) rfl⟩ (Nat.le_of_ble_eq_true rfl) (Nat.le_of_ble_eq_true rfl) (Nat.le_refl _) (Nat.le_refl _) hl5.1 rfl (Nat.le_of_ble_eq_true rfl) dX2_depthAgain_46 (k_permR _) (fun z => (fun hz => hz.elim (fun e => by cases e; exact Or.inr (Or.inr (hRo _ (Or.inr (Or.inr (Or.inl ⟨_, alW_h1 hc0, rfl⟩)))))) (fun e => by cases e; exact Or.inr (Or.inr (hRo _ (Or.inr (Or.inr (Or.inl ⟨_, alW_ar hc0, rfl⟩)))))))) (fun v H6 locs6 S1 hQ hz6 hW6 => ?_)
        obtain ⟨rfl, rfl⟩ := hQ
        have hW6 : Ws G A s ([]) H6 locs6 := hW6
        clear hW5
        refine W.eq (g2 := F0 m 51 ls5 [.ref x9, .int (nI (prS (es.map (fun z => z.2)) b6 j))]) rfl ?_
        refine k_castS C clJ16 ((hRo _ (Or.inr (Or.inr (Or.inr ⟨_, hxm, rfl⟩)))).at hW6) q1073 rfl dX2_depthAgain_51 ?_
        refine k_callV (Sc := []) (Sr := []) (As := []) (rest := [.int (nI (prS (es.map (fun z => z.2)) b6 j))]) C (ctJ16_intValue l G x9 v9) hW6 clJ16 ((hRo _ (Or.inr (Or.inr (Or.inr ⟨_, hxm, rfl⟩)))).at hW6) q1074 q1075 q1076 q92 q1077 rfl rfl ⟨by decide, by decide, Eq.trans (b := some 0) (by decide +kernel) rfl⟩ (Nat.le_of_ble_eq_true rfl) (Nat.le_of_ble_eq_true rfl) (Nat.le_refl _) (Nat.le_refl _) hl5.1 rfl (Nat.le_of_ble_eq_true rfl) dX2_depthAgain_54 (k_permR _) (fun z => (fun e => by cases e; exact Or.inr (Or.inr (hRo _ (Or.inr (Or.inr (Or.inr ⟨_, hxm, rfl⟩))))))) (fun v H7 locs7 S1 hQ hz7 hW7 => ?_)
        obtain ⟨rfl, rfl⟩ := hQ
        have hW7 : Ws G A s ([]) H7 locs7 := hW7
        clear hW6
        refine W.eq (g2 := F0 m 57 ls5 [.int (nI v9), .int (nI (prS (es.map (fun z => z.2)) b6 j))]) rfl ?_
        refine kn_iadd C  dX2_depthAgain_57 ?_
        refine lv_istore_n (lv' := [(2, .int (nI ((prS (es.map (fun z => z.2)) b6 j) + v9))), (3, .int (nI kp)), (4, .int (nI (b6 + j))), (0, .ref st)]) C.hx C.hb dX2_depthAgain_58 rfl hl5 (Nat.le_of_ble_eq_true rfl) rfl (fun ls8 hl8 => ?_)
        clear hl5
        refine kn_iinc (lv' := [(4, .int (nI ((b6 + j) + 1))), (2, .int (nI ((prS (es.map (fun z => z.2)) b6 j) + v9))), (3, .int (nI kp)), (0, .ref st)]) (k := 2) C dX2_depthAgain_59 hl8 rfl (Nat.le_of_ble_eq_true rfl) rfl (fun ls9 hl9 => ?_)
        clear hl8
        refine lv_goto (tgt := 33) C.hx C.hb dX2_depthAgain_62 (by decide) ?_
        have e10 : (prS (es.map (fun z => z.2)) b6 (j + 1)) = ((prS (es.map (fun z => z.2)) b6 j) + v9) := by first | rfl | (show b6 + (j + 1) = _; omega) | (simp [prS, lp, hgd]; done) | (show prS (es.map (fun z => z.2)) b6 j + (es.map (fun z => z.2)).getD (b6 + j) 0 = _; rw [hgd])
        have e11 : (b6 + (j + 1)) = ((b6 + j) + 1) := by first | rfl | (show b6 + (j + 1) = _; omega) | (simp [prS, lp, hgd]; done) | (show prS (es.map (fun z => z.2)) b6 j + (es.map (fun z => z.2)).getD (b6 + j) 0 = _; rw [hgd])
        exact ih5 (j + 1) (by omega) (by omega) _ _ _ hW7 (by rw [e10, e11]; exact (lv_sub hl9 [1, 2, 0, 3] rfl))
  have e12 : (prS (es.map (fun z => z.2)) b6 0) = 0 := by first | rfl | (show b6 + (j + 1) = _; omega) | (simp [prS, lp, hgd]; done) | (show prS (es.map (fun z => z.2)) b6 j + (es.map (fun z => z.2)).getD (b6 + j) 0 = _; rw [hgd])
  have e13 : (b6 + 0) = b6 := by first | rfl | (show b6 + (j + 1) = _; omega) | (simp [prS, lp, hgd]; done) | (show prS (es.map (fun z => z.2)) b6 j + (es.map (fun z => z.2)).getD (b6 + j) 0 = _; rw [hgd])
  exact L (kp - b6 - 0 + 1) 0 (Nat.zero_le _) (Nat.lt_succ_self _) _ _ _ hW2 (by rw [e12, e13]; exact (lv_sub hl4 [2, 1, 0, 3] rfl))

def Q_ctX2_depthAgain_0 (G : GT) (st sn lb lp sf wt fd isf lat b b0 b1 b2 b3 b4 b5 b6 b7 q cap kp : Nat) (mdp : Int32) (es : List (Nat × Nat)) : Option Value → List va_W → Prop := fun v S1 => v = some (.int (nI (prS (es.map (fun z => z.2)) b6 (b7 - b6)))) ∧ S1 = []
set_option maxHeartbeats 4000000 in
set_option maxRecDepth 100000 in
theorem ctX2_depthAgain_0 (l : Launch) (G : GT) (st sn lb lp sf wt fd isf lat b b0 b1 b2 b3 b4 b5 b6 b7 q cap kp : Nat) (mdp : Int32) (es : List (Nat × Nat)) (hkp : es.length = kp) (hok : aOk cap (es.map (fun z => z.1))) (hb7 : b7 < 2 ^ 32) (hb6 : b6 < 2 ^ 30) (hn : b7 ≠ NONE) (hto : b7 ≤ kp) : Ct l G yX2_depthAgain cX2_depthAgain 5 (some .int) 3 64 0 0 [.ref st, .ref b] ([]) ((fun z => z = .inl (st, .inr (1, [.int (nI sn), .ref lb, .ref lp, .int (nI sf), .int (nI wt), .int (nI fd), .int (nI isf), .ref lat])) ∨ z = .inl (b, .inr (4, [.int (nI b0), .int (nI b1), .int (nI b2), .int (nI b3), .int (nI b4), .int (nI b5), .int (nI b6), .int (nI b7)])) ∨ (∃ y ∈ alW G lp q cap mdp kp (es.map (fun z => z.1)), z = .inl y) ∨ ∃ y ∈ es, z = .inl (y.1, .inr (16, [.int (nI y.2)])))) (Q_ctX2_depthAgain_0 G st sn lb lp sf wt fd isf lat b b0 b1 b2 b3 b4 b5 b6 b7 q cap kp mdp es) := by
  refine Ct.of (by decide +kernel) (Nat.le_of_ble_eq_true rfl) ?_
  intro p e s m below meth c A ls C hW hRo hl
  have hl : lv_has ls 5 [(0, .ref st), (1, .ref b)] := hl
  have hk24 := hok.2.2
  have hk25 := hok.1
  rw [List.length_map] at hk25
  refine kn_iconst (a := 0) C (by decide) dX2_depthAgain_0 ?_
  refine lv_istore_n (lv' := [(2, .int (nI 0)), (0, .ref st), (1, .ref b)]) C.hx C.hb dX2_depthAgain_1 rfl hl (Nat.le_of_ble_eq_true rfl) rfl (fun ls1 hl1 => ?_)
  clear hl
  refine lv_aload_n C.hx C.hb dX2_depthAgain_2 rfl (lv_at hl1 2 rfl) ?_
  refine k_getN (v := .int (nI b7)) C clX5 ((hRo _ (Or.inr (Or.inl rfl))).at hW) 7 (Nat.le_of_ble_eq_true rfl) rfl q1644 rfl rfl dX2_depthAgain_3 ?_
  refine lv_iconst (v := nI NONE) C.hx C.hb dX2_depthAgain_6 (by decide) ?_
  refine kw_icmp_ne (tgt := 22) C hb7 (by decide) dX2_depthAgain_7 (by decide) (fun c7 => ?_) (fun c7 => (absurd c7 hn))
  refine lv_aload_n C.hx C.hb dX2_depthAgain_22 rfl (lv_at hl1 2 rfl) ?_
  refine k_getN (v := .int (nI b7)) C clX5 ((hRo _ (Or.inr (Or.inl rfl))).at hW) 7 (Nat.le_of_ble_eq_true rfl) rfl q1644 rfl rfl dX2_depthAgain_23 ?_
  refine lv_istore_n (lv' := [(3, .int (nI b7)), (2, .int (nI 0)), (0, .ref st), (1, .ref b)]) C.hx C.hb dX2_depthAgain_26 rfl hl1 (Nat.le_of_ble_eq_true rfl) rfl (fun ls2 hl2 => ?_)
  clear hl1
  refine lv_aload_n C.hx C.hb dX2_depthAgain_27 rfl (lv_at hl2 3 rfl) ?_
  refine k_getN (v := .int (nI b6)) C clX5 ((hRo _ (Or.inr (Or.inl rfl))).at hW) 6 (Nat.le_of_ble_eq_true rfl) rfl q1642 rfl rfl dX2_depthAgain_28 ?_
  refine lv_istore (lv' := [(4, .int (nI b6)), (3, .int (nI b7)), (2, .int (nI 0)), (0, .ref st), (1, .ref b)]) C.hx C.hb dX2_depthAgain_31 hl2 (Nat.le_of_ble_eq_true rfl) rfl (fun ls3 hl3 => ?_)
  clear hl2
  have L : ∀ (k4 : Nat) (j : Nat), (j ≤ b7 - b6) → b7 - b6 - j < k4 → ∀ (H4 : Heap) (locs4 : List Loc) (ls4 : Array Slot), Ws G A s ([]) H4 locs4 → lv_has ls4 5 [(2, .int (nI (prS (es.map (fun z => z.2)) b6 j))), (3, .int (nI b7)), (4, .int (nI (b6 + j))), (0, .ref st)] → W p l e ({ frames := 3, cells := 0, slots := 0, locals := 64 } : Room) s m ([.ref st, .ref b] : List Value).toArray below meth c H4 locs4 0 0 (MQ below (cQ G A (Q_ctX2_depthAgain_0 G st sn lb lp sf wt fd isf lat b b0 b1 b2 b3 b4 b5 b6 b7 q cap kp mdp es)) ([.ref st, .ref b] : List Value).toArray s 0 0 A) (F0 m 33 ls4 []) := by
    intro k4
    induction k4 with
    | zero => intro j hL_0 hm4; exact absurd hm4 (Nat.not_lt_zero _)
    | succ k4 ih4 =>
      intro j hL_0 hm4 H4 locs4 ls4 hW4 hl4
      refine lv_iload C.hx C.hb dX2_depthAgain_33 (lv_at hl4 2 rfl) ?_
      refine lv_iload_n C.hx C.hb dX2_depthAgain_35 rfl (lv_at hl4 1 rfl) ?_
      refine kn_icmp_ge (tgt := 65) C (by omega) (by omega) dX2_depthAgain_36 (by decide) (fun c36 => ?_) (fun c36 => ?_)
      · refine lv_iload_n C.hx C.hb dX2_depthAgain_65 rfl (lv_at hl4 0 rfl) ?_
        exact k_iret C hW4 rfl ⟨by rw [show j = b7 - b6 by omega], rfl⟩ (Nat.le_refl _) (Nat.le_refl _) dX2_depthAgain_66
      · have hj0 : b6 + j < es.length := by omega
        obtain ⟨⟨x9, v9⟩, hx9⟩ : ∃ z, es[b6 + j]? = some z := ⟨_, List.getElem?_eq_getElem hj0⟩
        have hxm : (x9, v9) ∈ es := List.mem_of_getElem? hx9
        have hxx : (es.map (fun z => z.1))[b6 + j]? = some x9 := by rw [List.getElem?_map, hx9]; rfl
        have hgd : (es.map (fun z => z.2)).getD (b6 + j) 0 = v9 := by rw [List.getD_eq_getElem?_getD, List.getElem?_map, hx9]; rfl
        have hc0 : cap ≠ 0 := by have := hok.1; rw [List.length_map] at this; omega
        refine lv_iload_n C.hx C.hb dX2_depthAgain_39 rfl (lv_at hl4 0 rfl) ?_
        refine lv_aload_n C.hx C.hb dX2_depthAgain_40 rfl (lv_at hl4 3 rfl) ?_
        refine k_get (v := .ref lp) C clX2 ((hRo _ (Or.inl rfl)).at hW4) 2 (Nat.le_of_ble_eq_true rfl) rfl q286 rfl rfl dX2_depthAgain_41 ?_
        refine lv_iload C.hx C.hb dX2_depthAgain_44 (lv_at hl4 2 rfl) ?_
        refine k_callF (Sc := []) (Sr := []) (As := [.int (nI (b6 + j))]) (rest := [.int (nI (prS (es.map (fun z => z.2)) b6 j))]) C (ctJ2_get l G lp q kp cap (b6 + j) x9 mdp (es.map (fun z => z.1)) hxx (by rw [List.length_map]; exact hkp) (by have := hok.1; rw [List.length_map] at this; omega) (by have := hok.2.2; omega)) hW4 clJ2 ((hRo _ (Or.inr (Or.inr (Or.inl ⟨_, alW_hd _ _ _ _ _ _ _, rfl⟩)))).at hW4) q1064 q1067 q879 q75 q880 q1066 q1065 q1069 q1068 q373 rfl ⟨by decide, by decide, Eq.trans (b := some 1) (by decide +kernel) rfl⟩ (Nat.le_of_ble_eq_true rfl) (Nat.le_of_ble_eq_true rfl) (Nat.le_refl _) (Nat.le_refl _) hl4.1 rfl (Nat.le_of_ble_eq_true rfl) dX2_depthAgain_46 (k_permR _) (fun z => (fun hz => hz.elim (fun e => by cases e; exact Or.inr (Or.inr (hRo _ (Or.inr (Or.inr (Or.inl ⟨_, alW_h1 hc0, rfl⟩)))))) (fun e => by cases e; exact Or.inr (Or.inr (hRo _ (Or.inr (Or.inr (Or.inl ⟨_, alW_ar hc0, rfl⟩)))))))) (fun v H5 locs5 S1 hQ hz5 hW5 => ?_)
        obtain ⟨rfl, rfl⟩ := hQ
        have hW5 : Ws G A s ([]) H5 locs5 := hW5
        clear hW4
        refine W.eq (g2 := F0 m 51 ls4 [.ref x9, .int (nI (prS (es.map (fun z => z.2)) b6 j))]) rfl ?_
        refine k_castS C clJ16 ((hRo _ (Or.inr (Or.inr (Or.inr ⟨_, hxm, rfl⟩)))).at hW5) q1073 rfl dX2_depthAgain_51 ?_
        refine k_callV (Sc := []) (Sr := []) (As := []) (rest := [.int (nI (prS (es.map (fun z => z.2)) b6 j))]) C (ctJ16_intValue l G x9 v9) hW5 clJ16 ((hRo _ (Or.inr (Or.inr (Or.inr ⟨_, hxm, rfl⟩)))).at hW5) q1074 q1075 q1076 q92 q1077 rfl rfl ⟨by decide, by decide, Eq.trans (b := some 0) (by decide +kernel) rfl⟩ (Nat.le_of_ble_eq_true rfl) (Nat.le_of_ble_eq_true rfl) (Nat.le_refl _) (Nat.le_refl _) hl4.1 rfl (Nat.le_of_ble_eq_true rfl) dX2_depthAgain_54 (k_permR _) (fun z => (fun e => by cases e; exact Or.inr (Or.inr (hRo _ (Or.inr (Or.inr (Or.inr ⟨_, hxm, rfl⟩))))))) (fun v H6 locs6 S1 hQ hz6 hW6 => ?_)
        obtain ⟨rfl, rfl⟩ := hQ
        have hW6 : Ws G A s ([]) H6 locs6 := hW6
        clear hW5
        refine W.eq (g2 := F0 m 57 ls4 [.int (nI v9), .int (nI (prS (es.map (fun z => z.2)) b6 j))]) rfl ?_
        refine kn_iadd C  dX2_depthAgain_57 ?_
        refine lv_istore_n (lv' := [(2, .int (nI ((prS (es.map (fun z => z.2)) b6 j) + v9))), (3, .int (nI b7)), (4, .int (nI (b6 + j))), (0, .ref st)]) C.hx C.hb dX2_depthAgain_58 rfl hl4 (Nat.le_of_ble_eq_true rfl) rfl (fun ls7 hl7 => ?_)
        clear hl4
        refine kn_iinc (lv' := [(4, .int (nI ((b6 + j) + 1))), (2, .int (nI ((prS (es.map (fun z => z.2)) b6 j) + v9))), (3, .int (nI b7)), (0, .ref st)]) (k := 2) C dX2_depthAgain_59 hl7 rfl (Nat.le_of_ble_eq_true rfl) rfl (fun ls8 hl8 => ?_)
        clear hl7
        refine lv_goto (tgt := 33) C.hx C.hb dX2_depthAgain_62 (by decide) ?_
        have e9 : (prS (es.map (fun z => z.2)) b6 (j + 1)) = ((prS (es.map (fun z => z.2)) b6 j) + v9) := by first | rfl | (show b6 + (j + 1) = _; omega) | (simp [prS, lp, hgd]; done) | (show prS (es.map (fun z => z.2)) b6 j + (es.map (fun z => z.2)).getD (b6 + j) 0 = _; rw [hgd])
        have e10 : (b6 + (j + 1)) = ((b6 + j) + 1) := by first | rfl | (show b6 + (j + 1) = _; omega) | (simp [prS, lp, hgd]; done) | (show prS (es.map (fun z => z.2)) b6 j + (es.map (fun z => z.2)).getD (b6 + j) 0 = _; rw [hgd])
        exact ih4 (j + 1) (by omega) (by omega) _ _ _ hW6 (by rw [e9, e10]; exact (lv_sub hl8 [1, 2, 0, 3] rfl))
  have e11 : (prS (es.map (fun z => z.2)) b6 0) = 0 := by first | rfl | (show b6 + (j + 1) = _; omega) | (simp [prS, lp, hgd]; done) | (show prS (es.map (fun z => z.2)) b6 j + (es.map (fun z => z.2)).getD (b6 + j) 0 = _; rw [hgd])
  have e12 : (b6 + 0) = b6 := by first | rfl | (show b6 + (j + 1) = _; omega) | (simp [prS, lp, hgd]; done) | (show prS (es.map (fun z => z.2)) b6 j + (es.map (fun z => z.2)).getD (b6 + j) 0 = _; rw [hgd])
  exact L (b7 - b6 - 0 + 1) 0 (Nat.zero_le _) (Nat.lt_succ_self _) _ _ _ hW (by rw [e11, e12]; exact (lv_sub hl3 [2, 1, 0, 3] rfl))

