def Q_ctJ35_init_0 (G : GT) (q0 a : Nat) (md : Int32) : Option Value → List va_W → Prop := fun v S1 => v = none ∧ S1 = [[(q0, .inr (22, [.null, .null, .int (nI 0), .int md, .ref a]))]]
set_option maxHeartbeats 4000000 in
set_option maxRecDepth 100000 in
theorem ctJ35_init_0 (l : Launch) (G : GT) (q0 a : Nat) (md : Int32)  : Ct l G yJ35_init cJ35_init 3 none 1 20 0 0 [.ref q0, .ref a, .int (nI 0)] ([[(q0, .inr (22, [.null, .null, .int 0, .int 0, .null]))]]) ((fun z => z = .inl (a, .inr (14, [.int md, .int (nI 0), .null, .null])))) (Q_ctJ35_init_0 G q0 a md) := by
  refine Ct.of (by decide +kernel) (Nat.le_of_ble_eq_true rfl) ?_
  intro p e s m below meth c A ls C hW hRo hl
  have hl : lv_has ls 3 [(0, .ref q0), (1, .ref a), (2, .int (nI 0))] := hl
  refine lv_aload_n C.hx C.hb dJ35_init_0 rfl (lv_at hl 0 rfl) ?_
  refine lv_aload_n C.hx C.hb dJ35_init_1 rfl (lv_at hl 1 rfl) ?_
  refine k_put (S' := [[(q0, .inr (22, [.null, .null, .int 0, .int 0, .ref a]))]]) C clJ35 hW 0 0 rfl rfl 4 (Nat.le_of_ble_eq_true rfl) rfl q808 rfl (fun _ h => h) (Or.inr ⟨rfl, rfl⟩) (fty := (.object "java/util/LinkedList")) (v := .ref a) (by decide +kernel) rfl rfl (Nat.le_of_ble_eq_true rfl) dJ35_init_2 rfl (fun H1 locs1 hW1 => ?_)
  clear hW
  refine lv_aload_n C.hx C.hb dJ35_init_5 rfl (lv_at hl 0 rfl) ?_
  refine W.objInit C.hx C.hb C.hown (C.hts _ q799) (C.hts _ q133) (C.hts _ q134) rfl (by rw [C.hml]; exact hl.1) rfl dJ35_init_6 (Nat.le_of_ble_eq_true rfl) (Nat.le_of_ble_eq_true rfl) ?_
  refine W.eq (g2 := F0 m 9 ls []) rfl ?_
  refine lv_aload_n C.hx C.hb dJ35_init_9 rfl (lv_at hl 0 rfl) ?_
  refine lv_aload_n C.hx C.hb dJ35_init_10 rfl (lv_at hl 0 rfl) ?_
  refine k_get (v := .ref a) C clJ35 (hW1.get 0 0 rfl rfl) 4 (Nat.le_of_ble_eq_true rfl) rfl q808 rfl rfl dJ35_init_11 ?_
  refine k_getS (v := .int md) C clJ8 ((hRo _ rfl).at hW1) 0 (Nat.le_of_ble_eq_true rfl) rfl q156 q157 k_same rfl rfl dJ35_init_14 ?_
  refine k_put (S' := [[(q0, .inr (22, [.null, .null, .int 0, .int md, .ref a]))]]) C clJ35 hW1 0 0 rfl rfl 3 (Nat.le_of_ble_eq_true rfl) rfl q807 rfl (fun _ h => h) (Or.inr ⟨rfl, rfl⟩) (fty := .int) (v := .int md) (by decide +kernel) rfl rfl (Nat.le_of_ble_eq_true rfl) dJ35_init_17 rfl (fun H2 locs2 hW2 => ?_)
  clear hW1
  refine lv_aload_n C.hx C.hb dJ35_init_20 rfl (lv_at hl 0 rfl) ?_
  refine lv_iload_n C.hx C.hb dJ35_init_21 rfl (lv_at hl 2 rfl) ?_
  refine lv_aload_n C.hx C.hb dJ35_init_22 rfl (lv_at hl 1 rfl) ?_
  refine k_get (v := .int (nI 0)) C clJ8 ((hRo _ rfl).at hW2) 1 (Nat.le_of_ble_eq_true rfl) rfl q264 rfl rfl dJ35_init_23 ?_
  refine kn_icmp_ne (tgt := 33) C (by decide) (by decide) dJ35_init_26 (by decide) (fun cq => absurd cq (by decide)) (fun cq => ?_)
  refine lv_null C.hx C.hb dJ35_init_29 ?_
  refine lv_goto (tgt := 38) C.hx C.hb dJ35_init_30 (by decide) ?_
  refine k_put (S' := [[(q0, .inr (22, [.null, .null, .int 0, .int md, .ref a]))]]) C clJ35 hW2 0 0 rfl rfl 1 (Nat.le_of_ble_eq_true rfl) rfl q805 rfl (fun _ h => h) (Or.inr ⟨rfl, rfl⟩) (fty := (.object "java/util/LinkedList$Node")) (v := .null) (by decide +kernel) rfl rfl (Nat.le_of_ble_eq_true rfl) dJ35_init_38 rfl (fun H3 locs3 hW3 => ?_)
  clear hW2
  refine lv_aload_n C.hx C.hb dJ35_init_41 rfl (lv_at hl 0 rfl) ?_
  refine lv_iload_n C.hx C.hb dJ35_init_42 rfl (lv_at hl 2 rfl) ?_
  refine k_put (S' := [[(q0, .inr (22, [.null, .null, .int (nI 0), .int md, .ref a]))]]) C clJ35 hW3 0 0 rfl rfl 2 (Nat.le_of_ble_eq_true rfl) rfl q806 rfl (fun _ h => h) (Or.inr ⟨rfl, rfl⟩) (fty := .int) (v := .int (nI 0)) (by decide +kernel) rfl rfl (Nat.le_of_ble_eq_true rfl) dJ35_init_43 rfl (fun H4 locs4 hW4 => ?_)
  clear hW3
  exact k_vret C hW4 rfl ⟨rfl, rfl⟩ (Nat.le_refl _) (Nat.le_refl _) dJ35_init_46

def Q_ctJ35_init_1 (G : GT) (q0 a k f0 l0 : Nat) (md : Int32) : Option Value → List va_W → Prop := fun v S1 => v = none ∧ S1 = [[(q0, .inr (22, [.null, .ref f0, .int (nI 0), .int md, .ref a]))]]
set_option maxHeartbeats 4000000 in
set_option maxRecDepth 100000 in
theorem ctJ35_init_1 (l : Launch) (G : GT) (q0 a k f0 l0 : Nat) (md : Int32) (hk : k + 1 < 2 ^ 31) (hf : k = 0 → l0 = f0) : Ct l G yJ35_init cJ35_init 3 none 1 23 0 0 [.ref q0, .ref a, .int (nI 0)] ([[(q0, .inr (22, [.null, .null, .int 0, .int 0, .null]))]]) ((fun z => z = .inl (a, .inr (14, [.int md, .int (nI (k + 1)), .ref f0, .ref l0])))) (Q_ctJ35_init_1 G q0 a k f0 l0 md) := by
  refine Ct.of (by decide +kernel) (Nat.le_of_ble_eq_true rfl) ?_
  intro p e s m below meth c A ls C hW hRo hl
  have hl : lv_has ls 3 [(0, .ref q0), (1, .ref a), (2, .int (nI 0))] := hl
  refine lv_aload_n C.hx C.hb dJ35_init_0 rfl (lv_at hl 0 rfl) ?_
  refine lv_aload_n C.hx C.hb dJ35_init_1 rfl (lv_at hl 1 rfl) ?_
  refine k_put (S' := [[(q0, .inr (22, [.null, .null, .int 0, .int 0, .ref a]))]]) C clJ35 hW 0 0 rfl rfl 4 (Nat.le_of_ble_eq_true rfl) rfl q808 rfl (fun _ h => h) (Or.inr ⟨rfl, rfl⟩) (fty := (.object "java/util/LinkedList")) (v := .ref a) (by decide +kernel) rfl rfl (Nat.le_of_ble_eq_true rfl) dJ35_init_2 rfl (fun H1 locs1 hW1 => ?_)
  clear hW
  refine lv_aload_n C.hx C.hb dJ35_init_5 rfl (lv_at hl 0 rfl) ?_
  refine W.objInit C.hx C.hb C.hown (C.hts _ q799) (C.hts _ q133) (C.hts _ q134) rfl (by rw [C.hml]; exact hl.1) rfl dJ35_init_6 (Nat.le_of_ble_eq_true rfl) (Nat.le_of_ble_eq_true rfl) ?_
  refine W.eq (g2 := F0 m 9 ls []) rfl ?_
  refine lv_aload_n C.hx C.hb dJ35_init_9 rfl (lv_at hl 0 rfl) ?_
  refine lv_aload_n C.hx C.hb dJ35_init_10 rfl (lv_at hl 0 rfl) ?_
  refine k_get (v := .ref a) C clJ35 (hW1.get 0 0 rfl rfl) 4 (Nat.le_of_ble_eq_true rfl) rfl q808 rfl rfl dJ35_init_11 ?_
  refine k_getS (v := .int md) C clJ8 ((hRo _ rfl).at hW1) 0 (Nat.le_of_ble_eq_true rfl) rfl q156 q157 k_same rfl rfl dJ35_init_14 ?_
  refine k_put (S' := [[(q0, .inr (22, [.null, .null, .int 0, .int md, .ref a]))]]) C clJ35 hW1 0 0 rfl rfl 3 (Nat.le_of_ble_eq_true rfl) rfl q807 rfl (fun _ h => h) (Or.inr ⟨rfl, rfl⟩) (fty := .int) (v := .int md) (by decide +kernel) rfl rfl (Nat.le_of_ble_eq_true rfl) dJ35_init_17 rfl (fun H2 locs2 hW2 => ?_)
  clear hW1
  refine lv_aload_n C.hx C.hb dJ35_init_20 rfl (lv_at hl 0 rfl) ?_
  refine lv_iload_n C.hx C.hb dJ35_init_21 rfl (lv_at hl 2 rfl) ?_
  refine lv_aload_n C.hx C.hb dJ35_init_22 rfl (lv_at hl 1 rfl) ?_
  refine k_get (v := .int (nI (k + 1))) C clJ8 ((hRo _ rfl).at hW2) 1 (Nat.le_of_ble_eq_true rfl) rfl q264 rfl rfl dJ35_init_23 ?_
  refine kn_icmp_ne (tgt := 33) C (by decide) (by omega) dJ35_init_26 (by decide) (fun c26 => ?_) (fun c26 => (absurd c26 (by omega)))
  refine lv_aload_n C.hx C.hb dJ35_init_33 rfl (lv_at hl 1 rfl) ?_
  refine lv_iload_n C.hx C.hb dJ35_init_34 rfl (lv_at hl 2 rfl) ?_
  refine k_callV (Sc := []) (Sr := [[(q0, .inr (22, [.null, .null, .int 0, .int md, .ref a]))]]) (As := [.int (nI 0)]) (rest := [.ref q0]) C (ctJ8_node l G a k f0 l0 md hk hf) hW2 clJ8 ((hRo _ rfl).at hW2) q800 q801 q802 q82 q803 rfl rfl ⟨by decide, by decide, Eq.trans (b := some 1) (by decide +kernel) rfl⟩ (Nat.le_of_ble_eq_true rfl) (Nat.le_of_ble_eq_true rfl) (Nat.le_refl _) (Nat.le_refl _) hl.1 rfl (Nat.le_of_ble_eq_true rfl) dJ35_init_35 (k_permR _) (fun z hz => by cases hz; exact Or.inr (Or.inr (hRo _ rfl))) (fun v H3 locs3 S1 hQ hz3 hW3 => ?_)
  obtain ⟨rfl, rfl⟩ := hQ
  have hW3 : Ws G A s ([[(q0, .inr (22, [.null, .null, .int 0, .int md, .ref a]))]]) H3 locs3 := hW3
  clear hW2
  refine W.eq (g2 := F0 m 38 ls [.ref f0, .ref q0]) rfl ?_
  refine k_put (S' := [[(q0, .inr (22, [.null, .ref f0, .int 0, .int md, .ref a]))]]) C clJ35 hW3 0 0 rfl rfl 1 (Nat.le_of_ble_eq_true rfl) rfl q805 rfl (fun _ h => h) (Or.inr ⟨rfl, rfl⟩) (fty := (.object "java/util/LinkedList$Node")) (v := .ref f0) (by decide +kernel) rfl rfl (Nat.le_of_ble_eq_true rfl) dJ35_init_38 rfl (fun H4 locs4 hW4 => ?_)
  clear hW3
  refine lv_aload_n C.hx C.hb dJ35_init_41 rfl (lv_at hl 0 rfl) ?_
  refine lv_iload_n C.hx C.hb dJ35_init_42 rfl (lv_at hl 2 rfl) ?_
  refine k_put (S' := [[(q0, .inr (22, [.null, .ref f0, .int (nI 0), .int md, .ref a]))]]) C clJ35 hW4 0 0 rfl rfl 2 (Nat.le_of_ble_eq_true rfl) rfl q806 rfl (fun _ h => h) (Or.inr ⟨rfl, rfl⟩) (fty := .int) (v := .int (nI 0)) (by decide +kernel) rfl rfl (Nat.le_of_ble_eq_true rfl) dJ35_init_43 rfl (fun H5 locs5 hW5 => ?_)
  clear hW4
  exact k_vret C hW5 rfl ⟨rfl, rfl⟩ (Nat.le_refl _) (Nat.le_refl _) dJ35_init_46

def Q_ctJ8_listIterator_0 (G : GT) (a : Nat) (md : Int32) : Option Value → List va_W → Prop := fun v S1 => ∃ q0, v = some (.ref q0) ∧ S1 = [[(q0, .inr (22, [.null, .null, .int (nI 0), .int md, .ref a]))]]
set_option maxHeartbeats 4000000 in
set_option maxRecDepth 100000 in
theorem ctJ8_listIterator_0 (l : Launch) (G : GT) (a : Nat) (md : Int32)  : Ct l G yJ8_listIterator cJ8_listIterator 2 (some (.object "java/util/ListIterator")) 2 45 1 5 [.ref a, .int (nI 0)] ([]) ((fun z => z = .inl (a, .inr (14, [.int md, .int (nI 0), .null, .null])))) (Q_ctJ8_listIterator_0 G a md) := by
  refine Ct.of (by decide +kernel) (Nat.le_of_ble_eq_true rfl) ?_
  intro p e s m below meth c A ls C hW hRo hl
  have hl : lv_has ls 2 [(0, .ref a), (1, .int (nI 0))] := hl
  refine lv_aload_n C.hx C.hb dJ8_listIterator_0 rfl (lv_at hl 0 rfl) ?_
  refine lv_iload_n C.hx C.hb dJ8_listIterator_1 rfl (lv_at hl 1 rfl) ?_
  refine k_callV (Sc := []) (Sr := []) (As := [.int (nI 0)]) (rest := []) C (ctJ8_checkPositionIndex l G a 0 md none none (by decide)) hW clJ8 ((hRo _ rfl).at hW) q773 q775 qs4 q82 q776 rfl rfl ⟨by decide, by decide, Eq.trans (b := some 1) (by decide +kernel) rfl⟩ (Nat.le_of_ble_eq_true rfl) (Nat.le_of_ble_eq_true rfl) (show 0 + 0 ≤ 1 by omega) (show 0 + 0 ≤ 5 by omega) hl.1 rfl (Nat.le_of_ble_eq_true rfl) dJ8_listIterator_2 (k_permR _) (fun z hz => by cases hz; exact Or.inr (Or.inr (hRo _ rfl))) (fun v H1 locs1 S1 hQ hz1 hW1 => ?_)
  obtain ⟨rfl, rfl⟩ := hQ
  have hW1 : Ws G A s ([]) H1 locs1 := hW1
  clear hW
  refine W.eq (g2 := F0 m 5 ls []) rfl ?_
  refine k_new (fs := [.null, .null, .int 0, .int 0, .null]) C clJ35 hW1 q794 rfl q795 q118 (fun j hj => (by have := co_dec (P := fun j => defaultValue (tyJ35 j) = vp_V [.null, .null, .int 0, .int 0, .null] j) (N := 5) (by decide +kernel) hj; exact this)) (show 0 + 1 ≤ 1 by omega) (show 0 + 5 ≤ 5 by omega) dJ8_listIterator_5 (fun q2 H2 hW2 => ?_)
  have hW2 : Ws G A s [[(q2, .inr (22, [.null, .null, .int 0, .int 0, .null]))]] H2 locs1 := hW2
  clear hW1
  refine lv_dup C.hx C.hb dJ8_listIterator_8 rfl ?_
  refine lv_aload_n C.hx C.hb dJ8_listIterator_9 rfl (lv_at hl 0 rfl) ?_
  refine lv_iload_n C.hx C.hb dJ8_listIterator_10 rfl (lv_at hl 1 rfl) ?_
  refine k_callI (Sc := [[(q2, .inr (22, [.null, .null, .int 0, .int 0, .null]))]]) (Sr := []) (As := [.ref a, .int (nI 0)]) (rest := [.ref q2]) C (ctJ35_init_0 l G q2 a md) hW2 q796 q797 q118 q798 rfl rfl ⟨by decide, by decide, Eq.trans (b := some 2) (by decide +kernel) rfl⟩ (Nat.le_of_ble_eq_true rfl) (Nat.le_of_ble_eq_true rfl) (show 1 + 0 ≤ 1 by omega) (show 5 + 0 ≤ 5 by omega) hl.1 rfl (Nat.le_of_ble_eq_true rfl) dJ8_listIterator_11 ((pick_perm [[(q2, .inr (22, [.null, .null, .int 0, .int 0, .null]))]] 1 rfl (is := [0]) (by decide)).flatten.symm) (fun z hz => by cases hz; exact Or.inr (Or.inr (hRo _ rfl))) (fun v H3 locs3 S1 hQ hz3 hW3 => ?_)
  obtain ⟨rfl, rfl⟩ := hQ
  have hW3 : Ws G A s ([[(q2, .inr (22, [.null, .null, .int (nI 0), .int md, .ref a]))]]) H3 locs3 := hW3
  clear hW2
  refine W.eq (g2 := F0 m 14 ls [.ref q2]) rfl ?_
  exact k_aret C hW3 rfl (Or.inl ⟨_, rfl⟩) (Or.inr ⟨_, rfl⟩) ⟨_, rfl, rfl⟩ (by omega) (by omega) dJ8_listIterator_14

def Q_ctJ8_listIterator_1 (G : GT) (a k f0 l0 : Nat) (md : Int32) : Option Value → List va_W → Prop := fun v S1 => ∃ q0, v = some (.ref q0) ∧ S1 = [[(q0, .inr (22, [.null, .ref f0, .int (nI 0), .int md, .ref a]))]]
set_option maxHeartbeats 4000000 in
set_option maxRecDepth 100000 in
theorem ctJ8_listIterator_1 (l : Launch) (G : GT) (a k f0 l0 : Nat) (md : Int32) (hk : k + 1 < 2 ^ 31) (hf : k = 0 → l0 = f0) : Ct l G yJ8_listIterator cJ8_listIterator 2 (some (.object "java/util/ListIterator")) 2 45 1 5 [.ref a, .int (nI 0)] ([]) ((fun z => z = .inl (a, .inr (14, [.int md, .int (nI (k + 1)), .ref f0, .ref l0])))) (Q_ctJ8_listIterator_1 G a k f0 l0 md) := by
  refine Ct.of (by decide +kernel) (Nat.le_of_ble_eq_true rfl) ?_
  intro p e s m below meth c A ls C hW hRo hl
  have hl : lv_has ls 2 [(0, .ref a), (1, .int (nI 0))] := hl
  refine lv_aload_n C.hx C.hb dJ8_listIterator_0 rfl (lv_at hl 0 rfl) ?_
  refine lv_iload_n C.hx C.hb dJ8_listIterator_1 rfl (lv_at hl 1 rfl) ?_
  refine k_callV (Sc := []) (Sr := []) (As := [.int (nI 0)]) (rest := []) C (ctJ8_checkPositionIndex l G a (k + 1) md (some f0) (some l0) hk) hW clJ8 ((hRo _ rfl).at hW) q773 q775 qs4 q82 q776 rfl rfl ⟨by decide, by decide, Eq.trans (b := some 1) (by decide +kernel) rfl⟩ (Nat.le_of_ble_eq_true rfl) (Nat.le_of_ble_eq_true rfl) (show 0 + 0 ≤ 1 by omega) (show 0 + 0 ≤ 5 by omega) hl.1 rfl (Nat.le_of_ble_eq_true rfl) dJ8_listIterator_2 (k_permR _) (fun z hz => by cases hz; exact Or.inr (Or.inr (hRo _ rfl))) (fun v H1 locs1 S1 hQ hz1 hW1 => ?_)
  obtain ⟨rfl, rfl⟩ := hQ
  have hW1 : Ws G A s ([]) H1 locs1 := hW1
  clear hW
  refine W.eq (g2 := F0 m 5 ls []) rfl ?_
  refine k_new (fs := [.null, .null, .int 0, .int 0, .null]) C clJ35 hW1 q794 rfl q795 q118 (fun j hj => (by have := co_dec (P := fun j => defaultValue (tyJ35 j) = vp_V [.null, .null, .int 0, .int 0, .null] j) (N := 5) (by decide +kernel) hj; exact this)) (show 0 + 1 ≤ 1 by omega) (show 0 + 5 ≤ 5 by omega) dJ8_listIterator_5 (fun q2 H2 hW2 => ?_)
  have hW2 : Ws G A s [[(q2, .inr (22, [.null, .null, .int 0, .int 0, .null]))]] H2 locs1 := hW2
  clear hW1
  refine lv_dup C.hx C.hb dJ8_listIterator_8 rfl ?_
  refine lv_aload_n C.hx C.hb dJ8_listIterator_9 rfl (lv_at hl 0 rfl) ?_
  refine lv_iload_n C.hx C.hb dJ8_listIterator_10 rfl (lv_at hl 1 rfl) ?_
  refine k_callI (Sc := [[(q2, .inr (22, [.null, .null, .int 0, .int 0, .null]))]]) (Sr := []) (As := [.ref a, .int (nI 0)]) (rest := [.ref q2]) C (ctJ35_init_1 l G q2 a k f0 l0 md hk hf) hW2 q796 q797 q118 q798 rfl rfl ⟨by decide, by decide, Eq.trans (b := some 2) (by decide +kernel) rfl⟩ (Nat.le_of_ble_eq_true rfl) (Nat.le_of_ble_eq_true rfl) (show 1 + 0 ≤ 1 by omega) (show 5 + 0 ≤ 5 by omega) hl.1 rfl (Nat.le_of_ble_eq_true rfl) dJ8_listIterator_11 ((pick_perm [[(q2, .inr (22, [.null, .null, .int 0, .int 0, .null]))]] 1 rfl (is := [0]) (by decide)).flatten.symm) (fun z hz => by cases hz; exact Or.inr (Or.inr (hRo _ rfl))) (fun v H3 locs3 S1 hQ hz3 hW3 => ?_)
  obtain ⟨rfl, rfl⟩ := hQ
  have hW3 : Ws G A s ([[(q2, .inr (22, [.null, .ref f0, .int (nI 0), .int md, .ref a]))]]) H3 locs3 := hW3
  clear hW2
  refine W.eq (g2 := F0 m 14 ls [.ref q2]) rfl ?_
  exact k_aret C hW3 rfl (Or.inl ⟨_, rfl⟩) (Or.inr ⟨_, rfl⟩) ⟨_, rfl, rfl⟩ (by omega) (by omega) dJ8_listIterator_14

def Q_ctJ1_listIterator_0 (G : GT) (a : Nat) (md : Int32) : Option Value → List va_W → Prop := fun v S1 => ∃ q0, v = some (.ref q0) ∧ S1 = [[(q0, .inr (22, [.null, .null, .int (nI 0), .int md, .ref a]))]]
set_option maxHeartbeats 4000000 in
set_option maxRecDepth 100000 in
theorem ctJ1_listIterator_0 (l : Launch) (G : GT) (a : Nat) (md : Int32)  : Ct l G yJ1_listIterator cJ1_listIterator 1 (some (.object "java/util/ListIterator")) 3 66 1 5 [.ref a] ([]) ((fun z => z = .inl (a, .inr (14, [.int md, .int (nI 0), .null, .null])))) (Q_ctJ1_listIterator_0 G a md) := by
  refine Ct.of (by decide +kernel) (Nat.le_of_ble_eq_true rfl) ?_
  intro p e s m below meth c A ls C hW hRo hl
  have hl : lv_has ls 1 [(0, .ref a)] := hl
  refine lv_aload_n C.hx C.hb dJ1_listIterator_0 rfl (lv_at hl 0 rfl) ?_
  refine kn_iconst (a := 0) C (by decide) dJ1_listIterator_1 ?_
  refine k_callA (owner := "java/util/AbstractList") (Sc := []) (Sr := []) (As := [.int (nI 0)]) (rest := []) C (ctJ8_listIterator_0 l G a md) hW clJ8 ((hRo _ rfl).at hW) q412 q414 q770 q771 q82 q772 q820 rfl ⟨by decide, by decide, Eq.trans (b := some 1) (by decide +kernel) rfl⟩ (Nat.le_of_ble_eq_true rfl) (Nat.le_of_ble_eq_true rfl) (show 0 + 1 ≤ 1 by omega) (show 0 + 5 ≤ 5 by omega) hl.1 rfl (Nat.le_of_ble_eq_true rfl) dJ1_listIterator_2 (k_permR _) (fun z hz => by cases hz; exact Or.inr (Or.inr (hRo _ rfl))) (fun v H1 locs1 S1 hQ hz1 hW1 => ?_)
  obtain ⟨q0, rfl, rfl⟩ := hQ
  have hW1 : Ws G A s ([[(q0, .inr (22, [.null, .null, .int (nI 0), .int md, .ref a]))]]) H1 locs1 := hW1
  clear hW
  refine W.eq (g2 := F0 m 5 ls [.ref q0]) rfl ?_
  exact k_aret C hW1 rfl (Or.inl ⟨_, rfl⟩) (Or.inr ⟨_, rfl⟩) ⟨_, rfl, rfl⟩ (by omega) (by omega) dJ1_listIterator_5

def Q_ctJ1_listIterator_1 (G : GT) (a k f0 l0 : Nat) (md : Int32) : Option Value → List va_W → Prop := fun v S1 => ∃ q0, v = some (.ref q0) ∧ S1 = [[(q0, .inr (22, [.null, .ref f0, .int (nI 0), .int md, .ref a]))]]
set_option maxHeartbeats 4000000 in
set_option maxRecDepth 100000 in
theorem ctJ1_listIterator_1 (l : Launch) (G : GT) (a k f0 l0 : Nat) (md : Int32) (hk : k + 1 < 2 ^ 31) (hf : k = 0 → l0 = f0) : Ct l G yJ1_listIterator cJ1_listIterator 1 (some (.object "java/util/ListIterator")) 3 66 1 5 [.ref a] ([]) ((fun z => z = .inl (a, .inr (14, [.int md, .int (nI (k + 1)), .ref f0, .ref l0])))) (Q_ctJ1_listIterator_1 G a k f0 l0 md) := by
  refine Ct.of (by decide +kernel) (Nat.le_of_ble_eq_true rfl) ?_
  intro p e s m below meth c A ls C hW hRo hl
  have hl : lv_has ls 1 [(0, .ref a)] := hl
  refine lv_aload_n C.hx C.hb dJ1_listIterator_0 rfl (lv_at hl 0 rfl) ?_
  refine kn_iconst (a := 0) C (by decide) dJ1_listIterator_1 ?_
  refine k_callA (owner := "java/util/AbstractList") (Sc := []) (Sr := []) (As := [.int (nI 0)]) (rest := []) C (ctJ8_listIterator_1 l G a k f0 l0 md hk hf) hW clJ8 ((hRo _ rfl).at hW) q412 q414 q770 q771 q82 q772 q820 rfl ⟨by decide, by decide, Eq.trans (b := some 1) (by decide +kernel) rfl⟩ (Nat.le_of_ble_eq_true rfl) (Nat.le_of_ble_eq_true rfl) (show 0 + 1 ≤ 1 by omega) (show 0 + 5 ≤ 5 by omega) hl.1 rfl (Nat.le_of_ble_eq_true rfl) dJ1_listIterator_2 (k_permR _) (fun z hz => by cases hz; exact Or.inr (Or.inr (hRo _ rfl))) (fun v H1 locs1 S1 hQ hz1 hW1 => ?_)
  obtain ⟨q0, rfl, rfl⟩ := hQ
  have hW1 : Ws G A s ([[(q0, .inr (22, [.null, .ref f0, .int (nI 0), .int md, .ref a]))]]) H1 locs1 := hW1
  clear hW
  refine W.eq (g2 := F0 m 5 ls [.ref q0]) rfl ?_
  exact k_aret C hW1 rfl (Or.inl ⟨_, rfl⟩) (Or.inr ⟨_, rfl⟩) ⟨_, rfl, rfl⟩ (by omega) (by omega) dJ1_listIterator_5

def Q_ctJ7_iterator_0 (G : GT) (a : Nat) (md : Int32) : Option Value → List va_W → Prop := fun v S1 => ∃ q0, v = some (.ref q0) ∧ S1 = [[(q0, .inr (22, [.null, .null, .int (nI 0), .int md, .ref a]))]]
set_option maxHeartbeats 4000000 in
set_option maxRecDepth 100000 in
theorem ctJ7_iterator_0 (l : Launch) (G : GT) (a : Nat) (md : Int32)  : Ct l G yJ7_iterator cJ7_iterator 1 (some (.object "java/util/Iterator")) 4 86 1 5 [.ref a] ([]) ((fun z => z = .inl (a, .inr (14, [.int md, .int (nI 0), .null, .null])))) (Q_ctJ7_iterator_0 G a md) := by
  refine Ct.of (by decide +kernel) (Nat.le_of_ble_eq_true rfl) ?_
  intro p e s m below meth c A ls C hW hRo hl
  have hl : lv_has ls 1 [(0, .ref a)] := hl
  refine lv_aload_n C.hx C.hb dJ7_iterator_0 rfl (lv_at hl 0 rfl) ?_
  refine k_callU (owner := "java/util/AbstractList") (Sc := []) (Sr := []) (As := []) (rest := []) C (ctJ1_listIterator_0 l G a md) hW clJ8 ((hRo _ rfl).at hW) q406 q407 q409 q410 q74 q411 rfl rfl ⟨by decide, by decide, Eq.trans (b := some 0) (by decide +kernel) rfl⟩ (Nat.le_of_ble_eq_true rfl) (Nat.le_of_ble_eq_true rfl) (show 0 + 1 ≤ 1 by omega) (show 0 + 5 ≤ 5 by omega) hl.1 rfl (Nat.le_of_ble_eq_true rfl) dJ7_iterator_1 (k_permR _) (fun z hz => by cases hz; exact Or.inr (Or.inr (hRo _ rfl))) (fun v H1 locs1 S1 hQ hz1 hW1 => ?_)
  obtain ⟨q0, rfl, rfl⟩ := hQ
  have hW1 : Ws G A s ([[(q0, .inr (22, [.null, .null, .int (nI 0), .int md, .ref a]))]]) H1 locs1 := hW1
  clear hW
  refine W.eq (g2 := F0 m 4 ls [.ref q0]) rfl ?_
  exact k_aret C hW1 rfl (Or.inl ⟨_, rfl⟩) (Or.inr ⟨_, rfl⟩) ⟨_, rfl, rfl⟩ (by omega) (by omega) dJ7_iterator_4

def Q_ctJ7_iterator_1 (G : GT) (a k f0 l0 : Nat) (md : Int32) : Option Value → List va_W → Prop := fun v S1 => ∃ q0, v = some (.ref q0) ∧ S1 = [[(q0, .inr (22, [.null, .ref f0, .int (nI 0), .int md, .ref a]))]]
set_option maxHeartbeats 4000000 in
set_option maxRecDepth 100000 in
theorem ctJ7_iterator_1 (l : Launch) (G : GT) (a k f0 l0 : Nat) (md : Int32) (hk : k + 1 < 2 ^ 31) (hf : k = 0 → l0 = f0) : Ct l G yJ7_iterator cJ7_iterator 1 (some (.object "java/util/Iterator")) 4 86 1 5 [.ref a] ([]) ((fun z => z = .inl (a, .inr (14, [.int md, .int (nI (k + 1)), .ref f0, .ref l0])))) (Q_ctJ7_iterator_1 G a k f0 l0 md) := by
  refine Ct.of (by decide +kernel) (Nat.le_of_ble_eq_true rfl) ?_
  intro p e s m below meth c A ls C hW hRo hl
  have hl : lv_has ls 1 [(0, .ref a)] := hl
  refine lv_aload_n C.hx C.hb dJ7_iterator_0 rfl (lv_at hl 0 rfl) ?_
  refine k_callU (owner := "java/util/AbstractList") (Sc := []) (Sr := []) (As := []) (rest := []) C (ctJ1_listIterator_1 l G a k f0 l0 md hk hf) hW clJ8 ((hRo _ rfl).at hW) q406 q407 q409 q410 q74 q411 rfl rfl ⟨by decide, by decide, Eq.trans (b := some 0) (by decide +kernel) rfl⟩ (Nat.le_of_ble_eq_true rfl) (Nat.le_of_ble_eq_true rfl) (show 0 + 1 ≤ 1 by omega) (show 0 + 5 ≤ 5 by omega) hl.1 rfl (Nat.le_of_ble_eq_true rfl) dJ7_iterator_1 (k_permR _) (fun z hz => by cases hz; exact Or.inr (Or.inr (hRo _ rfl))) (fun v H1 locs1 S1 hQ hz1 hW1 => ?_)
  obtain ⟨q0, rfl, rfl⟩ := hQ
  have hW1 : Ws G A s ([[(q0, .inr (22, [.null, .ref f0, .int (nI 0), .int md, .ref a]))]]) H1 locs1 := hW1
  clear hW
  refine W.eq (g2 := F0 m 4 ls [.ref q0]) rfl ?_
  exact k_aret C hW1 rfl (Or.inl ⟨_, rfl⟩) (Or.inr ⟨_, rfl⟩) ⟨_, rfl, rfl⟩ (by omega) (by omega) dJ7_iterator_4

def Q_ctJ35_hasNext (G : GT) (q0 a k i : Nat) (md : Int32) (f lf lr nx : Option Nat) : Option Value → List va_W → Prop := fun v S1 => v = some (.int (b01 (i < k))) ∧ S1 = [[(q0, .inr (22, [vr lr, vr nx, .int (nI i), .int md, .ref a]))]]
set_option maxHeartbeats 4000000 in
set_option maxRecDepth 100000 in
theorem ctJ35_hasNext (l : Launch) (G : GT) (q0 a k i : Nat) (md : Int32) (f lf lr nx : Option Nat) (hk : k < 2 ^ 31) (hi : i < 2 ^ 31) : Ct l G yJ35_hasNext cJ35_hasNext 1 (some .boolean) 0 0 0 0 [.ref q0] ([[(q0, .inr (22, [vr lr, vr nx, .int (nI i), .int md, .ref a]))]]) ((fun z => z = .inl (a, .inr (14, [.int md, .int (nI k), vr f, vr lf])))) (Q_ctJ35_hasNext G q0 a k i md f lf lr nx) := by
  refine Ct.of (by decide +kernel) (Nat.le_of_ble_eq_true rfl) ?_
  intro p e s m below meth c A ls C hW hRo hl
  have hl : lv_has ls 1 [(0, .ref q0)] := hl
  refine lv_aload_n C.hx C.hb dJ35_hasNext_0 rfl (lv_at hl 0 rfl) ?_
  refine k_get (v := .int (nI i)) C clJ35 (hW.get 0 0 rfl rfl) 2 (Nat.le_of_ble_eq_true rfl) rfl q806 rfl rfl dJ35_hasNext_1 ?_
  refine lv_aload_n C.hx C.hb dJ35_hasNext_4 rfl (lv_at hl 0 rfl) ?_
  refine k_get (v := .ref a) C clJ35 (hW.get 0 0 rfl rfl) 4 (Nat.le_of_ble_eq_true rfl) rfl q808 rfl rfl dJ35_hasNext_5 ?_
  refine k_get (v := .int (nI k)) C clJ8 ((hRo _ rfl).at hW) 1 (Nat.le_of_ble_eq_true rfl) rfl q264 rfl rfl dJ35_hasNext_8 ?_
  refine kn_icmp_ge (tgt := 18) C (by omega) (by omega) dJ35_hasNext_11 (by decide) (fun c11 => ?_) (fun c11 => ?_)
  · refine kn_iconst (a := 0) C (by decide) dJ35_hasNext_18 ?_
    exact k_zret C hW rfl (by decide) ⟨by simp [b01, show ¬ i < k by omega]; rfl, rfl⟩ (Nat.le_refl _) (Nat.le_refl _) dJ35_hasNext_19
  · refine kn_iconst (a := 1) C (by decide) dJ35_hasNext_14 ?_
    refine lv_goto (tgt := 19) C.hx C.hb dJ35_hasNext_15 (by decide) ?_
    exact k_zret C hW rfl (by decide) ⟨by simp [b01, show i < k by omega]; rfl, rfl⟩ (Nat.le_refl _) (Nat.le_refl _) dJ35_hasNext_19

def Q_ctJ35_checkForComodification (G : GT) (q0 a k i : Nat) (md : Int32) (f lf lr nx : Option Nat) : Option Value → List va_W → Prop := fun v S1 => v = none ∧ S1 = [[(q0, .inr (22, [vr lr, vr nx, .int (nI i), .int md, .ref a]))]]
set_option maxHeartbeats 4000000 in
set_option maxRecDepth 100000 in
theorem ctJ35_checkForComodification (l : Launch) (G : GT) (q0 a k i : Nat) (md : Int32) (f lf lr nx : Option Nat)  : Ct l G yJ35_checkForComodification cJ35_checkForComodification 1 none 0 0 0 0 [.ref q0] ([[(q0, .inr (22, [vr lr, vr nx, .int (nI i), .int md, .ref a]))]]) ((fun z => z = .inl (a, .inr (14, [.int md, .int (nI k), vr f, vr lf])))) (Q_ctJ35_checkForComodification G q0 a k i md f lf lr nx) := by
  refine Ct.of (by decide +kernel) (Nat.le_of_ble_eq_true rfl) ?_
  intro p e s m below meth c A ls C hW hRo hl
  have hl : lv_has ls 1 [(0, .ref q0)] := hl
  refine lv_aload_n C.hx C.hb dJ35_checkForComodification_0 rfl (lv_at hl 0 rfl) ?_
  refine k_get (v := .ref a) C clJ35 (hW.get 0 0 rfl rfl) 4 (Nat.le_of_ble_eq_true rfl) rfl q808 rfl rfl dJ35_checkForComodification_1 ?_
  refine k_getS (v := .int md) C clJ8 ((hRo _ rfl).at hW) 0 (Nat.le_of_ble_eq_true rfl) rfl q156 q157 k_same rfl rfl dJ35_checkForComodification_4 ?_
  refine lv_aload_n C.hx C.hb dJ35_checkForComodification_7 rfl (lv_at hl 0 rfl) ?_
  refine k_get (v := .int md) C clJ35 (hW.get 0 0 rfl rfl) 3 (Nat.le_of_ble_eq_true rfl) rfl q807 rfl rfl dJ35_checkForComodification_8 ?_
  refine lv_icmp_eq (tgt := 22) C.hx C.hb dJ35_checkForComodification_11 (by decide) (fun c11 => ?_) (fun c11 => (absurd rfl c11))
  exact k_vret C hW rfl ⟨rfl, rfl⟩ (Nat.le_refl _) (Nat.le_refl _) dJ35_checkForComodification_22

def Q_ctJ35_next (G : GT) (q0 a k i n x : Nat) (md : Int32) (f lf lr nx pv : Option Nat) : Option Value → List va_W → Prop := fun v S1 => v = some (.ref x) ∧ S1 = [[(q0, .inr (22, [.ref n, vr nx, .int (nI (i + 1)), .int md, .ref a]))]]
set_option maxHeartbeats 4000000 in
set_option maxRecDepth 100000 in
theorem ctJ35_next (l : Launch) (G : GT) (q0 a k i n x : Nat) (md : Int32) (f lf lr nx pv : Option Nat) (hk : k < 2 ^ 31) (hi : i < k) : Ct l G yJ35_next cJ35_next 1 (some (.object "java/lang/Object")) 1 20 0 0 [.ref q0] ([[(q0, .inr (22, [vr lr, .ref n, .int (nI i), .int md, .ref a]))]]) ((fun z => z = .inl (a, .inr (14, [.int md, .int (nI k), vr f, vr lf])) ∨ z = .inl (n, .inr (19, [.ref x, vr nx, vr pv])))) (Q_ctJ35_next G q0 a k i n x md f lf lr nx pv) := by
  refine Ct.of (by decide +kernel) (Nat.le_of_ble_eq_true rfl) ?_
  intro p e s m below meth c A ls C hW hRo hl
  have hl : lv_has ls 1 [(0, .ref q0)] := hl
  refine lv_aload_n C.hx C.hb dJ35_next_0 rfl (lv_at hl 0 rfl) ?_
  refine k_callV (Sc := [[(q0, .inr (22, [vr lr, .ref n, .int (nI i), .int md, .ref a]))]]) (Sr := []) (As := []) (rest := []) C (ctJ35_checkForComodification l G q0 a k i md f lf lr (some n)) hW clJ35 (hW.get 0 0 rfl rfl) q1037 q1038 q1039 q118 q1040 rfl rfl ⟨by decide, by decide, Eq.trans (b := some 0) (by decide +kernel) rfl⟩ (Nat.le_of_ble_eq_true rfl) (Nat.le_of_ble_eq_true rfl) (Nat.le_refl _) (Nat.le_refl _) hl.1 rfl (Nat.le_of_ble_eq_true rfl) dJ35_next_1 ((pick_perm [[(q0, .inr (22, [vr lr, .ref n, .int (nI i), .int md, .ref a]))]] 1 rfl (is := [0]) (by decide)).flatten.symm) (fun z hz => by cases hz; exact Or.inr (Or.inr (hRo _ (Or.inl rfl)))) (fun v H1 locs1 S1 hQ hz1 hW1 => ?_)
  obtain ⟨rfl, rfl⟩ := hQ
  have hW1 : Ws G A s ([[(q0, .inr (22, [vr lr, .ref n, .int (nI i), .int md, .ref a]))]]) H1 locs1 := hW1
  clear hW
  refine W.eq (g2 := F0 m 4 ls []) rfl ?_
  refine lv_aload_n C.hx C.hb dJ35_next_4 rfl (lv_at hl 0 rfl) ?_
  refine k_callV (Sc := [[(q0, .inr (22, [vr lr, .ref n, .int (nI i), .int md, .ref a]))]]) (Sr := []) (As := []) (rest := []) C (ctJ35_hasNext l G q0 a k i md f lf lr (some n) hk (by omega)) hW1 clJ35 (hW1.get 0 0 rfl rfl) q1041 q858 q2665 q118 q860 rfl rfl ⟨by decide, by decide, Eq.trans (b := some 0) (by decide +kernel) rfl⟩ (Nat.le_of_ble_eq_true rfl) (Nat.le_of_ble_eq_true rfl) (Nat.le_refl _) (Nat.le_refl _) hl.1 rfl (Nat.le_of_ble_eq_true rfl) dJ35_next_5 ((pick_perm [[(q0, .inr (22, [vr lr, .ref n, .int (nI i), .int md, .ref a]))]] 1 rfl (is := [0]) (by decide)).flatten.symm) (fun z hz => by cases hz; exact Or.inr (Or.inr (hRo _ (Or.inl rfl)))) (fun v H2 locs2 S1 hQ hz2 hW2 => ?_)
  obtain ⟨rfl, rfl⟩ := hQ
  have hW2 : Ws G A s ([[(q0, .inr (22, [vr lr, .ref n, .int (nI i), .int md, .ref a]))]]) H2 locs2 := hW2
  clear hW1
  refine W.eq (g2 := F0 m 8 ls [.int (b01 (i < k))]) rfl ?_
  refine kb_if_ne (tgt := 19) C dJ35_next_8 (by decide) (fun c8 => ?_) (fun c8 => (absurd hi c8))
  refine lv_aload_n C.hx C.hb dJ35_next_19 rfl (lv_at hl 0 rfl) ?_
  refine lv_aload_n C.hx C.hb dJ35_next_20 rfl (lv_at hl 0 rfl) ?_
  refine k_get (v := .ref n) C clJ35 (hW2.get 0 0 rfl rfl) 1 (Nat.le_of_ble_eq_true rfl) rfl q805 rfl rfl dJ35_next_21 ?_
  refine k_put (S' := [[(q0, .inr (22, [.ref n, .ref n, .int (nI i), .int md, .ref a]))]]) C clJ35 hW2 0 0 rfl rfl 0 (Nat.le_of_ble_eq_true rfl) rfl q804 rfl (fun _ h => h) (Or.inl rfl) (fty := (.object "java/util/LinkedList$Node")) (v := .ref n) (by decide +kernel) rfl rfl (Nat.le_of_ble_eq_true rfl) dJ35_next_24 rfl (fun H3 locs3 hW3 => ?_)
  clear hW2
  refine lv_aload_n C.hx C.hb dJ35_next_27 rfl (lv_at hl 0 rfl) ?_
  refine lv_aload_n C.hx C.hb dJ35_next_28 rfl (lv_at hl 0 rfl) ?_
  refine k_get (v := .ref n) C clJ35 (hW3.get 0 0 rfl rfl) 1 (Nat.le_of_ble_eq_true rfl) rfl q805 rfl rfl dJ35_next_29 ?_
  refine k_get (v := vr nx) C clJ30 ((hRo _ (Or.inr rfl)).at hW3) 1 (Nat.le_of_ble_eq_true rfl) rfl q1715 rfl rfl dJ35_next_32 ?_
  refine k_put (S' := [[(q0, .inr (22, [.ref n, vr nx, .int (nI i), .int md, .ref a]))]]) C clJ35 hW3 0 0 rfl rfl 1 (Nat.le_of_ble_eq_true rfl) rfl q805 rfl (fun _ h => h) (Or.inl rfl) (fty := (.object "java/util/LinkedList$Node")) (v := vr nx) (by decide +kernel) (vr_nar _ _) (vr_fit _ _) (Nat.le_of_ble_eq_true rfl) dJ35_next_35 rfl (fun H4 locs4 hW4 => ?_)
  clear hW3
  refine lv_aload_n C.hx C.hb dJ35_next_38 rfl (lv_at hl 0 rfl) ?_
  refine lv_dup C.hx C.hb dJ35_next_39 rfl ?_
  refine k_get (v := .int (nI i)) C clJ35 (hW4.get 0 0 rfl rfl) 2 (Nat.le_of_ble_eq_true rfl) rfl q806 rfl rfl dJ35_next_40 ?_
  refine kn_iconst (a := 1) C (by decide) dJ35_next_43 ?_
  refine kn_iadd C  dJ35_next_44 ?_
  refine k_put (S' := [[(q0, .inr (22, [.ref n, vr nx, .int (nI (i + 1)), .int md, .ref a]))]]) C clJ35 hW4 0 0 rfl rfl 2 (Nat.le_of_ble_eq_true rfl) rfl q806 rfl (fun _ h => h) (Or.inl rfl) (fty := .int) (v := .int (nI (i + 1))) (by decide +kernel) rfl rfl (Nat.le_of_ble_eq_true rfl) dJ35_next_45 rfl (fun H5 locs5 hW5 => ?_)
  clear hW4
  refine lv_aload_n C.hx C.hb dJ35_next_48 rfl (lv_at hl 0 rfl) ?_
  refine k_get (v := .ref n) C clJ35 (hW5.get 0 0 rfl rfl) 0 (Nat.le_of_ble_eq_true rfl) rfl q804 rfl rfl dJ35_next_49 ?_
  refine k_get (v := .ref x) C clJ30 ((hRo _ (Or.inr rfl)).at hW5) 0 (Nat.le_of_ble_eq_true rfl) rfl q1712 rfl rfl dJ35_next_52 ?_
  exact k_aret C hW5 rfl (Or.inl ⟨_, rfl⟩) (Or.inr ⟨_, rfl⟩) ⟨rfl, rfl⟩ (Nat.le_refl _) (Nat.le_refl _) dJ35_next_55

def Q_ctJ39_equals (G : GT) (a b : Nat) : Option Value → List va_W → Prop := fun v S1 => v = some (.int (b01 (a = b))) ∧ S1 = []
set_option maxHeartbeats 4000000 in
set_option maxRecDepth 100000 in
theorem ctJ39_equals (l : Launch) (G : GT) (a b : Nat)  : Ct l G yJ39_equals cJ39_equals 2 (some .boolean) 0 0 0 0 [.ref a, .ref b] ([]) noR (Q_ctJ39_equals G a b) := by
  refine Ct.of (by decide +kernel) (Nat.le_of_ble_eq_true rfl) ?_
  intro p e s m below meth c A ls C hW hRo hl
  have hl : lv_has ls 2 [(0, .ref a), (1, .ref b)] := hl
  refine lv_aload_n C.hx C.hb dJ39_equals_0 rfl (lv_at hl 0 rfl) ?_
  refine lv_aload_n C.hx C.hb dJ39_equals_1 rfl (lv_at hl 1 rfl) ?_
  refine kr_acmp_ne (tgt := 9) C dJ39_equals_2 (by decide) (fun c2 => ?_) (fun c2 => ?_)
  · refine kn_iconst (a := 0) C (by decide) dJ39_equals_9 ?_
    exact k_zret C hW rfl (by decide) ⟨by simp [b01, c2]; rfl, rfl⟩ (Nat.le_refl _) (Nat.le_refl _) dJ39_equals_10
  · refine kn_iconst (a := 1) C (by decide) dJ39_equals_5 ?_
    refine lv_goto (tgt := 10) C.hx C.hb dJ39_equals_6 (by decide) ?_
    exact k_zret C hW rfl (by decide) ⟨by simp [b01, c2]; rfl, rfl⟩ (Nat.le_refl _) (Nat.le_refl _) dJ39_equals_10

def Q_ctJ8_unlink_00 (G : GT) (a n x k m1 y1 m2 y2 : Nat) (md : Int32) (f lf pp qq : Option Nat) : Option Value → List va_W → Prop := fun v S1 => v = some (.ref x) ∧ S1 = [[(a, .inr (14, [.int (md + 1), .int (nI k), .null, .null]))]]
set_option maxHeartbeats 4000000 in
set_option maxRecDepth 100000 in
theorem ctJ8_unlink_00 (l : Launch) (G : GT) (a n x k m1 y1 m2 y2 : Nat) (md : Int32) (f lf pp qq : Option Nat)  : Ct l G yJ8_unlink cJ8_unlink 5 (some (.object "java/lang/Object")) 0 0 0 0 [.ref a, .ref n] ([[(a, .inr (14, [.int md, .int (nI (k + 1)), .ref n, .ref n]))], [(n, .inr (19, [.ref x, .null, .null]))]]) noR (Q_ctJ8_unlink_00 G a n x k m1 y1 m2 y2 md f lf pp qq) := by
  refine Ct.of (by decide +kernel) (Nat.le_of_ble_eq_true rfl) ?_
  intro p e s m below meth c A ls C hW hRo hl
  have hl : lv_has ls 5 [(0, .ref a), (1, .ref n)] := hl
  refine lv_aload_n C.hx C.hb dJ8_unlink_0 rfl (lv_at hl 1 rfl) ?_
  refine k_get (v := .ref x) C clJ30 (hW.get 1 0 rfl rfl) 0 (Nat.le_of_ble_eq_true rfl) rfl q1713 rfl rfl dJ8_unlink_1 ?_
  refine lv_astore_n (lv' := [(2, .ref x), (0, .ref a), (1, .ref n)]) C.hx C.hb dJ8_unlink_4 rfl hl (Nat.le_of_ble_eq_true rfl) rfl (fun ls1 hl1 => ?_)
  clear hl
  refine lv_aload_n C.hx C.hb dJ8_unlink_5 rfl (lv_at hl1 2 rfl) ?_
  refine k_get (v := .null) C clJ30 (hW.get 1 0 rfl rfl) 1 (Nat.le_of_ble_eq_true rfl) rfl q1716 rfl rfl dJ8_unlink_6 ?_
  refine lv_astore_nN (lv' := [(3, .null), (2, .ref x), (0, .ref a), (1, .ref n)]) C.hx C.hb dJ8_unlink_9 rfl hl1 (Nat.le_of_ble_eq_true rfl) rfl (fun ls2 hl2 => ?_)
  clear hl1
  refine lv_aload_n C.hx C.hb dJ8_unlink_10 rfl (lv_at hl2 3 rfl) ?_
  refine k_get (v := .null) C clJ30 (hW.get 1 0 rfl rfl) 2 (Nat.le_of_ble_eq_true rfl) rfl q1718 rfl rfl dJ8_unlink_11 ?_
  refine lv_astoreN (lv' := [(4, .null), (3, .null), (2, .ref x), (0, .ref a), (1, .ref n)]) C.hx C.hb dJ8_unlink_14 hl2 (Nat.le_of_ble_eq_true rfl) rfl (fun ls3 hl3 => ?_)
  clear hl2
  refine lv_aloadN C.hx C.hb dJ8_unlink_16 (lv_at hl3 0 rfl) ?_
  refine lv_ifnonnullN C.hx C.hb dJ8_unlink_18 ?_
  refine lv_aload_n C.hx C.hb dJ8_unlink_21 rfl (lv_at hl3 3 rfl) ?_
  refine lv_aload_nN C.hx C.hb dJ8_unlink_22 rfl (lv_at hl3 1 rfl) ?_
  refine k_put (S' := [[(a, .inr (14, [.int md, .int (nI (k + 1)), .null, .ref n]))], [(n, .inr (19, [.ref x, .null, .null]))]]) C clJ8 hW 0 0 rfl rfl 2 (Nat.le_of_ble_eq_true rfl) rfl q265 rfl (fun _ h => h) (Or.inl rfl) (fty := (.object "java/util/LinkedList$Node")) (v := .null) (by decide +kernel) rfl rfl (Nat.le_of_ble_eq_true rfl) dJ8_unlink_23 rfl (fun H4 locs4 hW4 => ?_)
  clear hW
  refine lv_goto (tgt := 40) C.hx C.hb dJ8_unlink_26 (by decide) ?_
  refine lv_aload_nN C.hx C.hb dJ8_unlink_40 rfl (lv_at hl3 1 rfl) ?_
  refine lv_ifnonnullN C.hx C.hb dJ8_unlink_41 ?_
  refine lv_aload_n C.hx C.hb dJ8_unlink_44 rfl (lv_at hl3 3 rfl) ?_
  refine lv_aloadN C.hx C.hb dJ8_unlink_45 (lv_at hl3 0 rfl) ?_
  refine k_put (S' := [[(a, .inr (14, [.int md, .int (nI (k + 1)), .null, .null]))], [(n, .inr (19, [.ref x, .null, .null]))]]) C clJ8 hW4 0 0 rfl rfl 3 (Nat.le_of_ble_eq_true rfl) rfl q266 rfl (fun _ h => h) (Or.inl rfl) (fty := (.object "java/util/LinkedList$Node")) (v := .null) (by decide +kernel) rfl rfl (Nat.le_of_ble_eq_true rfl) dJ8_unlink_47 rfl (fun H5 locs5 hW5 => ?_)
  clear hW4
  refine lv_goto (tgt := 64) C.hx C.hb dJ8_unlink_50 (by decide) ?_
  refine lv_aload_n C.hx C.hb dJ8_unlink_64 rfl (lv_at hl3 4 rfl) ?_
  refine lv_null C.hx C.hb dJ8_unlink_65 ?_
  refine k_put (S' := [[(a, .inr (14, [.int md, .int (nI (k + 1)), .null, .null]))], [(n, .inr (19, [.null, .null, .null]))]]) C clJ30 hW5 1 0 rfl rfl 0 (Nat.le_of_ble_eq_true rfl) rfl q1713 rfl (fun _ h => h) (Or.inl rfl) (fty := (.object "java/lang/Object")) (v := .null) (by decide +kernel) rfl rfl (Nat.le_of_ble_eq_true rfl) dJ8_unlink_66 rfl (fun H6 locs6 hW6 => ?_)
  clear hW5
  refine lv_aload_n C.hx C.hb dJ8_unlink_69 rfl (lv_at hl3 3 rfl) ?_
  refine lv_dup C.hx C.hb dJ8_unlink_70 rfl ?_
  refine k_get (v := .int (nI (k + 1))) C clJ8 (hW6.get 0 0 rfl rfl) 1 (Nat.le_of_ble_eq_true rfl) rfl q263 rfl rfl dJ8_unlink_71 ?_
  refine kn_iconst (a := 1) C (by decide) dJ8_unlink_74 ?_
  refine kn_isub C (by omega) dJ8_unlink_75 ?_
  refine k_put (S' := [[(a, .inr (14, [.int md, .int (nI ((k + 1) - 1)), .null, .null]))], [(n, .inr (19, [.null, .null, .null]))]]) C clJ8 hW6 0 0 rfl rfl 1 (Nat.le_of_ble_eq_true rfl) rfl q263 rfl (fun _ h => h) (Or.inl rfl) (fty := .int) (v := .int (nI ((k + 1) - 1))) (by decide +kernel) rfl rfl (Nat.le_of_ble_eq_true rfl) dJ8_unlink_76 rfl (fun H7 locs7 hW7 => ?_)
  clear hW6
  refine lv_aload_n C.hx C.hb dJ8_unlink_79 rfl (lv_at hl3 3 rfl) ?_
  refine lv_dup C.hx C.hb dJ8_unlink_80 rfl ?_
  refine k_getS (v := .int md) C clJ8 (hW7.get 0 0 rfl rfl) 0 (Nat.le_of_ble_eq_true rfl) rfl q161 q157 k_same rfl rfl dJ8_unlink_81 ?_
  refine kn_iconst (a := 1) C (by decide) dJ8_unlink_84 ?_
  refine lv_iadd C.hx C.hb dJ8_unlink_85 ?_
  refine k_put (S' := [[(a, .inr (14, [.int (md + (nI 1)), .int (nI ((k + 1) - 1)), .null, .null]))], [(n, .inr (19, [.null, .null, .null]))]]) C clJ8 hW7 0 0 rfl rfl 0 (Nat.le_of_ble_eq_true rfl) rfl q161 rfl (k_same (C.hts _ q157)) (Or.inl rfl) (fty := .int) (v := .int (md + (nI 1))) (by decide +kernel) rfl rfl (Nat.le_of_ble_eq_true rfl) dJ8_unlink_86 rfl (fun H8 locs8 hW8 => ?_)
  clear hW7
  refine lv_aload_n C.hx C.hb dJ8_unlink_89 rfl (lv_at hl3 2 rfl) ?_
  have hW9 : Ws G A s [[(a, .inr (14, [.int (md + (nI 1)), .int (nI ((k + 1) - 1)), .null, .null]))], [(n, .inr (19, [.null, .null, .null]))]] H8 locs8 := hW8.pick 2 rfl [0, 1] (by decide) rfl
  clear hW8
  have hW10 : Ws G A s [[(a, .inr (14, [.int (md + (nI 1)), .int (nI ((k + 1) - 1)), .null, .null]))]] H8 locs8 := hW9.drop (S2 := [[(n, .inr (19, [.null, .null, .null]))]]) rfl
  clear hW9
  exact k_aret C hW10 rfl (Or.inl ⟨_, rfl⟩) (Or.inr ⟨_, rfl⟩) ⟨rfl, rfl⟩ (Nat.le_refl _) (Nat.le_refl _) dJ8_unlink_90

def Q_ctJ8_unlink_01 (G : GT) (a n x k m1 y1 m2 y2 : Nat) (md : Int32) (f lf pp qq : Option Nat) : Option Value → List va_W → Prop := fun v S1 => v = some (.ref x) ∧ S1 = [[(a, .inr (14, [.int (md + 1), .int (nI k), .ref m2, vr lf]))], [(m2, .inr (19, [.ref y2, vr qq, .null]))]]
set_option maxHeartbeats 4000000 in
set_option maxRecDepth 100000 in
theorem ctJ8_unlink_01 (l : Launch) (G : GT) (a n x k m1 y1 m2 y2 : Nat) (md : Int32) (f lf pp qq : Option Nat)  : Ct l G yJ8_unlink cJ8_unlink 5 (some (.object "java/lang/Object")) 0 0 0 0 [.ref a, .ref n] ([[(a, .inr (14, [.int md, .int (nI (k + 1)), .ref n, vr lf]))], [(n, .inr (19, [.ref x, .ref m2, .null]))], [(m2, .inr (19, [.ref y2, vr qq, .ref n]))]]) noR (Q_ctJ8_unlink_01 G a n x k m1 y1 m2 y2 md f lf pp qq) := by
  refine Ct.of (by decide +kernel) (Nat.le_of_ble_eq_true rfl) ?_
  intro p e s m below meth c A ls C hW hRo hl
  have hl : lv_has ls 5 [(0, .ref a), (1, .ref n)] := hl
  refine lv_aload_n C.hx C.hb dJ8_unlink_0 rfl (lv_at hl 1 rfl) ?_
  refine k_get (v := .ref x) C clJ30 (hW.get 1 0 rfl rfl) 0 (Nat.le_of_ble_eq_true rfl) rfl q1713 rfl rfl dJ8_unlink_1 ?_
  refine lv_astore_n (lv' := [(2, .ref x), (0, .ref a), (1, .ref n)]) C.hx C.hb dJ8_unlink_4 rfl hl (Nat.le_of_ble_eq_true rfl) rfl (fun ls1 hl1 => ?_)
  clear hl
  refine lv_aload_n C.hx C.hb dJ8_unlink_5 rfl (lv_at hl1 2 rfl) ?_
  refine k_get (v := .ref m2) C clJ30 (hW.get 1 0 rfl rfl) 1 (Nat.le_of_ble_eq_true rfl) rfl q1716 rfl rfl dJ8_unlink_6 ?_
  refine lv_astore_n (lv' := [(3, .ref m2), (2, .ref x), (0, .ref a), (1, .ref n)]) C.hx C.hb dJ8_unlink_9 rfl hl1 (Nat.le_of_ble_eq_true rfl) rfl (fun ls2 hl2 => ?_)
  clear hl1
  refine lv_aload_n C.hx C.hb dJ8_unlink_10 rfl (lv_at hl2 3 rfl) ?_
  refine k_get (v := .null) C clJ30 (hW.get 1 0 rfl rfl) 2 (Nat.le_of_ble_eq_true rfl) rfl q1718 rfl rfl dJ8_unlink_11 ?_
  refine lv_astoreN (lv' := [(4, .null), (3, .ref m2), (2, .ref x), (0, .ref a), (1, .ref n)]) C.hx C.hb dJ8_unlink_14 hl2 (Nat.le_of_ble_eq_true rfl) rfl (fun ls3 hl3 => ?_)
  clear hl2
  refine lv_aloadN C.hx C.hb dJ8_unlink_16 (lv_at hl3 0 rfl) ?_
  refine lv_ifnonnullN C.hx C.hb dJ8_unlink_18 ?_
  refine lv_aload_n C.hx C.hb dJ8_unlink_21 rfl (lv_at hl3 3 rfl) ?_
  refine lv_aload_n C.hx C.hb dJ8_unlink_22 rfl (lv_at hl3 1 rfl) ?_
  refine k_put (S' := [[(a, .inr (14, [.int md, .int (nI (k + 1)), .ref m2, vr lf]))], [(n, .inr (19, [.ref x, .ref m2, .null]))], [(m2, .inr (19, [.ref y2, vr qq, .ref n]))]]) C clJ8 hW 0 0 rfl rfl 2 (Nat.le_of_ble_eq_true rfl) rfl q265 rfl (fun _ h => h) (Or.inl rfl) (fty := (.object "java/util/LinkedList$Node")) (v := .ref m2) (by decide +kernel) rfl rfl (Nat.le_of_ble_eq_true rfl) dJ8_unlink_23 rfl (fun H4 locs4 hW4 => ?_)
  clear hW
  refine lv_goto (tgt := 40) C.hx C.hb dJ8_unlink_26 (by decide) ?_
  refine lv_aload_n C.hx C.hb dJ8_unlink_40 rfl (lv_at hl3 1 rfl) ?_
  refine lv_ifnonnull (tgt := 53) C.hx C.hb dJ8_unlink_41 (by decide) ?_
  refine lv_aload_n C.hx C.hb dJ8_unlink_53 rfl (lv_at hl3 1 rfl) ?_
  refine lv_aloadN C.hx C.hb dJ8_unlink_54 (lv_at hl3 0 rfl) ?_
  refine k_put (S' := [[(a, .inr (14, [.int md, .int (nI (k + 1)), .ref m2, vr lf]))], [(n, .inr (19, [.ref x, .ref m2, .null]))], [(m2, .inr (19, [.ref y2, vr qq, .null]))]]) C clJ30 hW4 2 0 rfl rfl 2 (Nat.le_of_ble_eq_true rfl) rfl q1718 rfl (fun _ h => h) (Or.inl rfl) (fty := (.object "java/util/LinkedList$Node")) (v := .null) (by decide +kernel) rfl rfl (Nat.le_of_ble_eq_true rfl) dJ8_unlink_56 rfl (fun H5 locs5 hW5 => ?_)
  clear hW4
  refine lv_aload_n C.hx C.hb dJ8_unlink_59 rfl (lv_at hl3 4 rfl) ?_
  refine lv_null C.hx C.hb dJ8_unlink_60 ?_
  refine k_put (S' := [[(a, .inr (14, [.int md, .int (nI (k + 1)), .ref m2, vr lf]))], [(n, .inr (19, [.ref x, .null, .null]))], [(m2, .inr (19, [.ref y2, vr qq, .null]))]]) C clJ30 hW5 1 0 rfl rfl 1 (Nat.le_of_ble_eq_true rfl) rfl q1716 rfl (fun _ h => h) (Or.inl rfl) (fty := (.object "java/util/LinkedList$Node")) (v := .null) (by decide +kernel) rfl rfl (Nat.le_of_ble_eq_true rfl) dJ8_unlink_61 rfl (fun H6 locs6 hW6 => ?_)
  clear hW5
  refine lv_aload_n C.hx C.hb dJ8_unlink_64 rfl (lv_at hl3 4 rfl) ?_
  refine lv_null C.hx C.hb dJ8_unlink_65 ?_
  refine k_put (S' := [[(a, .inr (14, [.int md, .int (nI (k + 1)), .ref m2, vr lf]))], [(n, .inr (19, [.null, .null, .null]))], [(m2, .inr (19, [.ref y2, vr qq, .null]))]]) C clJ30 hW6 1 0 rfl rfl 0 (Nat.le_of_ble_eq_true rfl) rfl q1713 rfl (fun _ h => h) (Or.inl rfl) (fty := (.object "java/lang/Object")) (v := .null) (by decide +kernel) rfl rfl (Nat.le_of_ble_eq_true rfl) dJ8_unlink_66 rfl (fun H7 locs7 hW7 => ?_)
  clear hW6
  refine lv_aload_n C.hx C.hb dJ8_unlink_69 rfl (lv_at hl3 3 rfl) ?_
  refine lv_dup C.hx C.hb dJ8_unlink_70 rfl ?_
  refine k_get (v := .int (nI (k + 1))) C clJ8 (hW7.get 0 0 rfl rfl) 1 (Nat.le_of_ble_eq_true rfl) rfl q263 rfl rfl dJ8_unlink_71 ?_
  refine kn_iconst (a := 1) C (by decide) dJ8_unlink_74 ?_
  refine kn_isub C (by omega) dJ8_unlink_75 ?_
  refine k_put (S' := [[(a, .inr (14, [.int md, .int (nI ((k + 1) - 1)), .ref m2, vr lf]))], [(n, .inr (19, [.null, .null, .null]))], [(m2, .inr (19, [.ref y2, vr qq, .null]))]]) C clJ8 hW7 0 0 rfl rfl 1 (Nat.le_of_ble_eq_true rfl) rfl q263 rfl (fun _ h => h) (Or.inl rfl) (fty := .int) (v := .int (nI ((k + 1) - 1))) (by decide +kernel) rfl rfl (Nat.le_of_ble_eq_true rfl) dJ8_unlink_76 rfl (fun H8 locs8 hW8 => ?_)
  clear hW7
  refine lv_aload_n C.hx C.hb dJ8_unlink_79 rfl (lv_at hl3 3 rfl) ?_
  refine lv_dup C.hx C.hb dJ8_unlink_80 rfl ?_
  refine k_getS (v := .int md) C clJ8 (hW8.get 0 0 rfl rfl) 0 (Nat.le_of_ble_eq_true rfl) rfl q161 q157 k_same rfl rfl dJ8_unlink_81 ?_
  refine kn_iconst (a := 1) C (by decide) dJ8_unlink_84 ?_
  refine lv_iadd C.hx C.hb dJ8_unlink_85 ?_
  refine k_put (S' := [[(a, .inr (14, [.int (md + (nI 1)), .int (nI ((k + 1) - 1)), .ref m2, vr lf]))], [(n, .inr (19, [.null, .null, .null]))], [(m2, .inr (19, [.ref y2, vr qq, .null]))]]) C clJ8 hW8 0 0 rfl rfl 0 (Nat.le_of_ble_eq_true rfl) rfl q161 rfl (k_same (C.hts _ q157)) (Or.inl rfl) (fty := .int) (v := .int (md + (nI 1))) (by decide +kernel) rfl rfl (Nat.le_of_ble_eq_true rfl) dJ8_unlink_86 rfl (fun H9 locs9 hW9 => ?_)
  clear hW8
  refine lv_aload_n C.hx C.hb dJ8_unlink_89 rfl (lv_at hl3 2 rfl) ?_
  have hW10 : Ws G A s [[(a, .inr (14, [.int (md + (nI 1)), .int (nI ((k + 1) - 1)), .ref m2, vr lf]))], [(m2, .inr (19, [.ref y2, vr qq, .null]))], [(n, .inr (19, [.null, .null, .null]))]] H9 locs9 := hW9.pick 3 rfl [0, 2, 1] (by decide) rfl
  clear hW9
  have hW11 : Ws G A s [[(a, .inr (14, [.int (md + (nI 1)), .int (nI ((k + 1) - 1)), .ref m2, vr lf]))], [(m2, .inr (19, [.ref y2, vr qq, .null]))]] H9 locs9 := hW10.drop (S2 := [[(n, .inr (19, [.null, .null, .null]))]]) rfl
  clear hW10
  exact k_aret C hW11 rfl (Or.inl ⟨_, rfl⟩) (Or.inr ⟨_, rfl⟩) ⟨rfl, rfl⟩ (Nat.le_refl _) (Nat.le_refl _) dJ8_unlink_90

def Q_ctJ8_unlink_10 (G : GT) (a n x k m1 y1 m2 y2 : Nat) (md : Int32) (f lf pp qq : Option Nat) : Option Value → List va_W → Prop := fun v S1 => v = some (.ref x) ∧ S1 = [[(a, .inr (14, [.int (md + 1), .int (nI k), vr f, .ref m1]))], [(m1, .inr (19, [.ref y1, .null, vr pp]))]]
set_option maxHeartbeats 4000000 in
set_option maxRecDepth 100000 in
theorem ctJ8_unlink_10 (l : Launch) (G : GT) (a n x k m1 y1 m2 y2 : Nat) (md : Int32) (f lf pp qq : Option Nat)  : Ct l G yJ8_unlink cJ8_unlink 5 (some (.object "java/lang/Object")) 0 0 0 0 [.ref a, .ref n] ([[(a, .inr (14, [.int md, .int (nI (k + 1)), vr f, .ref n]))], [(n, .inr (19, [.ref x, .null, .ref m1]))], [(m1, .inr (19, [.ref y1, .ref n, vr pp]))]]) noR (Q_ctJ8_unlink_10 G a n x k m1 y1 m2 y2 md f lf pp qq) := by
  refine Ct.of (by decide +kernel) (Nat.le_of_ble_eq_true rfl) ?_
  intro p e s m below meth c A ls C hW hRo hl
  have hl : lv_has ls 5 [(0, .ref a), (1, .ref n)] := hl
  refine lv_aload_n C.hx C.hb dJ8_unlink_0 rfl (lv_at hl 1 rfl) ?_
  refine k_get (v := .ref x) C clJ30 (hW.get 1 0 rfl rfl) 0 (Nat.le_of_ble_eq_true rfl) rfl q1713 rfl rfl dJ8_unlink_1 ?_
  refine lv_astore_n (lv' := [(2, .ref x), (0, .ref a), (1, .ref n)]) C.hx C.hb dJ8_unlink_4 rfl hl (Nat.le_of_ble_eq_true rfl) rfl (fun ls1 hl1 => ?_)
  clear hl
  refine lv_aload_n C.hx C.hb dJ8_unlink_5 rfl (lv_at hl1 2 rfl) ?_
  refine k_get (v := .null) C clJ30 (hW.get 1 0 rfl rfl) 1 (Nat.le_of_ble_eq_true rfl) rfl q1716 rfl rfl dJ8_unlink_6 ?_
  refine lv_astore_nN (lv' := [(3, .null), (2, .ref x), (0, .ref a), (1, .ref n)]) C.hx C.hb dJ8_unlink_9 rfl hl1 (Nat.le_of_ble_eq_true rfl) rfl (fun ls2 hl2 => ?_)
  clear hl1
  refine lv_aload_n C.hx C.hb dJ8_unlink_10 rfl (lv_at hl2 3 rfl) ?_
  refine k_get (v := .ref m1) C clJ30 (hW.get 1 0 rfl rfl) 2 (Nat.le_of_ble_eq_true rfl) rfl q1718 rfl rfl dJ8_unlink_11 ?_
  refine lv_astore (lv' := [(4, .ref m1), (3, .null), (2, .ref x), (0, .ref a), (1, .ref n)]) C.hx C.hb dJ8_unlink_14 hl2 (Nat.le_of_ble_eq_true rfl) rfl (fun ls3 hl3 => ?_)
  clear hl2
  refine lv_aload C.hx C.hb dJ8_unlink_16 (lv_at hl3 0 rfl) ?_
  refine lv_ifnonnull (tgt := 29) C.hx C.hb dJ8_unlink_18 (by decide) ?_
  refine lv_aload C.hx C.hb dJ8_unlink_29 (lv_at hl3 0 rfl) ?_
  refine lv_aload_nN C.hx C.hb dJ8_unlink_31 rfl (lv_at hl3 1 rfl) ?_
  refine k_put (S' := [[(a, .inr (14, [.int md, .int (nI (k + 1)), vr f, .ref n]))], [(n, .inr (19, [.ref x, .null, .ref m1]))], [(m1, .inr (19, [.ref y1, .null, vr pp]))]]) C clJ30 hW 2 0 rfl rfl 1 (Nat.le_of_ble_eq_true rfl) rfl q1716 rfl (fun _ h => h) (Or.inl rfl) (fty := (.object "java/util/LinkedList$Node")) (v := .null) (by decide +kernel) rfl rfl (Nat.le_of_ble_eq_true rfl) dJ8_unlink_32 rfl (fun H4 locs4 hW4 => ?_)
  clear hW
  refine lv_aload_n C.hx C.hb dJ8_unlink_35 rfl (lv_at hl3 4 rfl) ?_
  refine lv_null C.hx C.hb dJ8_unlink_36 ?_
  refine k_put (S' := [[(a, .inr (14, [.int md, .int (nI (k + 1)), vr f, .ref n]))], [(n, .inr (19, [.ref x, .null, .null]))], [(m1, .inr (19, [.ref y1, .null, vr pp]))]]) C clJ30 hW4 1 0 rfl rfl 2 (Nat.le_of_ble_eq_true rfl) rfl q1718 rfl (fun _ h => h) (Or.inl rfl) (fty := (.object "java/util/LinkedList$Node")) (v := .null) (by decide +kernel) rfl rfl (Nat.le_of_ble_eq_true rfl) dJ8_unlink_37 rfl (fun H5 locs5 hW5 => ?_)
  clear hW4
  refine lv_aload_nN C.hx C.hb dJ8_unlink_40 rfl (lv_at hl3 1 rfl) ?_
  refine lv_ifnonnullN C.hx C.hb dJ8_unlink_41 ?_
  refine lv_aload_n C.hx C.hb dJ8_unlink_44 rfl (lv_at hl3 3 rfl) ?_
  refine lv_aload C.hx C.hb dJ8_unlink_45 (lv_at hl3 0 rfl) ?_
  refine k_put (S' := [[(a, .inr (14, [.int md, .int (nI (k + 1)), vr f, .ref m1]))], [(n, .inr (19, [.ref x, .null, .null]))], [(m1, .inr (19, [.ref y1, .null, vr pp]))]]) C clJ8 hW5 0 0 rfl rfl 3 (Nat.le_of_ble_eq_true rfl) rfl q266 rfl (fun _ h => h) (Or.inl rfl) (fty := (.object "java/util/LinkedList$Node")) (v := .ref m1) (by decide +kernel) rfl rfl (Nat.le_of_ble_eq_true rfl) dJ8_unlink_47 rfl (fun H6 locs6 hW6 => ?_)
  clear hW5
  refine lv_goto (tgt := 64) C.hx C.hb dJ8_unlink_50 (by decide) ?_
  refine lv_aload_n C.hx C.hb dJ8_unlink_64 rfl (lv_at hl3 4 rfl) ?_
  refine lv_null C.hx C.hb dJ8_unlink_65 ?_
  refine k_put (S' := [[(a, .inr (14, [.int md, .int (nI (k + 1)), vr f, .ref m1]))], [(n, .inr (19, [.null, .null, .null]))], [(m1, .inr (19, [.ref y1, .null, vr pp]))]]) C clJ30 hW6 1 0 rfl rfl 0 (Nat.le_of_ble_eq_true rfl) rfl q1713 rfl (fun _ h => h) (Or.inl rfl) (fty := (.object "java/lang/Object")) (v := .null) (by decide +kernel) rfl rfl (Nat.le_of_ble_eq_true rfl) dJ8_unlink_66 rfl (fun H7 locs7 hW7 => ?_)
  clear hW6
  refine lv_aload_n C.hx C.hb dJ8_unlink_69 rfl (lv_at hl3 3 rfl) ?_
  refine lv_dup C.hx C.hb dJ8_unlink_70 rfl ?_
  refine k_get (v := .int (nI (k + 1))) C clJ8 (hW7.get 0 0 rfl rfl) 1 (Nat.le_of_ble_eq_true rfl) rfl q263 rfl rfl dJ8_unlink_71 ?_
  refine kn_iconst (a := 1) C (by decide) dJ8_unlink_74 ?_
  refine kn_isub C (by omega) dJ8_unlink_75 ?_
  refine k_put (S' := [[(a, .inr (14, [.int md, .int (nI ((k + 1) - 1)), vr f, .ref m1]))], [(n, .inr (19, [.null, .null, .null]))], [(m1, .inr (19, [.ref y1, .null, vr pp]))]]) C clJ8 hW7 0 0 rfl rfl 1 (Nat.le_of_ble_eq_true rfl) rfl q263 rfl (fun _ h => h) (Or.inl rfl) (fty := .int) (v := .int (nI ((k + 1) - 1))) (by decide +kernel) rfl rfl (Nat.le_of_ble_eq_true rfl) dJ8_unlink_76 rfl (fun H8 locs8 hW8 => ?_)
  clear hW7
  refine lv_aload_n C.hx C.hb dJ8_unlink_79 rfl (lv_at hl3 3 rfl) ?_
  refine lv_dup C.hx C.hb dJ8_unlink_80 rfl ?_
  refine k_getS (v := .int md) C clJ8 (hW8.get 0 0 rfl rfl) 0 (Nat.le_of_ble_eq_true rfl) rfl q161 q157 k_same rfl rfl dJ8_unlink_81 ?_
  refine kn_iconst (a := 1) C (by decide) dJ8_unlink_84 ?_
  refine lv_iadd C.hx C.hb dJ8_unlink_85 ?_
  refine k_put (S' := [[(a, .inr (14, [.int (md + (nI 1)), .int (nI ((k + 1) - 1)), vr f, .ref m1]))], [(n, .inr (19, [.null, .null, .null]))], [(m1, .inr (19, [.ref y1, .null, vr pp]))]]) C clJ8 hW8 0 0 rfl rfl 0 (Nat.le_of_ble_eq_true rfl) rfl q161 rfl (k_same (C.hts _ q157)) (Or.inl rfl) (fty := .int) (v := .int (md + (nI 1))) (by decide +kernel) rfl rfl (Nat.le_of_ble_eq_true rfl) dJ8_unlink_86 rfl (fun H9 locs9 hW9 => ?_)
  clear hW8
  refine lv_aload_n C.hx C.hb dJ8_unlink_89 rfl (lv_at hl3 2 rfl) ?_
  have hW10 : Ws G A s [[(a, .inr (14, [.int (md + (nI 1)), .int (nI ((k + 1) - 1)), vr f, .ref m1]))], [(m1, .inr (19, [.ref y1, .null, vr pp]))], [(n, .inr (19, [.null, .null, .null]))]] H9 locs9 := hW9.pick 3 rfl [0, 2, 1] (by decide) rfl
  clear hW9
  have hW11 : Ws G A s [[(a, .inr (14, [.int (md + (nI 1)), .int (nI ((k + 1) - 1)), vr f, .ref m1]))], [(m1, .inr (19, [.ref y1, .null, vr pp]))]] H9 locs9 := hW10.drop (S2 := [[(n, .inr (19, [.null, .null, .null]))]]) rfl
  clear hW10
  exact k_aret C hW11 rfl (Or.inl ⟨_, rfl⟩) (Or.inr ⟨_, rfl⟩) ⟨rfl, rfl⟩ (Nat.le_refl _) (Nat.le_refl _) dJ8_unlink_90

def Q_ctJ8_unlink_11 (G : GT) (a n x k m1 y1 m2 y2 : Nat) (md : Int32) (f lf pp qq : Option Nat) : Option Value → List va_W → Prop := fun v S1 => v = some (.ref x) ∧ S1 = [[(a, .inr (14, [.int (md + 1), .int (nI k), vr f, vr lf]))], [(m1, .inr (19, [.ref y1, .ref m2, vr pp]))], [(m2, .inr (19, [.ref y2, vr qq, .ref m1]))]]
set_option maxHeartbeats 4000000 in
set_option maxRecDepth 100000 in
theorem ctJ8_unlink_11 (l : Launch) (G : GT) (a n x k m1 y1 m2 y2 : Nat) (md : Int32) (f lf pp qq : Option Nat)  : Ct l G yJ8_unlink cJ8_unlink 5 (some (.object "java/lang/Object")) 0 0 0 0 [.ref a, .ref n] ([[(a, .inr (14, [.int md, .int (nI (k + 1)), vr f, vr lf]))], [(n, .inr (19, [.ref x, .ref m2, .ref m1]))], [(m1, .inr (19, [.ref y1, .ref n, vr pp]))], [(m2, .inr (19, [.ref y2, vr qq, .ref n]))]]) noR (Q_ctJ8_unlink_11 G a n x k m1 y1 m2 y2 md f lf pp qq) := by
  refine Ct.of (by decide +kernel) (Nat.le_of_ble_eq_true rfl) ?_
  intro p e s m below meth c A ls C hW hRo hl
  have hl : lv_has ls 5 [(0, .ref a), (1, .ref n)] := hl
  refine lv_aload_n C.hx C.hb dJ8_unlink_0 rfl (lv_at hl 1 rfl) ?_
  refine k_get (v := .ref x) C clJ30 (hW.get 1 0 rfl rfl) 0 (Nat.le_of_ble_eq_true rfl) rfl q1713 rfl rfl dJ8_unlink_1 ?_
  refine lv_astore_n (lv' := [(2, .ref x), (0, .ref a), (1, .ref n)]) C.hx C.hb dJ8_unlink_4 rfl hl (Nat.le_of_ble_eq_true rfl) rfl (fun ls1 hl1 => ?_)
  clear hl
  refine lv_aload_n C.hx C.hb dJ8_unlink_5 rfl (lv_at hl1 2 rfl) ?_
  refine k_get (v := .ref m2) C clJ30 (hW.get 1 0 rfl rfl) 1 (Nat.le_of_ble_eq_true rfl) rfl q1716 rfl rfl dJ8_unlink_6 ?_
  refine lv_astore_n (lv' := [(3, .ref m2), (2, .ref x), (0, .ref a), (1, .ref n)]) C.hx C.hb dJ8_unlink_9 rfl hl1 (Nat.le_of_ble_eq_true rfl) rfl (fun ls2 hl2 => ?_)
  clear hl1
  refine lv_aload_n C.hx C.hb dJ8_unlink_10 rfl (lv_at hl2 3 rfl) ?_
  refine k_get (v := .ref m1) C clJ30 (hW.get 1 0 rfl rfl) 2 (Nat.le_of_ble_eq_true rfl) rfl q1718 rfl rfl dJ8_unlink_11 ?_
  refine lv_astore (lv' := [(4, .ref m1), (3, .ref m2), (2, .ref x), (0, .ref a), (1, .ref n)]) C.hx C.hb dJ8_unlink_14 hl2 (Nat.le_of_ble_eq_true rfl) rfl (fun ls3 hl3 => ?_)
  clear hl2
  refine lv_aload C.hx C.hb dJ8_unlink_16 (lv_at hl3 0 rfl) ?_
  refine lv_ifnonnull (tgt := 29) C.hx C.hb dJ8_unlink_18 (by decide) ?_
  refine lv_aload C.hx C.hb dJ8_unlink_29 (lv_at hl3 0 rfl) ?_
  refine lv_aload_n C.hx C.hb dJ8_unlink_31 rfl (lv_at hl3 1 rfl) ?_
  refine k_put (S' := [[(a, .inr (14, [.int md, .int (nI (k + 1)), vr f, vr lf]))], [(n, .inr (19, [.ref x, .ref m2, .ref m1]))], [(m1, .inr (19, [.ref y1, .ref m2, vr pp]))], [(m2, .inr (19, [.ref y2, vr qq, .ref n]))]]) C clJ30 hW 2 0 rfl rfl 1 (Nat.le_of_ble_eq_true rfl) rfl q1716 rfl (fun _ h => h) (Or.inl rfl) (fty := (.object "java/util/LinkedList$Node")) (v := .ref m2) (by decide +kernel) rfl rfl (Nat.le_of_ble_eq_true rfl) dJ8_unlink_32 rfl (fun H4 locs4 hW4 => ?_)
  clear hW
  refine lv_aload_n C.hx C.hb dJ8_unlink_35 rfl (lv_at hl3 4 rfl) ?_
  refine lv_null C.hx C.hb dJ8_unlink_36 ?_
  refine k_put (S' := [[(a, .inr (14, [.int md, .int (nI (k + 1)), vr f, vr lf]))], [(n, .inr (19, [.ref x, .ref m2, .null]))], [(m1, .inr (19, [.ref y1, .ref m2, vr pp]))], [(m2, .inr (19, [.ref y2, vr qq, .ref n]))]]) C clJ30 hW4 1 0 rfl rfl 2 (Nat.le_of_ble_eq_true rfl) rfl q1718 rfl (fun _ h => h) (Or.inl rfl) (fty := (.object "java/util/LinkedList$Node")) (v := .null) (by decide +kernel) rfl rfl (Nat.le_of_ble_eq_true rfl) dJ8_unlink_37 rfl (fun H5 locs5 hW5 => ?_)
  clear hW4
  refine lv_aload_n C.hx C.hb dJ8_unlink_40 rfl (lv_at hl3 1 rfl) ?_
  refine lv_ifnonnull (tgt := 53) C.hx C.hb dJ8_unlink_41 (by decide) ?_
  refine lv_aload_n C.hx C.hb dJ8_unlink_53 rfl (lv_at hl3 1 rfl) ?_
  refine lv_aload C.hx C.hb dJ8_unlink_54 (lv_at hl3 0 rfl) ?_
  refine k_put (S' := [[(a, .inr (14, [.int md, .int (nI (k + 1)), vr f, vr lf]))], [(n, .inr (19, [.ref x, .ref m2, .null]))], [(m1, .inr (19, [.ref y1, .ref m2, vr pp]))], [(m2, .inr (19, [.ref y2, vr qq, .ref m1]))]]) C clJ30 hW5 3 0 rfl rfl 2 (Nat.le_of_ble_eq_true rfl) rfl q1718 rfl (fun _ h => h) (Or.inl rfl) (fty := (.object "java/util/LinkedList$Node")) (v := .ref m1) (by decide +kernel) rfl rfl (Nat.le_of_ble_eq_true rfl) dJ8_unlink_56 rfl (fun H6 locs6 hW6 => ?_)
  clear hW5
  refine lv_aload_n C.hx C.hb dJ8_unlink_59 rfl (lv_at hl3 4 rfl) ?_
  refine lv_null C.hx C.hb dJ8_unlink_60 ?_
  refine k_put (S' := [[(a, .inr (14, [.int md, .int (nI (k + 1)), vr f, vr lf]))], [(n, .inr (19, [.ref x, .null, .null]))], [(m1, .inr (19, [.ref y1, .ref m2, vr pp]))], [(m2, .inr (19, [.ref y2, vr qq, .ref m1]))]]) C clJ30 hW6 1 0 rfl rfl 1 (Nat.le_of_ble_eq_true rfl) rfl q1716 rfl (fun _ h => h) (Or.inl rfl) (fty := (.object "java/util/LinkedList$Node")) (v := .null) (by decide +kernel) rfl rfl (Nat.le_of_ble_eq_true rfl) dJ8_unlink_61 rfl (fun H7 locs7 hW7 => ?_)
  clear hW6
  refine lv_aload_n C.hx C.hb dJ8_unlink_64 rfl (lv_at hl3 4 rfl) ?_
  refine lv_null C.hx C.hb dJ8_unlink_65 ?_
  refine k_put (S' := [[(a, .inr (14, [.int md, .int (nI (k + 1)), vr f, vr lf]))], [(n, .inr (19, [.null, .null, .null]))], [(m1, .inr (19, [.ref y1, .ref m2, vr pp]))], [(m2, .inr (19, [.ref y2, vr qq, .ref m1]))]]) C clJ30 hW7 1 0 rfl rfl 0 (Nat.le_of_ble_eq_true rfl) rfl q1713 rfl (fun _ h => h) (Or.inl rfl) (fty := (.object "java/lang/Object")) (v := .null) (by decide +kernel) rfl rfl (Nat.le_of_ble_eq_true rfl) dJ8_unlink_66 rfl (fun H8 locs8 hW8 => ?_)
  clear hW7
  refine lv_aload_n C.hx C.hb dJ8_unlink_69 rfl (lv_at hl3 3 rfl) ?_
  refine lv_dup C.hx C.hb dJ8_unlink_70 rfl ?_
  refine k_get (v := .int (nI (k + 1))) C clJ8 (hW8.get 0 0 rfl rfl) 1 (Nat.le_of_ble_eq_true rfl) rfl q263 rfl rfl dJ8_unlink_71 ?_
  refine kn_iconst (a := 1) C (by decide) dJ8_unlink_74 ?_
  refine kn_isub C (by omega) dJ8_unlink_75 ?_
  refine k_put (S' := [[(a, .inr (14, [.int md, .int (nI ((k + 1) - 1)), vr f, vr lf]))], [(n, .inr (19, [.null, .null, .null]))], [(m1, .inr (19, [.ref y1, .ref m2, vr pp]))], [(m2, .inr (19, [.ref y2, vr qq, .ref m1]))]]) C clJ8 hW8 0 0 rfl rfl 1 (Nat.le_of_ble_eq_true rfl) rfl q263 rfl (fun _ h => h) (Or.inl rfl) (fty := .int) (v := .int (nI ((k + 1) - 1))) (by decide +kernel) rfl rfl (Nat.le_of_ble_eq_true rfl) dJ8_unlink_76 rfl (fun H9 locs9 hW9 => ?_)
  clear hW8
  refine lv_aload_n C.hx C.hb dJ8_unlink_79 rfl (lv_at hl3 3 rfl) ?_
  refine lv_dup C.hx C.hb dJ8_unlink_80 rfl ?_
  refine k_getS (v := .int md) C clJ8 (hW9.get 0 0 rfl rfl) 0 (Nat.le_of_ble_eq_true rfl) rfl q161 q157 k_same rfl rfl dJ8_unlink_81 ?_
  refine kn_iconst (a := 1) C (by decide) dJ8_unlink_84 ?_
  refine lv_iadd C.hx C.hb dJ8_unlink_85 ?_
  refine k_put (S' := [[(a, .inr (14, [.int (md + (nI 1)), .int (nI ((k + 1) - 1)), vr f, vr lf]))], [(n, .inr (19, [.null, .null, .null]))], [(m1, .inr (19, [.ref y1, .ref m2, vr pp]))], [(m2, .inr (19, [.ref y2, vr qq, .ref m1]))]]) C clJ8 hW9 0 0 rfl rfl 0 (Nat.le_of_ble_eq_true rfl) rfl q161 rfl (k_same (C.hts _ q157)) (Or.inl rfl) (fty := .int) (v := .int (md + (nI 1))) (by decide +kernel) rfl rfl (Nat.le_of_ble_eq_true rfl) dJ8_unlink_86 rfl (fun H10 locs10 hW10 => ?_)
  clear hW9
  refine lv_aload_n C.hx C.hb dJ8_unlink_89 rfl (lv_at hl3 2 rfl) ?_
  have hW11 : Ws G A s [[(a, .inr (14, [.int (md + (nI 1)), .int (nI ((k + 1) - 1)), vr f, vr lf]))], [(m1, .inr (19, [.ref y1, .ref m2, vr pp]))], [(m2, .inr (19, [.ref y2, vr qq, .ref m1]))], [(n, .inr (19, [.null, .null, .null]))]] H10 locs10 := hW10.pick 4 rfl [0, 2, 3, 1] (by decide) rfl
  clear hW10
  have hW12 : Ws G A s [[(a, .inr (14, [.int (md + (nI 1)), .int (nI ((k + 1) - 1)), vr f, vr lf]))], [(m1, .inr (19, [.ref y1, .ref m2, vr pp]))], [(m2, .inr (19, [.ref y2, vr qq, .ref m1]))]] H10 locs10 := hW11.drop (S2 := [[(n, .inr (19, [.null, .null, .null]))]]) rfl
  clear hW11
  exact k_aret C hW12 rfl (Or.inl ⟨_, rfl⟩) (Or.inr ⟨_, rfl⟩) ⟨rfl, rfl⟩ (Nat.le_refl _) (Nat.le_refl _) dJ8_unlink_90
