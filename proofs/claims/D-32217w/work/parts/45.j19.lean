def Q_ctX8_asked_0 (G : GT) (a b : Nat) (t : Nat → Nat) : Option Value → List va_W → Prop := fun v S1 => v = some (.int (nI 0)) ∧ S1 = [[(a, .inr (17, [.ref b, .int (nI 0), .int (nI 3143230), .int 0]))]]
set_option maxHeartbeats 4000000 in
set_option maxRecDepth 100000 in
theorem ctX8_asked_0 (l : Launch) (G : GT) (a b : Nat) (t : Nat → Nat) (ht0 : t 0 = 102) (ht1 : t 1 = 105) (ht2 : t 2 = 114) (ht3 : t 3 = 109) : Ct l G yX8_asked cX8_asked 3 (some .int) 4 90 0 0 [.ref a] ([[(a, .inr (17, [.ref b, .int (nI 0), .int 0, .int 0]))]]) ((fun z => z = .inl (b, .inl (G.2.2.1 3, 4, .inl (fun j => nI (t j)))))) (Q_ctX8_asked_0 G a b t) := by
  refine Ct.of (by decide +kernel) (Nat.le_of_ble_eq_true rfl) ?_
  intro p e s m below meth c A ls C hW hRo hl
  have hl : lv_has ls 3 [(0, .ref a)] := hl
  refine lv_aload_n C.hx C.hb dX8_asked_0 rfl (lv_at hl 0 rfl) ?_
  refine lv_astore_n (lv' := [(1, .ref a), (0, .ref a)]) C.hx C.hb dX8_asked_1 rfl hl (Nat.le_of_ble_eq_true rfl) rfl (fun ls1 hl1 => ?_)
  clear hl
  refine lv_iconst (v := nI NONE) C.hx C.hb dX8_asked_2 (by decide) ?_
  refine lv_istore_n (lv' := [(2, .int (nI NONE)), (1, .ref a), (0, .ref a)]) C.hx C.hb dX8_asked_3 rfl hl1 (Nat.le_of_ble_eq_true rfl) rfl (fun ls2 hl2 => ?_)
  clear hl1
  refine lv_aload_n C.hx C.hb dX8_asked_4 rfl (lv_at hl2 1 rfl) ?_
  refine k_callV (Sc := [[(a, .inr (17, [.ref b, .int (nI 0), .int 0, .int 0]))]]) (Sr := []) (As := []) (rest := []) C (ctJ18_hashCode l G a b 3143230 t (by unfold hsN; rw [ht0, ht1, ht2, ht3]; decide) (by decide) (by decide)) hW clJ18 (hW.get 0 0 rfl rfl) q1173 q1174 q1175 q95 q1176 rfl rfl ⟨by decide, by decide, Eq.trans (b := some 0) (by decide +kernel) rfl⟩ (Nat.le_of_ble_eq_true rfl) (Nat.le_of_ble_eq_true rfl) (Nat.le_refl _) (Nat.le_refl _) hl2.1 rfl (Nat.le_of_ble_eq_true rfl) dX8_asked_5 ((pick_perm [[(a, .inr (17, [.ref b, .int (nI 0), .int 0, .int 0]))]] 1 rfl (is := [0]) (by decide)).flatten.symm) (fun z hz => by cases hz; exact Or.inr (Or.inr (hRo _ rfl))) (fun v H3 locs3 S1 hQ hz3 hW3 => ?_)
  obtain ⟨rfl, rfl⟩ := hQ
  have hW3 : Ws G A s ([[(a, .inr (17, [.ref b, .int (nI 0), .int (nI 3143230), .int 0]))]]) H3 locs3 := hW3
  clear hW
  refine W.eq (g2 := F0 m 8 ls2 [.int (nI 3143230)]) rfl ?_
  refine lv_lookup (x := nI 3143230) (off := 75) (tgt := 83) C.hx C.hb dX8_asked_8 (by decide) (by decide) (by decide) ?_
  refine lv_iload_n C.hx C.hb dX8_asked_83 rfl (lv_at hl2 0 rfl) ?_
  refine lv_tableOut (x := nI NONE) (tgt := 124) C.hx C.hb dX8_asked_84 (by decide) (by decide) ?_
  refine kn_iconst (a := 0) C (by decide) dX8_asked_124 ?_
  exact k_iret C hW3 rfl ⟨rfl, rfl⟩ (Nat.le_refl _) (Nat.le_refl _) dX8_asked_125

def Q_ctX8_asked_1 (G : GT) (a b : Nat) (t : Nat → Nat) : Option Value → List va_W → Prop := fun v S1 => v = some (.int (nI 1)) ∧ S1 = [[(a, .inr (17, [.ref b, .int (nI 0), .int (nI 3535914), .int 0]))]]
set_option maxHeartbeats 4000000 in
set_option maxRecDepth 100000 in
theorem ctX8_asked_1 (l : Launch) (G : GT) (a b : Nat) (t : Nat → Nat) (ht0 : t 0 = 115) (ht1 : t 1 = 111) (ht2 : t 2 = 102) (ht3 : t 3 = 116) : Ct l G yX8_asked cX8_asked 3 (some .int) 4 90 0 0 [.ref a] ([[(a, .inr (17, [.ref b, .int (nI 0), .int 0, .int 0]))]]) ((fun z => z = .inl (b, .inl (G.2.2.1 3, 4, .inl (fun j => nI (t j)))))) (Q_ctX8_asked_1 G a b t) := by
  refine Ct.of (by decide +kernel) (Nat.le_of_ble_eq_true rfl) ?_
  intro p e s m below meth c A ls C hW hRo hl
  have hl : lv_has ls 3 [(0, .ref a)] := hl
  refine lv_aload_n C.hx C.hb dX8_asked_0 rfl (lv_at hl 0 rfl) ?_
  refine lv_astore_n (lv' := [(1, .ref a), (0, .ref a)]) C.hx C.hb dX8_asked_1 rfl hl (Nat.le_of_ble_eq_true rfl) rfl (fun ls1 hl1 => ?_)
  clear hl
  refine lv_iconst (v := nI NONE) C.hx C.hb dX8_asked_2 (by decide) ?_
  refine lv_istore_n (lv' := [(2, .int (nI NONE)), (1, .ref a), (0, .ref a)]) C.hx C.hb dX8_asked_3 rfl hl1 (Nat.le_of_ble_eq_true rfl) rfl (fun ls2 hl2 => ?_)
  clear hl1
  refine lv_aload_n C.hx C.hb dX8_asked_4 rfl (lv_at hl2 1 rfl) ?_
  refine k_callV (Sc := [[(a, .inr (17, [.ref b, .int (nI 0), .int 0, .int 0]))]]) (Sr := []) (As := []) (rest := []) C (ctJ18_hashCode l G a b 3535914 t (by unfold hsN; rw [ht0, ht1, ht2, ht3]; decide) (by decide) (by decide)) hW clJ18 (hW.get 0 0 rfl rfl) q1173 q1174 q1175 q95 q1176 rfl rfl ⟨by decide, by decide, Eq.trans (b := some 0) (by decide +kernel) rfl⟩ (Nat.le_of_ble_eq_true rfl) (Nat.le_of_ble_eq_true rfl) (Nat.le_refl _) (Nat.le_refl _) hl2.1 rfl (Nat.le_of_ble_eq_true rfl) dX8_asked_5 ((pick_perm [[(a, .inr (17, [.ref b, .int (nI 0), .int 0, .int 0]))]] 1 rfl (is := [0]) (by decide)).flatten.symm) (fun z hz => by cases hz; exact Or.inr (Or.inr (hRo _ rfl))) (fun v H3 locs3 S1 hQ hz3 hW3 => ?_)
  obtain ⟨rfl, rfl⟩ := hQ
  have hW3 : Ws G A s ([[(a, .inr (17, [.ref b, .int (nI 0), .int (nI 3535914), .int 0]))]]) H3 locs3 := hW3
  clear hW
  refine W.eq (g2 := F0 m 8 ls2 [.int (nI 3535914)]) rfl ?_
  refine lv_lookup (x := nI 3535914) (off := 36) (tgt := 44) C.hx C.hb dX8_asked_8 (by decide) (by decide) (by decide) ?_
  refine lv_aload_n C.hx C.hb dX8_asked_44 rfl (lv_at hl2 1 rfl) ?_
  refine k_ldcS C (List.mem_of_getElem? (i := 2) rfl) rfl dX8_asked_45 ?_
  refine k_callV (Sc := []) (Sr := [[(a, .inr (17, [.ref b, .int (nI 0), .int (nI 3535914), .int 0]))]]) (As := [.ref (G.2.2.2 12)]) (rest := []) C (ctJ18_equals l G a b (G.2.2.2 12) (G.2.2.2 22) (nI 3535914) 0 (kHs 2) (kHz 2) t (txN 2) (fun j hj => by match j, hj with | 0, _ => rw [ht0]; decide | 1, _ => rw [ht1]; decide | 2, _ => rw [ht2]; decide | 3, _ => rw [ht3]; decide) (fun j _ => kTx_lt 2 j) (fun j hj => by match j, hj with | 0, _ => rw [ht0]; decide | 1, _ => rw [ht1]; decide | 2, _ => rw [ht2]; decide | 3, _ => rw [ht3]; decide)) hW3 clJ18 (hW3.get 0 0 rfl rfl) q1231 q1232 q1233 q95 q1234 rfl rfl ⟨by decide, by decide, Eq.trans (b := some 1) (by decide +kernel) rfl⟩ (Nat.le_of_ble_eq_true rfl) (Nat.le_of_ble_eq_true rfl) (Nat.le_refl _) (Nat.le_refl _) hl2.1 rfl (Nat.le_of_ble_eq_true rfl) dX8_asked_47 (k_permR _) (fun z => (fun hz => hz.elim (fun e => by cases e; exact Or.inl ⟨_, rfl, seg_mem (i := 0) (j := 0) rfl rfl⟩) (fun hz => hz.elim (fun e => by cases e; exact Or.inr (Or.inr (hRo _ rfl))) (fun hz => hz.elim (fun e => by cases e; exact Or.inr (Or.inr (Ro_str C.hX hW3.2.2.2.2 2 (by decide)))) (fun e => by cases e; exact Or.inr (Or.inr (Ro_txt C.hX hW3.2.2.2.2 2 (by decide)))))))) (fun v H4 locs4 S1 hQ hz4 hW4 => ?_)
  obtain ⟨rfl, rfl⟩ := hQ
  have hW4 : Ws G A s ([[(a, .inr (17, [.ref b, .int (nI 0), .int (nI 3535914), .int 0]))]]) H4 locs4 := hW4
  clear hW3
  refine W.eq (g2 := F0 m 50 ls2 [.int (nI 1)]) rfl ?_
  refine kn_if_eq (tgt := 83) C (by decide) dX8_asked_50 (by decide) (fun cq => absurd cq (by decide)) (fun cq => ?_)
  refine kn_iconst (a := 0) C (by decide) dX8_asked_53 ?_
  refine lv_istore_n (lv' := [(2, .int (nI 0)), (1, .ref a), (0, .ref a)]) C.hx C.hb dX8_asked_54 rfl hl2 (Nat.le_of_ble_eq_true rfl) rfl (fun ls5 hl5 => ?_)
  clear hl2
  refine lv_goto (tgt := 83) C.hx C.hb dX8_asked_55 (by decide) ?_
  refine lv_iload_n C.hx C.hb dX8_asked_83 rfl (lv_at hl5 0 rfl) ?_
  refine lv_tableIn (x := nI 0) (off := 28) (tgt := 112) C.hx C.hb dX8_asked_84 (by decide) (by decide) (by decide) (by decide) ?_
  refine kn_iconst (a := 1) C (by decide) dX8_asked_112 ?_
  refine lv_goto (tgt := 125) C.hx C.hb dX8_asked_113 (by decide) ?_
  exact k_iret C hW4 rfl ⟨rfl, rfl⟩ (Nat.le_refl _) (Nat.le_refl _) dX8_asked_125

def Q_ctX8_asked_2 (G : GT) (a b : Nat) (t : Nat → Nat) : Option Value → List va_W → Prop := fun v S1 => v = some (.int (nI 2)) ∧ S1 = [[(a, .inr (17, [.ref b, .int (nI 0), .int (nI 3079404), .int 0]))]]
set_option maxHeartbeats 4000000 in
set_option maxRecDepth 100000 in
theorem ctX8_asked_2 (l : Launch) (G : GT) (a b : Nat) (t : Nat → Nat) (ht0 : t 0 = 100) (ht1 : t 1 = 101) (ht2 : t 2 = 101) (ht3 : t 3 = 112) : Ct l G yX8_asked cX8_asked 3 (some .int) 4 90 0 0 [.ref a] ([[(a, .inr (17, [.ref b, .int (nI 0), .int 0, .int 0]))]]) ((fun z => z = .inl (b, .inl (G.2.2.1 3, 4, .inl (fun j => nI (t j)))))) (Q_ctX8_asked_2 G a b t) := by
  refine Ct.of (by decide +kernel) (Nat.le_of_ble_eq_true rfl) ?_
  intro p e s m below meth c A ls C hW hRo hl
  have hl : lv_has ls 3 [(0, .ref a)] := hl
  refine lv_aload_n C.hx C.hb dX8_asked_0 rfl (lv_at hl 0 rfl) ?_
  refine lv_astore_n (lv' := [(1, .ref a), (0, .ref a)]) C.hx C.hb dX8_asked_1 rfl hl (Nat.le_of_ble_eq_true rfl) rfl (fun ls1 hl1 => ?_)
  clear hl
  refine lv_iconst (v := nI NONE) C.hx C.hb dX8_asked_2 (by decide) ?_
  refine lv_istore_n (lv' := [(2, .int (nI NONE)), (1, .ref a), (0, .ref a)]) C.hx C.hb dX8_asked_3 rfl hl1 (Nat.le_of_ble_eq_true rfl) rfl (fun ls2 hl2 => ?_)
  clear hl1
  refine lv_aload_n C.hx C.hb dX8_asked_4 rfl (lv_at hl2 1 rfl) ?_
  refine k_callV (Sc := [[(a, .inr (17, [.ref b, .int (nI 0), .int 0, .int 0]))]]) (Sr := []) (As := []) (rest := []) C (ctJ18_hashCode l G a b 3079404 t (by unfold hsN; rw [ht0, ht1, ht2, ht3]; decide) (by decide) (by decide)) hW clJ18 (hW.get 0 0 rfl rfl) q1173 q1174 q1175 q95 q1176 rfl rfl ⟨by decide, by decide, Eq.trans (b := some 0) (by decide +kernel) rfl⟩ (Nat.le_of_ble_eq_true rfl) (Nat.le_of_ble_eq_true rfl) (Nat.le_refl _) (Nat.le_refl _) hl2.1 rfl (Nat.le_of_ble_eq_true rfl) dX8_asked_5 ((pick_perm [[(a, .inr (17, [.ref b, .int (nI 0), .int 0, .int 0]))]] 1 rfl (is := [0]) (by decide)).flatten.symm) (fun z hz => by cases hz; exact Or.inr (Or.inr (hRo _ rfl))) (fun v H3 locs3 S1 hQ hz3 hW3 => ?_)
  obtain ⟨rfl, rfl⟩ := hQ
  have hW3 : Ws G A s ([[(a, .inr (17, [.ref b, .int (nI 0), .int (nI 3079404), .int 0]))]]) H3 locs3 := hW3
  clear hW
  refine W.eq (g2 := F0 m 8 ls2 [.int (nI 3079404)]) rfl ?_
  refine lv_lookup (x := nI 3079404) (off := 50) (tgt := 58) C.hx C.hb dX8_asked_8 (by decide) (by decide) (by decide) ?_
  refine lv_aload_n C.hx C.hb dX8_asked_58 rfl (lv_at hl2 1 rfl) ?_
  refine k_ldcS C (List.mem_of_getElem? (i := 3) rfl) rfl dX8_asked_59 ?_
  refine k_callV (Sc := []) (Sr := [[(a, .inr (17, [.ref b, .int (nI 0), .int (nI 3079404), .int 0]))]]) (As := [.ref (G.2.2.2 13)]) (rest := []) C (ctJ18_equals l G a b (G.2.2.2 13) (G.2.2.2 23) (nI 3079404) 0 (kHs 3) (kHz 3) t (txN 3) (fun j hj => by match j, hj with | 0, _ => rw [ht0]; decide | 1, _ => rw [ht1]; decide | 2, _ => rw [ht2]; decide | 3, _ => rw [ht3]; decide) (fun j _ => kTx_lt 3 j) (fun j hj => by match j, hj with | 0, _ => rw [ht0]; decide | 1, _ => rw [ht1]; decide | 2, _ => rw [ht2]; decide | 3, _ => rw [ht3]; decide)) hW3 clJ18 (hW3.get 0 0 rfl rfl) q1231 q1232 q1233 q95 q1234 rfl rfl ⟨by decide, by decide, Eq.trans (b := some 1) (by decide +kernel) rfl⟩ (Nat.le_of_ble_eq_true rfl) (Nat.le_of_ble_eq_true rfl) (Nat.le_refl _) (Nat.le_refl _) hl2.1 rfl (Nat.le_of_ble_eq_true rfl) dX8_asked_61 (k_permR _) (fun z => (fun hz => hz.elim (fun e => by cases e; exact Or.inl ⟨_, rfl, seg_mem (i := 0) (j := 0) rfl rfl⟩) (fun hz => hz.elim (fun e => by cases e; exact Or.inr (Or.inr (hRo _ rfl))) (fun hz => hz.elim (fun e => by cases e; exact Or.inr (Or.inr (Ro_str C.hX hW3.2.2.2.2 3 (by decide)))) (fun e => by cases e; exact Or.inr (Or.inr (Ro_txt C.hX hW3.2.2.2.2 3 (by decide)))))))) (fun v H4 locs4 S1 hQ hz4 hW4 => ?_)
  obtain ⟨rfl, rfl⟩ := hQ
  have hW4 : Ws G A s ([[(a, .inr (17, [.ref b, .int (nI 0), .int (nI 3079404), .int 0]))]]) H4 locs4 := hW4
  clear hW3
  refine W.eq (g2 := F0 m 64 ls2 [.int (nI 1)]) rfl ?_
  refine kn_if_eq (tgt := 83) C (by decide) dX8_asked_64 (by decide) (fun cq => absurd cq (by decide)) (fun cq => ?_)
  refine kn_iconst (a := 1) C (by decide) dX8_asked_67 ?_
  refine lv_istore_n (lv' := [(2, .int (nI 1)), (1, .ref a), (0, .ref a)]) C.hx C.hb dX8_asked_68 rfl hl2 (Nat.le_of_ble_eq_true rfl) rfl (fun ls5 hl5 => ?_)
  clear hl2
  refine lv_goto (tgt := 83) C.hx C.hb dX8_asked_69 (by decide) ?_
  refine lv_iload_n C.hx C.hb dX8_asked_83 rfl (lv_at hl5 0 rfl) ?_
  refine lv_tableIn (x := nI 1) (off := 32) (tgt := 116) C.hx C.hb dX8_asked_84 (by decide) (by decide) (by decide) (by decide) ?_
  refine kn_iconst (a := 2) C (by decide) dX8_asked_116 ?_
  refine lv_goto (tgt := 125) C.hx C.hb dX8_asked_117 (by decide) ?_
  exact k_iret C hW4 rfl ⟨rfl, rfl⟩ (Nat.le_refl _) (Nat.le_refl _) dX8_asked_125

def Q_ctX8_asked_3 (G : GT) (a b : Nat) (t : Nat → Nat) : Option Value → List va_W → Prop := fun v S1 => v = some (.int (nI 4)) ∧ S1 = [[(a, .inr (17, [.ref b, .int (nI 0), .int (nI 3178655), .int 0]))]]
set_option maxHeartbeats 4000000 in
set_option maxRecDepth 100000 in
theorem ctX8_asked_3 (l : Launch) (G : GT) (a b : Nat) (t : Nat → Nat) (ht0 : t 0 = 103) (ht1 : t 1 = 111) (ht2 : t 2 = 110) (ht3 : t 3 = 101) : Ct l G yX8_asked cX8_asked 3 (some .int) 4 90 0 0 [.ref a] ([[(a, .inr (17, [.ref b, .int (nI 0), .int 0, .int 0]))]]) ((fun z => z = .inl (b, .inl (G.2.2.1 3, 4, .inl (fun j => nI (t j)))))) (Q_ctX8_asked_3 G a b t) := by
  refine Ct.of (by decide +kernel) (Nat.le_of_ble_eq_true rfl) ?_
  intro p e s m below meth c A ls C hW hRo hl
  have hl : lv_has ls 3 [(0, .ref a)] := hl
  refine lv_aload_n C.hx C.hb dX8_asked_0 rfl (lv_at hl 0 rfl) ?_
  refine lv_astore_n (lv' := [(1, .ref a), (0, .ref a)]) C.hx C.hb dX8_asked_1 rfl hl (Nat.le_of_ble_eq_true rfl) rfl (fun ls1 hl1 => ?_)
  clear hl
  refine lv_iconst (v := nI NONE) C.hx C.hb dX8_asked_2 (by decide) ?_
  refine lv_istore_n (lv' := [(2, .int (nI NONE)), (1, .ref a), (0, .ref a)]) C.hx C.hb dX8_asked_3 rfl hl1 (Nat.le_of_ble_eq_true rfl) rfl (fun ls2 hl2 => ?_)
  clear hl1
  refine lv_aload_n C.hx C.hb dX8_asked_4 rfl (lv_at hl2 1 rfl) ?_
  refine k_callV (Sc := [[(a, .inr (17, [.ref b, .int (nI 0), .int 0, .int 0]))]]) (Sr := []) (As := []) (rest := []) C (ctJ18_hashCode l G a b 3178655 t (by unfold hsN; rw [ht0, ht1, ht2, ht3]; decide) (by decide) (by decide)) hW clJ18 (hW.get 0 0 rfl rfl) q1173 q1174 q1175 q95 q1176 rfl rfl ⟨by decide, by decide, Eq.trans (b := some 0) (by decide +kernel) rfl⟩ (Nat.le_of_ble_eq_true rfl) (Nat.le_of_ble_eq_true rfl) (Nat.le_refl _) (Nat.le_refl _) hl2.1 rfl (Nat.le_of_ble_eq_true rfl) dX8_asked_5 ((pick_perm [[(a, .inr (17, [.ref b, .int (nI 0), .int 0, .int 0]))]] 1 rfl (is := [0]) (by decide)).flatten.symm) (fun z hz => by cases hz; exact Or.inr (Or.inr (hRo _ rfl))) (fun v H3 locs3 S1 hQ hz3 hW3 => ?_)
  obtain ⟨rfl, rfl⟩ := hQ
  have hW3 : Ws G A s ([[(a, .inr (17, [.ref b, .int (nI 0), .int (nI 3178655), .int 0]))]]) H3 locs3 := hW3
  clear hW
  refine W.eq (g2 := F0 m 8 ls2 [.int (nI 3178655)]) rfl ?_
  refine lv_lookup (x := nI 3178655) (off := 64) (tgt := 72) C.hx C.hb dX8_asked_8 (by decide) (by decide) (by decide) ?_
  refine lv_aload_n C.hx C.hb dX8_asked_72 rfl (lv_at hl2 1 rfl) ?_
  refine k_ldcS C (List.mem_of_getElem? (i := 4) rfl) rfl dX8_asked_73 ?_
  refine k_callV (Sc := []) (Sr := [[(a, .inr (17, [.ref b, .int (nI 0), .int (nI 3178655), .int 0]))]]) (As := [.ref (G.2.2.2 14)]) (rest := []) C (ctJ18_equals l G a b (G.2.2.2 14) (G.2.2.2 24) (nI 3178655) 0 (kHs 4) (kHz 4) t (txN 4) (fun j hj => by match j, hj with | 0, _ => rw [ht0]; decide | 1, _ => rw [ht1]; decide | 2, _ => rw [ht2]; decide | 3, _ => rw [ht3]; decide) (fun j _ => kTx_lt 4 j) (fun j hj => by match j, hj with | 0, _ => rw [ht0]; decide | 1, _ => rw [ht1]; decide | 2, _ => rw [ht2]; decide | 3, _ => rw [ht3]; decide)) hW3 clJ18 (hW3.get 0 0 rfl rfl) q1231 q1232 q1233 q95 q1234 rfl rfl ⟨by decide, by decide, Eq.trans (b := some 1) (by decide +kernel) rfl⟩ (Nat.le_of_ble_eq_true rfl) (Nat.le_of_ble_eq_true rfl) (Nat.le_refl _) (Nat.le_refl _) hl2.1 rfl (Nat.le_of_ble_eq_true rfl) dX8_asked_75 (k_permR _) (fun z => (fun hz => hz.elim (fun e => by cases e; exact Or.inl ⟨_, rfl, seg_mem (i := 0) (j := 0) rfl rfl⟩) (fun hz => hz.elim (fun e => by cases e; exact Or.inr (Or.inr (hRo _ rfl))) (fun hz => hz.elim (fun e => by cases e; exact Or.inr (Or.inr (Ro_str C.hX hW3.2.2.2.2 4 (by decide)))) (fun e => by cases e; exact Or.inr (Or.inr (Ro_txt C.hX hW3.2.2.2.2 4 (by decide)))))))) (fun v H4 locs4 S1 hQ hz4 hW4 => ?_)
  obtain ⟨rfl, rfl⟩ := hQ
  have hW4 : Ws G A s ([[(a, .inr (17, [.ref b, .int (nI 0), .int (nI 3178655), .int 0]))]]) H4 locs4 := hW4
  clear hW3
  refine W.eq (g2 := F0 m 78 ls2 [.int (nI 1)]) rfl ?_
  refine kn_if_eq (tgt := 83) C (by decide) dX8_asked_78 (by decide) (fun cq => absurd cq (by decide)) (fun cq => ?_)
  refine kn_iconst (a := 2) C (by decide) dX8_asked_81 ?_
  refine lv_istore_n (lv' := [(2, .int (nI 2)), (1, .ref a), (0, .ref a)]) C.hx C.hb dX8_asked_82 rfl hl2 (Nat.le_of_ble_eq_true rfl) rfl (fun ls5 hl5 => ?_)
  clear hl2
  refine lv_iload_n C.hx C.hb dX8_asked_83 rfl (lv_at hl5 0 rfl) ?_
  refine lv_tableIn (x := nI 2) (off := 36) (tgt := 120) C.hx C.hb dX8_asked_84 (by decide) (by decide) (by decide) (by decide) ?_
  refine kn_iconst (a := 4) C (by decide) dX8_asked_120 ?_
  refine lv_goto (tgt := 125) C.hx C.hb dX8_asked_121 (by decide) ?_
  exact k_iret C hW4 rfl ⟨rfl, rfl⟩ (Nat.le_refl _) (Nat.le_refl _) dX8_asked_125

def Q_ctX8_plain_0 (G : GT) (a b : Nat) (t : Nat → Nat) : Option Value → List va_W → Prop := fun v S1 => v = some (.int (nI 0)) ∧ S1 = [[(a, .inr (17, [.ref b, .int (nI 0), .int (nI 3143230), .int 0]))]]
set_option maxHeartbeats 4000000 in
set_option maxRecDepth 100000 in
theorem ctX8_plain_0 (l : Launch) (G : GT) (a b : Nat) (t : Nat → Nat) (ht0 : t 0 = 102) (ht1 : t 1 = 105) (ht2 : t 2 = 114) (ht3 : t 3 = 109) : Ct l G yX8_plain cX8_plain 3 (some .int) 4 90 0 0 [.ref a] ([[(a, .inr (17, [.ref b, .int (nI 0), .int 0, .int 0]))]]) ((fun z => z = .inl (b, .inl (G.2.2.1 3, 4, .inl (fun j => nI (t j)))))) (Q_ctX8_plain_0 G a b t) := by
  refine Ct.of (by decide +kernel) (Nat.le_of_ble_eq_true rfl) ?_
  intro p e s m below meth c A ls C hW hRo hl
  have hl : lv_has ls 3 [(0, .ref a)] := hl
  refine lv_aload_n C.hx C.hb dX8_plain_0 rfl (lv_at hl 0 rfl) ?_
  refine lv_astore_n (lv' := [(1, .ref a), (0, .ref a)]) C.hx C.hb dX8_plain_1 rfl hl (Nat.le_of_ble_eq_true rfl) rfl (fun ls1 hl1 => ?_)
  clear hl
  refine lv_iconst (v := nI NONE) C.hx C.hb dX8_plain_2 (by decide) ?_
  refine lv_istore_n (lv' := [(2, .int (nI NONE)), (1, .ref a), (0, .ref a)]) C.hx C.hb dX8_plain_3 rfl hl1 (Nat.le_of_ble_eq_true rfl) rfl (fun ls2 hl2 => ?_)
  clear hl1
  refine lv_aload_n C.hx C.hb dX8_plain_4 rfl (lv_at hl2 1 rfl) ?_
  refine k_callV (Sc := [[(a, .inr (17, [.ref b, .int (nI 0), .int 0, .int 0]))]]) (Sr := []) (As := []) (rest := []) C (ctJ18_hashCode l G a b 3143230 t (by unfold hsN; rw [ht0, ht1, ht2, ht3]; decide) (by decide) (by decide)) hW clJ18 (hW.get 0 0 rfl rfl) q1173 q1174 q1175 q95 q1176 rfl rfl ⟨by decide, by decide, Eq.trans (b := some 0) (by decide +kernel) rfl⟩ (Nat.le_of_ble_eq_true rfl) (Nat.le_of_ble_eq_true rfl) (Nat.le_refl _) (Nat.le_refl _) hl2.1 rfl (Nat.le_of_ble_eq_true rfl) dX8_plain_5 ((pick_perm [[(a, .inr (17, [.ref b, .int (nI 0), .int 0, .int 0]))]] 1 rfl (is := [0]) (by decide)).flatten.symm) (fun z hz => by cases hz; exact Or.inr (Or.inr (hRo _ rfl))) (fun v H3 locs3 S1 hQ hz3 hW3 => ?_)
  obtain ⟨rfl, rfl⟩ := hQ
  have hW3 : Ws G A s ([[(a, .inr (17, [.ref b, .int (nI 0), .int (nI 3143230), .int 0]))]]) H3 locs3 := hW3
  clear hW
  refine W.eq (g2 := F0 m 8 ls2 [.int (nI 3143230)]) rfl ?_
  refine lv_lookup (x := nI 3143230) (off := 75) (tgt := 83) C.hx C.hb dX8_plain_8 (by decide) (by decide) (by decide) ?_
  refine lv_iload_n C.hx C.hb dX8_plain_83 rfl (lv_at hl2 0 rfl) ?_
  refine lv_tableOut (x := nI NONE) (tgt := 129) C.hx C.hb dX8_plain_84 (by decide) (by decide) ?_
  refine kn_iconst (a := 0) C (by decide) dX8_plain_129 ?_
  exact k_iret C hW3 rfl ⟨rfl, rfl⟩ (Nat.le_refl _) (Nat.le_refl _) dX8_plain_130

def Q_ctX8_plain_1 (G : GT) (a b : Nat) (t : Nat → Nat) : Option Value → List va_W → Prop := fun v S1 => v = some (.int (nI 100)) ∧ S1 = [[(a, .inr (17, [.ref b, .int (nI 0), .int (nI 3535914), .int 0]))]]
set_option maxHeartbeats 4000000 in
set_option maxRecDepth 100000 in
theorem ctX8_plain_1 (l : Launch) (G : GT) (a b : Nat) (t : Nat → Nat) (ht0 : t 0 = 115) (ht1 : t 1 = 111) (ht2 : t 2 = 102) (ht3 : t 3 = 116) : Ct l G yX8_plain cX8_plain 3 (some .int) 4 90 0 0 [.ref a] ([[(a, .inr (17, [.ref b, .int (nI 0), .int 0, .int 0]))]]) ((fun z => z = .inl (b, .inl (G.2.2.1 3, 4, .inl (fun j => nI (t j)))))) (Q_ctX8_plain_1 G a b t) := by
  refine Ct.of (by decide +kernel) (Nat.le_of_ble_eq_true rfl) ?_
  intro p e s m below meth c A ls C hW hRo hl
  have hl : lv_has ls 3 [(0, .ref a)] := hl
  refine lv_aload_n C.hx C.hb dX8_plain_0 rfl (lv_at hl 0 rfl) ?_
  refine lv_astore_n (lv' := [(1, .ref a), (0, .ref a)]) C.hx C.hb dX8_plain_1 rfl hl (Nat.le_of_ble_eq_true rfl) rfl (fun ls1 hl1 => ?_)
  clear hl
  refine lv_iconst (v := nI NONE) C.hx C.hb dX8_plain_2 (by decide) ?_
  refine lv_istore_n (lv' := [(2, .int (nI NONE)), (1, .ref a), (0, .ref a)]) C.hx C.hb dX8_plain_3 rfl hl1 (Nat.le_of_ble_eq_true rfl) rfl (fun ls2 hl2 => ?_)
  clear hl1
  refine lv_aload_n C.hx C.hb dX8_plain_4 rfl (lv_at hl2 1 rfl) ?_
  refine k_callV (Sc := [[(a, .inr (17, [.ref b, .int (nI 0), .int 0, .int 0]))]]) (Sr := []) (As := []) (rest := []) C (ctJ18_hashCode l G a b 3535914 t (by unfold hsN; rw [ht0, ht1, ht2, ht3]; decide) (by decide) (by decide)) hW clJ18 (hW.get 0 0 rfl rfl) q1173 q1174 q1175 q95 q1176 rfl rfl ⟨by decide, by decide, Eq.trans (b := some 0) (by decide +kernel) rfl⟩ (Nat.le_of_ble_eq_true rfl) (Nat.le_of_ble_eq_true rfl) (Nat.le_refl _) (Nat.le_refl _) hl2.1 rfl (Nat.le_of_ble_eq_true rfl) dX8_plain_5 ((pick_perm [[(a, .inr (17, [.ref b, .int (nI 0), .int 0, .int 0]))]] 1 rfl (is := [0]) (by decide)).flatten.symm) (fun z hz => by cases hz; exact Or.inr (Or.inr (hRo _ rfl))) (fun v H3 locs3 S1 hQ hz3 hW3 => ?_)
  obtain ⟨rfl, rfl⟩ := hQ
  have hW3 : Ws G A s ([[(a, .inr (17, [.ref b, .int (nI 0), .int (nI 3535914), .int 0]))]]) H3 locs3 := hW3
  clear hW
  refine W.eq (g2 := F0 m 8 ls2 [.int (nI 3535914)]) rfl ?_
  refine lv_lookup (x := nI 3535914) (off := 36) (tgt := 44) C.hx C.hb dX8_plain_8 (by decide) (by decide) (by decide) ?_
  refine lv_aload_n C.hx C.hb dX8_plain_44 rfl (lv_at hl2 1 rfl) ?_
  refine k_ldcS C (List.mem_of_getElem? (i := 2) rfl) rfl dX8_plain_45 ?_
  refine k_callV (Sc := []) (Sr := [[(a, .inr (17, [.ref b, .int (nI 0), .int (nI 3535914), .int 0]))]]) (As := [.ref (G.2.2.2 12)]) (rest := []) C (ctJ18_equals l G a b (G.2.2.2 12) (G.2.2.2 22) (nI 3535914) 0 (kHs 2) (kHz 2) t (txN 2) (fun j hj => by match j, hj with | 0, _ => rw [ht0]; decide | 1, _ => rw [ht1]; decide | 2, _ => rw [ht2]; decide | 3, _ => rw [ht3]; decide) (fun j _ => kTx_lt 2 j) (fun j hj => by match j, hj with | 0, _ => rw [ht0]; decide | 1, _ => rw [ht1]; decide | 2, _ => rw [ht2]; decide | 3, _ => rw [ht3]; decide)) hW3 clJ18 (hW3.get 0 0 rfl rfl) q1231 q1232 q1233 q95 q1234 rfl rfl ⟨by decide, by decide, Eq.trans (b := some 1) (by decide +kernel) rfl⟩ (Nat.le_of_ble_eq_true rfl) (Nat.le_of_ble_eq_true rfl) (Nat.le_refl _) (Nat.le_refl _) hl2.1 rfl (Nat.le_of_ble_eq_true rfl) dX8_plain_47 (k_permR _) (fun z => (fun hz => hz.elim (fun e => by cases e; exact Or.inl ⟨_, rfl, seg_mem (i := 0) (j := 0) rfl rfl⟩) (fun hz => hz.elim (fun e => by cases e; exact Or.inr (Or.inr (hRo _ rfl))) (fun hz => hz.elim (fun e => by cases e; exact Or.inr (Or.inr (Ro_str C.hX hW3.2.2.2.2 2 (by decide)))) (fun e => by cases e; exact Or.inr (Or.inr (Ro_txt C.hX hW3.2.2.2.2 2 (by decide)))))))) (fun v H4 locs4 S1 hQ hz4 hW4 => ?_)
  obtain ⟨rfl, rfl⟩ := hQ
  have hW4 : Ws G A s ([[(a, .inr (17, [.ref b, .int (nI 0), .int (nI 3535914), .int 0]))]]) H4 locs4 := hW4
  clear hW3
  refine W.eq (g2 := F0 m 50 ls2 [.int (nI 1)]) rfl ?_
  refine kn_if_eq (tgt := 83) C (by decide) dX8_plain_50 (by decide) (fun cq => absurd cq (by decide)) (fun cq => ?_)
  refine kn_iconst (a := 0) C (by decide) dX8_plain_53 ?_
  refine lv_istore_n (lv' := [(2, .int (nI 0)), (1, .ref a), (0, .ref a)]) C.hx C.hb dX8_plain_54 rfl hl2 (Nat.le_of_ble_eq_true rfl) rfl (fun ls5 hl5 => ?_)
  clear hl2
  refine lv_goto (tgt := 83) C.hx C.hb dX8_plain_55 (by decide) ?_
  refine lv_iload_n C.hx C.hb dX8_plain_83 rfl (lv_at hl5 0 rfl) ?_
  refine lv_tableIn (x := nI 0) (off := 28) (tgt := 112) C.hx C.hb dX8_plain_84 (by decide) (by decide) (by decide) (by decide) ?_
  refine kn_bipush (a := 100) C (by decide) dX8_plain_112 ?_
  refine lv_goto (tgt := 130) C.hx C.hb dX8_plain_114 (by decide) ?_
  exact k_iret C hW4 rfl ⟨rfl, rfl⟩ (Nat.le_refl _) (Nat.le_refl _) dX8_plain_130

def Q_ctX8_plain_2 (G : GT) (a b : Nat) (t : Nat → Nat) : Option Value → List va_W → Prop := fun v S1 => v = some (.int (nI 300)) ∧ S1 = [[(a, .inr (17, [.ref b, .int (nI 0), .int (nI 3079404), .int 0]))]]
set_option maxHeartbeats 4000000 in
set_option maxRecDepth 100000 in
theorem ctX8_plain_2 (l : Launch) (G : GT) (a b : Nat) (t : Nat → Nat) (ht0 : t 0 = 100) (ht1 : t 1 = 101) (ht2 : t 2 = 101) (ht3 : t 3 = 112) : Ct l G yX8_plain cX8_plain 3 (some .int) 4 90 0 0 [.ref a] ([[(a, .inr (17, [.ref b, .int (nI 0), .int 0, .int 0]))]]) ((fun z => z = .inl (b, .inl (G.2.2.1 3, 4, .inl (fun j => nI (t j)))))) (Q_ctX8_plain_2 G a b t) := by
  refine Ct.of (by decide +kernel) (Nat.le_of_ble_eq_true rfl) ?_
  intro p e s m below meth c A ls C hW hRo hl
  have hl : lv_has ls 3 [(0, .ref a)] := hl
  refine lv_aload_n C.hx C.hb dX8_plain_0 rfl (lv_at hl 0 rfl) ?_
  refine lv_astore_n (lv' := [(1, .ref a), (0, .ref a)]) C.hx C.hb dX8_plain_1 rfl hl (Nat.le_of_ble_eq_true rfl) rfl (fun ls1 hl1 => ?_)
  clear hl
  refine lv_iconst (v := nI NONE) C.hx C.hb dX8_plain_2 (by decide) ?_
  refine lv_istore_n (lv' := [(2, .int (nI NONE)), (1, .ref a), (0, .ref a)]) C.hx C.hb dX8_plain_3 rfl hl1 (Nat.le_of_ble_eq_true rfl) rfl (fun ls2 hl2 => ?_)
  clear hl1
  refine lv_aload_n C.hx C.hb dX8_plain_4 rfl (lv_at hl2 1 rfl) ?_
  refine k_callV (Sc := [[(a, .inr (17, [.ref b, .int (nI 0), .int 0, .int 0]))]]) (Sr := []) (As := []) (rest := []) C (ctJ18_hashCode l G a b 3079404 t (by unfold hsN; rw [ht0, ht1, ht2, ht3]; decide) (by decide) (by decide)) hW clJ18 (hW.get 0 0 rfl rfl) q1173 q1174 q1175 q95 q1176 rfl rfl ⟨by decide, by decide, Eq.trans (b := some 0) (by decide +kernel) rfl⟩ (Nat.le_of_ble_eq_true rfl) (Nat.le_of_ble_eq_true rfl) (Nat.le_refl _) (Nat.le_refl _) hl2.1 rfl (Nat.le_of_ble_eq_true rfl) dX8_plain_5 ((pick_perm [[(a, .inr (17, [.ref b, .int (nI 0), .int 0, .int 0]))]] 1 rfl (is := [0]) (by decide)).flatten.symm) (fun z hz => by cases hz; exact Or.inr (Or.inr (hRo _ rfl))) (fun v H3 locs3 S1 hQ hz3 hW3 => ?_)
  obtain ⟨rfl, rfl⟩ := hQ
  have hW3 : Ws G A s ([[(a, .inr (17, [.ref b, .int (nI 0), .int (nI 3079404), .int 0]))]]) H3 locs3 := hW3
  clear hW
  refine W.eq (g2 := F0 m 8 ls2 [.int (nI 3079404)]) rfl ?_
  refine lv_lookup (x := nI 3079404) (off := 50) (tgt := 58) C.hx C.hb dX8_plain_8 (by decide) (by decide) (by decide) ?_
  refine lv_aload_n C.hx C.hb dX8_plain_58 rfl (lv_at hl2 1 rfl) ?_
  refine k_ldcS C (List.mem_of_getElem? (i := 3) rfl) rfl dX8_plain_59 ?_
  refine k_callV (Sc := []) (Sr := [[(a, .inr (17, [.ref b, .int (nI 0), .int (nI 3079404), .int 0]))]]) (As := [.ref (G.2.2.2 13)]) (rest := []) C (ctJ18_equals l G a b (G.2.2.2 13) (G.2.2.2 23) (nI 3079404) 0 (kHs 3) (kHz 3) t (txN 3) (fun j hj => by match j, hj with | 0, _ => rw [ht0]; decide | 1, _ => rw [ht1]; decide | 2, _ => rw [ht2]; decide | 3, _ => rw [ht3]; decide) (fun j _ => kTx_lt 3 j) (fun j hj => by match j, hj with | 0, _ => rw [ht0]; decide | 1, _ => rw [ht1]; decide | 2, _ => rw [ht2]; decide | 3, _ => rw [ht3]; decide)) hW3 clJ18 (hW3.get 0 0 rfl rfl) q1231 q1232 q1233 q95 q1234 rfl rfl ⟨by decide, by decide, Eq.trans (b := some 1) (by decide +kernel) rfl⟩ (Nat.le_of_ble_eq_true rfl) (Nat.le_of_ble_eq_true rfl) (Nat.le_refl _) (Nat.le_refl _) hl2.1 rfl (Nat.le_of_ble_eq_true rfl) dX8_plain_61 (k_permR _) (fun z => (fun hz => hz.elim (fun e => by cases e; exact Or.inl ⟨_, rfl, seg_mem (i := 0) (j := 0) rfl rfl⟩) (fun hz => hz.elim (fun e => by cases e; exact Or.inr (Or.inr (hRo _ rfl))) (fun hz => hz.elim (fun e => by cases e; exact Or.inr (Or.inr (Ro_str C.hX hW3.2.2.2.2 3 (by decide)))) (fun e => by cases e; exact Or.inr (Or.inr (Ro_txt C.hX hW3.2.2.2.2 3 (by decide)))))))) (fun v H4 locs4 S1 hQ hz4 hW4 => ?_)
  obtain ⟨rfl, rfl⟩ := hQ
  have hW4 : Ws G A s ([[(a, .inr (17, [.ref b, .int (nI 0), .int (nI 3079404), .int 0]))]]) H4 locs4 := hW4
  clear hW3
  refine W.eq (g2 := F0 m 64 ls2 [.int (nI 1)]) rfl ?_
  refine kn_if_eq (tgt := 83) C (by decide) dX8_plain_64 (by decide) (fun cq => absurd cq (by decide)) (fun cq => ?_)
  refine kn_iconst (a := 1) C (by decide) dX8_plain_67 ?_
  refine lv_istore_n (lv' := [(2, .int (nI 1)), (1, .ref a), (0, .ref a)]) C.hx C.hb dX8_plain_68 rfl hl2 (Nat.le_of_ble_eq_true rfl) rfl (fun ls5 hl5 => ?_)
  clear hl2
  refine lv_goto (tgt := 83) C.hx C.hb dX8_plain_69 (by decide) ?_
  refine lv_iload_n C.hx C.hb dX8_plain_83 rfl (lv_at hl5 0 rfl) ?_
  refine lv_tableIn (x := nI 1) (off := 33) (tgt := 117) C.hx C.hb dX8_plain_84 (by decide) (by decide) (by decide) (by decide) ?_
  refine kn_sipush (a := 300) C (by decide) dX8_plain_117 ?_
  refine lv_goto (tgt := 130) C.hx C.hb dX8_plain_120 (by decide) ?_
  exact k_iret C hW4 rfl ⟨rfl, rfl⟩ (Nat.le_refl _) (Nat.le_refl _) dX8_plain_130

def Q_ctX8_plain_3 (G : GT) (a b : Nat) (t : Nat → Nat) : Option Value → List va_W → Prop := fun v S1 => v = some (.int (nI 700)) ∧ S1 = [[(a, .inr (17, [.ref b, .int (nI 0), .int (nI 3178655), .int 0]))]]
set_option maxHeartbeats 4000000 in
set_option maxRecDepth 100000 in
theorem ctX8_plain_3 (l : Launch) (G : GT) (a b : Nat) (t : Nat → Nat) (ht0 : t 0 = 103) (ht1 : t 1 = 111) (ht2 : t 2 = 110) (ht3 : t 3 = 101) : Ct l G yX8_plain cX8_plain 3 (some .int) 4 90 0 0 [.ref a] ([[(a, .inr (17, [.ref b, .int (nI 0), .int 0, .int 0]))]]) ((fun z => z = .inl (b, .inl (G.2.2.1 3, 4, .inl (fun j => nI (t j)))))) (Q_ctX8_plain_3 G a b t) := by
  refine Ct.of (by decide +kernel) (Nat.le_of_ble_eq_true rfl) ?_
  intro p e s m below meth c A ls C hW hRo hl
  have hl : lv_has ls 3 [(0, .ref a)] := hl
  refine lv_aload_n C.hx C.hb dX8_plain_0 rfl (lv_at hl 0 rfl) ?_
  refine lv_astore_n (lv' := [(1, .ref a), (0, .ref a)]) C.hx C.hb dX8_plain_1 rfl hl (Nat.le_of_ble_eq_true rfl) rfl (fun ls1 hl1 => ?_)
  clear hl
  refine lv_iconst (v := nI NONE) C.hx C.hb dX8_plain_2 (by decide) ?_
  refine lv_istore_n (lv' := [(2, .int (nI NONE)), (1, .ref a), (0, .ref a)]) C.hx C.hb dX8_plain_3 rfl hl1 (Nat.le_of_ble_eq_true rfl) rfl (fun ls2 hl2 => ?_)
  clear hl1
  refine lv_aload_n C.hx C.hb dX8_plain_4 rfl (lv_at hl2 1 rfl) ?_
  refine k_callV (Sc := [[(a, .inr (17, [.ref b, .int (nI 0), .int 0, .int 0]))]]) (Sr := []) (As := []) (rest := []) C (ctJ18_hashCode l G a b 3178655 t (by unfold hsN; rw [ht0, ht1, ht2, ht3]; decide) (by decide) (by decide)) hW clJ18 (hW.get 0 0 rfl rfl) q1173 q1174 q1175 q95 q1176 rfl rfl ⟨by decide, by decide, Eq.trans (b := some 0) (by decide +kernel) rfl⟩ (Nat.le_of_ble_eq_true rfl) (Nat.le_of_ble_eq_true rfl) (Nat.le_refl _) (Nat.le_refl _) hl2.1 rfl (Nat.le_of_ble_eq_true rfl) dX8_plain_5 ((pick_perm [[(a, .inr (17, [.ref b, .int (nI 0), .int 0, .int 0]))]] 1 rfl (is := [0]) (by decide)).flatten.symm) (fun z hz => by cases hz; exact Or.inr (Or.inr (hRo _ rfl))) (fun v H3 locs3 S1 hQ hz3 hW3 => ?_)
  obtain ⟨rfl, rfl⟩ := hQ
  have hW3 : Ws G A s ([[(a, .inr (17, [.ref b, .int (nI 0), .int (nI 3178655), .int 0]))]]) H3 locs3 := hW3
  clear hW
  refine W.eq (g2 := F0 m 8 ls2 [.int (nI 3178655)]) rfl ?_
  refine lv_lookup (x := nI 3178655) (off := 64) (tgt := 72) C.hx C.hb dX8_plain_8 (by decide) (by decide) (by decide) ?_
  refine lv_aload_n C.hx C.hb dX8_plain_72 rfl (lv_at hl2 1 rfl) ?_
  refine k_ldcS C (List.mem_of_getElem? (i := 4) rfl) rfl dX8_plain_73 ?_
  refine k_callV (Sc := []) (Sr := [[(a, .inr (17, [.ref b, .int (nI 0), .int (nI 3178655), .int 0]))]]) (As := [.ref (G.2.2.2 14)]) (rest := []) C (ctJ18_equals l G a b (G.2.2.2 14) (G.2.2.2 24) (nI 3178655) 0 (kHs 4) (kHz 4) t (txN 4) (fun j hj => by match j, hj with | 0, _ => rw [ht0]; decide | 1, _ => rw [ht1]; decide | 2, _ => rw [ht2]; decide | 3, _ => rw [ht3]; decide) (fun j _ => kTx_lt 4 j) (fun j hj => by match j, hj with | 0, _ => rw [ht0]; decide | 1, _ => rw [ht1]; decide | 2, _ => rw [ht2]; decide | 3, _ => rw [ht3]; decide)) hW3 clJ18 (hW3.get 0 0 rfl rfl) q1231 q1232 q1233 q95 q1234 rfl rfl ⟨by decide, by decide, Eq.trans (b := some 1) (by decide +kernel) rfl⟩ (Nat.le_of_ble_eq_true rfl) (Nat.le_of_ble_eq_true rfl) (Nat.le_refl _) (Nat.le_refl _) hl2.1 rfl (Nat.le_of_ble_eq_true rfl) dX8_plain_75 (k_permR _) (fun z => (fun hz => hz.elim (fun e => by cases e; exact Or.inl ⟨_, rfl, seg_mem (i := 0) (j := 0) rfl rfl⟩) (fun hz => hz.elim (fun e => by cases e; exact Or.inr (Or.inr (hRo _ rfl))) (fun hz => hz.elim (fun e => by cases e; exact Or.inr (Or.inr (Ro_str C.hX hW3.2.2.2.2 4 (by decide)))) (fun e => by cases e; exact Or.inr (Or.inr (Ro_txt C.hX hW3.2.2.2.2 4 (by decide)))))))) (fun v H4 locs4 S1 hQ hz4 hW4 => ?_)
  obtain ⟨rfl, rfl⟩ := hQ
  have hW4 : Ws G A s ([[(a, .inr (17, [.ref b, .int (nI 0), .int (nI 3178655), .int 0]))]]) H4 locs4 := hW4
  clear hW3
  refine W.eq (g2 := F0 m 78 ls2 [.int (nI 1)]) rfl ?_
  refine kn_if_eq (tgt := 83) C (by decide) dX8_plain_78 (by decide) (fun cq => absurd cq (by decide)) (fun cq => ?_)
  refine kn_iconst (a := 2) C (by decide) dX8_plain_81 ?_
  refine lv_istore_n (lv' := [(2, .int (nI 2)), (1, .ref a), (0, .ref a)]) C.hx C.hb dX8_plain_82 rfl hl2 (Nat.le_of_ble_eq_true rfl) rfl (fun ls5 hl5 => ?_)
  clear hl2
  refine lv_iload_n C.hx C.hb dX8_plain_83 rfl (lv_at hl5 0 rfl) ?_
  refine lv_tableIn (x := nI 2) (off := 39) (tgt := 123) C.hx C.hb dX8_plain_84 (by decide) (by decide) (by decide) (by decide) ?_
  refine kn_sipush (a := 700) C (by decide) dX8_plain_123 ?_
  refine lv_goto (tgt := 130) C.hx C.hb dX8_plain_126 (by decide) ?_
  exact k_iret C hW4 rfl ⟨rfl, rfl⟩ (Nat.le_refl _) (Nat.le_refl _) dX8_plain_130

def Q_ctJ27_init (G : GT) (a : Nat) : Option Value → List va_W → Prop := fun v S1 => v = none ∧ ∃ b, S1 = [[(a, .inr (18, [.ref b, .int (nI 0), .int 0, .int (nI 0)]))], [(b, .inl (G.2.2.1 3, 16, .inl (fun j => nI ((fun _ => 0) j))))]]
set_option maxHeartbeats 4000000 in
set_option maxRecDepth 100000 in
theorem ctJ27_init (l : Launch) (G : GT) (a : Nat)  : Ct l G yJ27_init cJ27_init 2 none 1 20 1 16 [.ref a, .int (nI 16)] ([[(a, .inr (18, [.null, .int 0, .int 0, .int 0]))]]) noR (Q_ctJ27_init G a) := by
  refine Ct.of (by decide +kernel) (Nat.le_of_ble_eq_true rfl) ?_
  intro p e s m below meth c A ls C hW hRo hl
  have hl : lv_has ls 2 [(0, .ref a), (1, .int (nI 16))] := hl
  refine lv_aload_n C.hx C.hb dJ27_init_0 rfl (lv_at hl 0 rfl) ?_
  refine W.objInit C.hx C.hb C.hown (C.hts _ q477) (C.hts _ q133) (C.hts _ q134) rfl (by rw [C.hml]; exact hl.1) rfl dJ27_init_1 (Nat.le_of_ble_eq_true rfl) (Nat.le_of_ble_eq_true rfl) ?_
  refine W.eq (g2 := F0 m 4 ls []) rfl ?_
  refine k_gets C hW (List.mem_of_getElem? (i := 4) rfl) q478 rfl dJ27_init_4 ?_
  refine lv_if_eq (tgt := 25) C.hx C.hb dJ27_init_7 (by decide) (fun cq => absurd cq (by decide)) (fun cq => ?_)
  refine lv_aload_n C.hx C.hb dJ27_init_10 rfl (lv_at hl 0 rfl) ?_
  refine lv_iload_n C.hx C.hb dJ27_init_11 rfl (lv_at hl 1 rfl) ?_
  refine k_newa C hW (atype := .byte) (ty := .byte) 3 rfl q500 rfl (fun _ h => (nomatch h)) (N := 16) (a0 := (16, .inl (fun _ => 0))) (fun _ => rfl) (by decide) (by decide) (show 0 + 1 ≤ 1 by omega) (show 0 + 16 ≤ 16 by omega) dJ27_init_12 (fun q1 H1 hW1 => ?_)
  have hW1 : Ws G A s [[(a, .inr (18, [.null, .int 0, .int 0, .int 0]))], [(q1, .inl (G.2.2.1 3, 16, .inl (fun _ => 0)))]] H1 [] := hW1
  clear hW
  have hW2 : Ws G A s [[(a, .inr (18, [.null, .int 0, .int 0, .int 0]))], [(q1, .inl (G.2.2.1 3, 16, .inl (fun j => nI ((fun _ => 0) j))))]] H1 [] := hW1
  clear hW1
  refine k_put (S' := [[(a, .inr (18, [.ref q1, .int 0, .int 0, .int 0]))], [(q1, .inl (G.2.2.1 3, 16, .inl (fun j => nI ((fun _ => 0) j))))]]) C clJ28 hW2 0 0 rfl rfl 0 (Nat.le_of_ble_eq_true rfl) rfl q487 rfl (fun _ h => h) (Or.inr ⟨rfl, rfl⟩) (fty := (.array .byte)) (v := .ref q1) (by decide +kernel) rfl rfl (Nat.le_of_ble_eq_true rfl) dJ27_init_14 rfl (fun H3 locs3 hW3 => ?_)
  clear hW2
  refine lv_aload_n C.hx C.hb dJ27_init_17 rfl (lv_at hl 0 rfl) ?_
  refine kn_iconst (a := 0) C (by decide) dJ27_init_18 ?_
  refine k_put (S' := [[(a, .inr (18, [.ref q1, .int (nI 0), .int 0, .int 0]))], [(q1, .inl (G.2.2.1 3, 16, .inl (fun j => nI ((fun _ => 0) j))))]]) C clJ28 hW3 0 0 rfl rfl 1 (Nat.le_of_ble_eq_true rfl) rfl q488 rfl (fun _ h => h) (Or.inr ⟨rfl, rfl⟩) (fty := .byte) (v := .int (nI 0)) (by decide +kernel) (by decide) (by decide) (Nat.le_of_ble_eq_true rfl) dJ27_init_19 rfl (fun H4 locs4 hW4 => ?_)
  clear hW3
  refine lv_goto (tgt := 38) C.hx C.hb dJ27_init_22 (by decide) ?_
  exact k_vret C hW4 rfl ⟨rfl, _, rfl⟩ (by omega) (by omega) dJ27_init_38

def Q_ctJ28_init (G : GT) (a : Nat) : Option Value → List va_W → Prop := fun v S1 => v = none ∧ ∃ b, S1 = [[(a, .inr (18, [.ref b, .int (nI 0), .int 0, .int (nI 0)]))], [(b, .inl (G.2.2.1 3, 16, .inl (fun j => nI ((fun _ => 0) j))))]]
set_option maxHeartbeats 4000000 in
set_option maxRecDepth 100000 in
theorem ctJ28_init (l : Launch) (G : GT) (a : Nat)  : Ct l G yJ28_init cJ28_init 1 none 2 41 1 16 [.ref a] ([[(a, .inr (18, [.null, .int 0, .int 0, .int 0]))]]) noR (Q_ctJ28_init G a) := by
  refine Ct.of (by decide +kernel) (Nat.le_of_ble_eq_true rfl) ?_
  intro p e s m below meth c A ls C hW hRo hl
  have hl : lv_has ls 1 [(0, .ref a)] := hl
  refine lv_aload_n C.hx C.hb dJ28_init_0 rfl (lv_at hl 0 rfl) ?_
  refine kn_bipush (a := 16) C (by decide) dJ28_init_1 ?_
  refine k_callI (Sc := [[(a, .inr (18, [.null, .int 0, .int 0, .int 0]))]]) (Sr := []) (As := [.int (nI 16)]) (rest := []) C (ctJ27_init l G a) hW q474 q475 q105 q476 rfl rfl ⟨by decide, by decide, Eq.trans (b := some 1) (by decide +kernel) rfl⟩ (Nat.le_of_ble_eq_true rfl) (Nat.le_of_ble_eq_true rfl) (show 0 + 1 ≤ 1 by omega) (show 0 + 16 ≤ 16 by omega) hl.1 rfl (Nat.le_of_ble_eq_true rfl) dJ28_init_3 ((pick_perm [[(a, .inr (18, [.null, .int 0, .int 0, .int 0]))]] 1 rfl (is := [0]) (by decide)).flatten.symm) (fun _ h => h.elim) (fun v H1 locs1 S1 hQ hz1 hW1 => ?_)
  obtain ⟨rfl, b, rfl⟩ := hQ
  have hW1 : Ws G A s ([[(a, .inr (18, [.ref b, .int (nI 0), .int 0, .int (nI 0)]))], [(b, .inl (G.2.2.1 3, 16, .inl (fun j => nI ((fun _ => 0) j))))]]) H1 locs1 := hW1
  clear hW
  refine W.eq (g2 := F0 m 6 ls []) rfl ?_
  exact k_vret C hW1 rfl ⟨rfl, _, rfl⟩ (by omega) (by omega) dJ28_init_6

def Q_ctJ27_isLatin1 (G : GT) (a b k : Nat) : Option Value → List va_W → Prop := fun v S1 => v = some (.int (nI 1)) ∧ S1 = []
set_option maxHeartbeats 4000000 in
set_option maxRecDepth 100000 in
theorem ctJ27_isLatin1 (l : Launch) (G : GT) (a b k : Nat)  : Ct l G yJ27_isLatin1 cJ27_isLatin1 1 (some .boolean) 0 0 0 0 [.ref a] ([]) ((fun z => z = .inl (a, .inr (18, [.ref b, .int (nI 0), .int 0, .int (nI k)])))) (Q_ctJ27_isLatin1 G a b k) := by
  refine Ct.of (by decide +kernel) (Nat.le_of_ble_eq_true rfl) ?_
  intro p e s m below meth c A ls C hW hRo hl
  have hl : lv_has ls 1 [(0, .ref a)] := hl
  refine k_gets C hW (List.mem_of_getElem? (i := 4) rfl) q478 rfl dJ27_isLatin1_0 ?_
  refine lv_if_eq (tgt := 17) C.hx C.hb dJ27_isLatin1_3 (by decide) (fun cq => absurd cq (by decide)) (fun cq => ?_)
  refine lv_aload_n C.hx C.hb dJ27_isLatin1_6 rfl (lv_at hl 0 rfl) ?_
  refine k_get (v := .int (nI 0)) C clJ28 ((hRo _ rfl).at hW) 1 (Nat.le_of_ble_eq_true rfl) rfl q488 rfl rfl dJ27_isLatin1_7 ?_
  refine kn_if_ne (tgt := 17) C (by decide) dJ27_isLatin1_10 (by decide) (fun cq => absurd cq (by decide)) (fun cq => ?_)
  refine kn_iconst (a := 1) C (by decide) dJ27_isLatin1_13 ?_
  refine lv_goto (tgt := 18) C.hx C.hb dJ27_isLatin1_14 (by decide) ?_
  exact k_zret C hW rfl (by decide) ⟨rfl, rfl⟩ (Nat.le_refl _) (Nat.le_refl _) dJ27_isLatin1_18

def Q_ctJ27_getValue (G : GT) (a b k : Nat) : Option Value → List va_W → Prop := fun v S1 => v = some (.ref b) ∧ S1 = []
set_option maxHeartbeats 4000000 in
set_option maxRecDepth 100000 in
theorem ctJ27_getValue (l : Launch) (G : GT) (a b k : Nat)  : Ct l G yJ27_getValue cJ27_getValue 1 (some (.array .byte)) 0 0 0 0 [.ref a] ([]) ((fun z => z = .inl (a, .inr (18, [.ref b, .int (nI 0), .int 0, .int (nI k)])))) (Q_ctJ27_getValue G a b k) := by
  refine Ct.of (by decide +kernel) (Nat.le_of_ble_eq_true rfl) ?_
  intro p e s m below meth c A ls C hW hRo hl
  have hl : lv_has ls 1 [(0, .ref a)] := hl
  refine lv_aload_n C.hx C.hb dJ27_getValue_0 rfl (lv_at hl 0 rfl) ?_
  refine k_get (v := .ref b) C clJ28 ((hRo _ rfl).at hW) 0 (Nat.le_of_ble_eq_true rfl) rfl q487 rfl rfl dJ27_getValue_1 ?_
  exact k_aret C hW rfl (Or.inr ⟨_, rfl⟩) (Or.inr ⟨_, rfl⟩) ⟨rfl, rfl⟩ (Nat.le_refl _) (Nat.le_refl _) dJ27_getValue_4

def Q_ctJ27_length (G : GT) (a b k : Nat) : Option Value → List va_W → Prop := fun v S1 => v = some (.int (nI k)) ∧ S1 = []
set_option maxHeartbeats 4000000 in
set_option maxRecDepth 100000 in
theorem ctJ27_length (l : Launch) (G : GT) (a b k : Nat)  : Ct l G yJ27_length cJ27_length 1 (some .int) 0 0 0 0 [.ref a] ([]) ((fun z => z = .inl (a, .inr (18, [.ref b, .int (nI 0), .int 0, .int (nI k)])))) (Q_ctJ27_length G a b k) := by
  refine Ct.of (by decide +kernel) (Nat.le_of_ble_eq_true rfl) ?_
  intro p e s m below meth c A ls C hW hRo hl
  have hl : lv_has ls 1 [(0, .ref a)] := hl
  refine lv_aload_n C.hx C.hb dJ27_length_0 rfl (lv_at hl 0 rfl) ?_
  refine k_get (v := .int (nI k)) C clJ28 ((hRo _ rfl).at hW) 3 (Nat.le_of_ble_eq_true rfl) rfl q490 rfl rfl dJ27_length_1 ?_
  exact k_iret C hW rfl ⟨rfl, rfl⟩ (Nat.le_refl _) (Nat.le_refl _) dJ27_length_4

def Q_ctJ28_length (G : GT) (a b k : Nat) : Option Value → List va_W → Prop := fun v S1 => v = some (.int (nI k)) ∧ S1 = []
set_option maxHeartbeats 4000000 in
set_option maxRecDepth 100000 in
theorem ctJ28_length (l : Launch) (G : GT) (a b k : Nat)  : Ct l G yJ28_length cJ28_length 1 (some .int) 1 20 0 0 [.ref a] ([]) ((fun z => z = .inl (a, .inr (18, [.ref b, .int (nI 0), .int 0, .int (nI k)])))) (Q_ctJ28_length G a b k) := by
  refine Ct.of (by decide +kernel) (Nat.le_of_ble_eq_true rfl) ?_
  intro p e s m below meth c A ls C hW hRo hl
  have hl : lv_has ls 1 [(0, .ref a)] := hl
  refine lv_aload_n C.hx C.hb dJ28_length_0 rfl (lv_at hl 0 rfl) ?_
  refine k_callSU (Sc := []) (Sr := []) (As := []) (rest := []) C (ctJ27_length l G a b k) hW clJ28 ((hRo _ rfl).at hW) q672 q668 q499 q667 q105 q673 rfl ⟨by decide, Eq.trans (b := some 0) (by decide +kernel) rfl⟩ (Nat.le_of_ble_eq_true rfl) (Nat.le_of_ble_eq_true rfl) (Nat.le_refl _) (Nat.le_refl _) hl.1 rfl (Nat.le_of_ble_eq_true rfl) dJ28_length_1 (k_permR _) (fun z hz => by cases hz; exact Or.inr (Or.inr (hRo _ rfl))) (fun v H1 locs1 S1 hQ hz1 hW1 => ?_)
  obtain ⟨rfl, rfl⟩ := hQ
  have hW1 : Ws G A s ([]) H1 locs1 := hW1
  clear hW
  refine W.eq (g2 := F0 m 4 ls [.int (nI k)]) rfl ?_
  exact k_iret C hW1 rfl ⟨rfl, rfl⟩ (Nat.le_refl _) (Nat.le_refl _) dJ28_length_4

def Q_ctJ27_ensureCapacityInternal (G : GT) (a b k q : Nat) (u : Nat → Nat) : Option Value → List va_W → Prop := fun v S1 => v = none ∧ S1 = []
set_option maxHeartbeats 4000000 in
set_option maxRecDepth 100000 in
theorem ctJ27_ensureCapacityInternal (l : Launch) (G : GT) (a b k q : Nat) (u : Nat → Nat) (hq : q ≤ 16) : Ct l G yJ27_ensureCapacityInternal cJ27_ensureCapacityInternal 3 none 0 0 0 0 [.ref a, .int (nI q)] ([]) ((fun z => z = .inl (a, .inr (18, [.ref b, .int (nI 0), .int 0, .int (nI k)])) ∨ z = .inl (b, .inl (G.2.2.1 3, 16, .inl (fun j => nI (u j)))))) (Q_ctJ27_ensureCapacityInternal G a b k q u) := by
  refine Ct.of (by decide +kernel) (Nat.le_of_ble_eq_true rfl) ?_
  intro p e s m below meth c A ls C hW hRo hl
  have hl : lv_has ls 3 [(0, .ref a), (1, .int (nI q))] := hl
  refine lv_aload_n C.hx C.hb dJ27_ensureCapacityInternal_0 rfl (lv_at hl 0 rfl) ?_
  refine k_get (v := .ref b) C clJ28 ((hRo _ (Or.inl rfl)).at hW) 0 (Nat.le_of_ble_eq_true rfl) rfl q487 rfl rfl dJ27_ensureCapacityInternal_1 ?_
  refine k_alen C 3 rfl ((hRo _ (Or.inr rfl)).at hW) dJ27_ensureCapacityInternal_4 ?_
  refine lv_aload_n C.hx C.hb dJ27_ensureCapacityInternal_5 rfl (lv_at hl 0 rfl) ?_
  refine k_get (v := .int (nI 0)) C clJ28 ((hRo _ (Or.inl rfl)).at hW) 1 (Nat.le_of_ble_eq_true rfl) rfl q488 rfl rfl dJ27_ensureCapacityInternal_6 ?_
  refine kn_ishr0 C dJ27_ensureCapacityInternal_9 ?_
  refine lv_istore_n (lv' := [(2, .int (nI 16)), (0, .ref a), (1, .int (nI q))]) C.hx C.hb dJ27_ensureCapacityInternal_10 rfl hl (Nat.le_of_ble_eq_true rfl) rfl (fun ls1 hl1 => ?_)
  clear hl
  refine lv_iload_n C.hx C.hb dJ27_ensureCapacityInternal_11 rfl (lv_at hl1 2 rfl) ?_
  refine lv_iload_n C.hx C.hb dJ27_ensureCapacityInternal_12 rfl (lv_at hl1 0 rfl) ?_
  refine lv_isub C.hx C.hb dJ27_ensureCapacityInternal_13 ?_
  refine lv_if_le (tgt := 38) C.hx C.hb dJ27_ensureCapacityInternal_14 (by decide) (fun c14 => ?_) (fun c14 => (absurd (sub_le0 hq) c14))
  exact k_vret C hW rfl ⟨rfl, rfl⟩ (Nat.le_refl _) (Nat.le_refl _) dJ27_ensureCapacityInternal_38

def Q_ctJ27_inflateIfNeededFor (G : GT) (a b k a2 b2 : Nat) (h2 z2 : Int32) : Option Value → List va_W → Prop := fun v S1 => v = none ∧ S1 = []
set_option maxHeartbeats 4000000 in
set_option maxRecDepth 100000 in
theorem ctJ27_inflateIfNeededFor (l : Launch) (G : GT) (a b k a2 b2 : Nat) (h2 z2 : Int32)  : Ct l G yJ27_inflateIfNeededFor cJ27_inflateIfNeededFor 2 none 1 20 0 0 [.ref a, .ref a2] ([]) ((fun z => z = .inl (a, .inr (18, [.ref b, .int (nI 0), .int 0, .int (nI k)])) ∨ z = .inl (a2, .inr (17, [.ref b2, .int (nI 0), .int h2, .int z2])))) (Q_ctJ27_inflateIfNeededFor G a b k a2 b2 h2 z2) := by
  refine Ct.of (by decide +kernel) (Nat.le_of_ble_eq_true rfl) ?_
  intro p e s m below meth c A ls C hW hRo hl
  have hl : lv_has ls 2 [(0, .ref a), (1, .ref a2)] := hl
  refine k_gets C hW (List.mem_of_getElem? (i := 4) rfl) q478 rfl dJ27_inflateIfNeededFor_0 ?_
  refine lv_if_eq (tgt := 21) C.hx C.hb dJ27_inflateIfNeededFor_3 (by decide) (fun cq => absurd cq (by decide)) (fun cq => ?_)
  refine lv_aload_n C.hx C.hb dJ27_inflateIfNeededFor_6 rfl (lv_at hl 0 rfl) ?_
  refine k_get (v := .int (nI 0)) C clJ28 ((hRo _ (Or.inl rfl)).at hW) 1 (Nat.le_of_ble_eq_true rfl) rfl q488 rfl rfl dJ27_inflateIfNeededFor_7 ?_
  refine lv_aload_n C.hx C.hb dJ27_inflateIfNeededFor_10 rfl (lv_at hl 1 rfl) ?_
  refine k_callV (Sc := []) (Sr := []) (As := []) (rest := [.int (nI 0)]) C (ctJ18_coder l G a2 b2 h2 z2) hW clJ18 ((hRo _ (Or.inr rfl)).at hW) q596 q584 q585 q95 q586 rfl rfl ⟨by decide, by decide, Eq.trans (b := some 0) (by decide +kernel) rfl⟩ (Nat.le_of_ble_eq_true rfl) (Nat.le_of_ble_eq_true rfl) (Nat.le_refl _) (Nat.le_refl _) hl.1 rfl (Nat.le_of_ble_eq_true rfl) dJ27_inflateIfNeededFor_11 (k_permR _) (fun z hz => by cases hz; exact Or.inr (Or.inr (hRo _ (Or.inr rfl)))) (fun v H1 locs1 S1 hQ hz1 hW1 => ?_)
  obtain ⟨rfl, rfl⟩ := hQ
  have hW1 : Ws G A s ([]) H1 locs1 := hW1
  clear hW
  refine W.eq (g2 := F0 m 14 ls [.int (nI 0), .int (nI 0)]) rfl ?_
  refine kn_icmp_eq (tgt := 21) C (by decide) (by decide) dJ27_inflateIfNeededFor_14 (by decide) (fun cq => ?_) (fun cq => absurd cq (by decide))
  exact k_vret C hW1 rfl ⟨rfl, rfl⟩ (Nat.le_refl _) (Nat.le_refl _) dJ27_inflateIfNeededFor_21

def Q_ctJ18_getBytes (G : GT) (b k a2 b2 n : Nat) (h2 z2 : Int32) (u t : Nat → Nat) : Option Value → List va_W → Prop := fun v S1 => v = none ∧ S1 = [[(b, .inl (G.2.2.1 3, 16, .inl (fun j => nI ((cpN t u 0 k n) j))))]]
set_option maxHeartbeats 4000000 in
set_option maxRecDepth 100000 in
theorem ctJ18_getBytes (l : Launch) (G : GT) (b k a2 b2 n : Nat) (h2 z2 : Int32) (u t : Nat → Nat) (hn : n ≤ 16) (hkn : k + n ≤ 16) (ht : ∀ j, j < n → t j < 128) : Ct l G yJ18_getBytes cJ18_getBytes 4 none 1 29 0 0 [.ref a2, .ref b, .int (nI k), .int (nI 0)] ([[(b, .inl (G.2.2.1 3, 16, .inl (fun j => nI (u j))))]]) ((fun z => z = .inl (a2, .inr (17, [.ref b2, .int (nI 0), .int h2, .int z2])) ∨ z = .inl (b2, .inl (G.2.2.1 3, n, .inl (fun j => nI (t j)))))) (Q_ctJ18_getBytes G b k a2 b2 n h2 z2 u t) := by
  refine Ct.of (by decide +kernel) (Nat.le_of_ble_eq_true rfl) ?_
  intro p e s m below meth c A ls C hW hRo hl
  have hl : lv_has ls 4 [(0, .ref a2), (1, .ref b), (2, .int (nI k)), (3, .int (nI 0))] := hl
  refine lv_aload_n C.hx C.hb dJ18_getBytes_0 rfl (lv_at hl 0 rfl) ?_
  refine k_callV (Sc := []) (Sr := [[(b, .inl (G.2.2.1 3, 16, .inl (fun j => nI (u j))))]]) (As := []) (rest := []) C (ctJ18_coder l G a2 b2 h2 z2) hW clJ18 ((hRo _ (Or.inl rfl)).at hW) q583 q584 q585 q95 q586 rfl rfl ⟨by decide, by decide, Eq.trans (b := some 0) (by decide +kernel) rfl⟩ (Nat.le_of_ble_eq_true rfl) (Nat.le_of_ble_eq_true rfl) (Nat.le_refl _) (Nat.le_refl _) hl.1 rfl (Nat.le_of_ble_eq_true rfl) dJ18_getBytes_1 (k_permR _) (fun z hz => by cases hz; exact Or.inr (Or.inr (hRo _ (Or.inl rfl)))) (fun v H1 locs1 S1 hQ hz1 hW1 => ?_)
  obtain ⟨rfl, rfl⟩ := hQ
  have hW1 : Ws G A s ([[(b, .inl (G.2.2.1 3, 16, .inl (fun j => nI (u j))))]]) H1 locs1 := hW1
  clear hW
  refine W.eq (g2 := F0 m 4 ls [.int (nI 0)]) rfl ?_
  refine lv_iload_n C.hx C.hb dJ18_getBytes_4 rfl (lv_at hl 3 rfl) ?_
  refine kn_icmp_ne (tgt := 28) C (by decide) (by decide) dJ18_getBytes_5 (by decide) (fun cq => absurd cq (by decide)) (fun cq => ?_)
  refine lv_aload_n C.hx C.hb dJ18_getBytes_8 rfl (lv_at hl 0 rfl) ?_
  refine k_get (v := .ref b2) C clJ18 ((hRo _ (Or.inl rfl)).at hW1) 0 (Nat.le_of_ble_eq_true rfl) rfl q737 rfl rfl dJ18_getBytes_9 ?_
  refine kn_iconst (a := 0) C (by decide) dJ18_getBytes_12 ?_
  refine lv_aload_n C.hx C.hb dJ18_getBytes_13 rfl (lv_at hl 1 rfl) ?_
  refine lv_iload_n C.hx C.hb dJ18_getBytes_14 rfl (lv_at hl 2 rfl) ?_
  refine lv_iload_n C.hx C.hb dJ18_getBytes_15 rfl (lv_at hl 3 rfl) ?_
  refine kn_ishl0 C dJ18_getBytes_16 ?_
  refine lv_aload_n C.hx C.hb dJ18_getBytes_17 rfl (lv_at hl 0 rfl) ?_
  refine k_get (v := .ref b2) C clJ18 ((hRo _ (Or.inl rfl)).at hW1) 0 (Nat.le_of_ble_eq_true rfl) rfl q737 rfl rfl dJ18_getBytes_18 ?_
  refine k_alen C 3 rfl ((hRo _ (Or.inr rfl)).at hW1) dJ18_getBytes_21 ?_
  refine k_copyB (S' := [[(b, .inl (G.2.2.1 3, 16, .inl (fun j => nI (cpN t u 0 k n j))))]]) (k := n) (sp := 0) (dp := k) C hW1 0 0 ((hRo _ (Or.inr rfl)).at hW1) (fun j hj => fit_b _ (ht j hj)) rfl rfl q620 rfl (by omega) (by omega) (by omega) (by decide) (Nat.le_of_ble_eq_true rfl) (Nat.le_of_ble_eq_true rfl) hl.1 (Nat.le_of_ble_eq_true rfl) dJ18_getBytes_22 (by rw [cpN_eq]; rfl) (fun H2 locs2 hW2 => ?_)
  clear hW1
  refine W.eq (g2 := F0 m 25 ls []) rfl ?_
  refine lv_goto (tgt := 43) C.hx C.hb dJ18_getBytes_25 (by decide) ?_
  exact k_vret C hW2 rfl ⟨rfl, rfl⟩ (Nat.le_refl _) (Nat.le_refl _) dJ18_getBytes_43

def Q_ctJ27_putStringAt (G : GT) (a b k a2 b2 n : Nat) (h2 z2 : Int32) (u t : Nat → Nat) : Option Value → List va_W → Prop := fun v S1 => v = none ∧ S1 = [[(b, .inl (G.2.2.1 3, 16, .inl (fun j => nI ((cpN t u 0 k n) j))))]]
set_option maxHeartbeats 4000000 in
set_option maxRecDepth 100000 in
theorem ctJ27_putStringAt (l : Launch) (G : GT) (a b k a2 b2 n : Nat) (h2 z2 : Int32) (u t : Nat → Nat) (hn : n ≤ 16) (hkn : k + n ≤ 16) (ht : ∀ j, j < n → t j < 128) : Ct l G yJ27_putStringAt cJ27_putStringAt 3 none 2 52 0 0 [.ref a, .int (nI k), .ref a2] ([[(b, .inl (G.2.2.1 3, 16, .inl (fun j => nI (u j))))]]) ((fun z => z = .inl (a, .inr (18, [.ref b, .int (nI 0), .int 0, .int (nI k)])) ∨ z = .inl (a2, .inr (17, [.ref b2, .int (nI 0), .int h2, .int z2])) ∨ z = .inl (b2, .inl (G.2.2.1 3, n, .inl (fun j => nI (t j)))))) (Q_ctJ27_putStringAt G a b k a2 b2 n h2 z2 u t) := by
  refine Ct.of (by decide +kernel) (Nat.le_of_ble_eq_true rfl) ?_
  intro p e s m below meth c A ls C hW hRo hl
  have hl : lv_has ls 3 [(0, .ref a), (1, .int (nI k)), (2, .ref a2)] := hl
  refine lv_aload_n C.hx C.hb dJ27_putStringAt_0 rfl (lv_at hl 0 rfl) ?_
  refine lv_aload_n C.hx C.hb dJ27_putStringAt_1 rfl (lv_at hl 2 rfl) ?_
  refine k_callUP (owner := "java/lang/AbstractStringBuilder") (Sc := []) (Sr := [[(b, .inl (G.2.2.1 3, 16, .inl (fun j => nI (u j))))]]) (As := [.ref a2]) (rest := []) C (ctJ27_inflateIfNeededFor l G a b k a2 b2 h2 z2) hW clJ28 ((hRo _ (Or.inl rfl)).at hW) q592 q2662 (List.mem_of_getElem? (i := 1) rfl) q594 q105 q595 rfl rfl ⟨by decide, by decide, Eq.trans (b := some 1) (by decide +kernel) rfl⟩ (Nat.le_of_ble_eq_true rfl) (Nat.le_of_ble_eq_true rfl) (Nat.le_refl _) (Nat.le_refl _) hl.1 rfl (Nat.le_of_ble_eq_true rfl) dJ27_putStringAt_2 (k_permR _) (fun z => (fun hz => hz.elim (fun e => by cases e; exact Or.inr (Or.inr (hRo _ (Or.inl rfl)))) (fun e => by cases e; exact Or.inr (Or.inr (hRo _ (Or.inr (Or.inl rfl))))))) (fun v H1 locs1 S1 hQ hz1 hW1 => ?_)
  obtain ⟨rfl, rfl⟩ := hQ
  have hW1 : Ws G A s ([[(b, .inl (G.2.2.1 3, 16, .inl (fun j => nI (u j))))]]) H1 locs1 := hW1
  clear hW
  refine W.eq (g2 := F0 m 5 ls []) rfl ?_
  refine lv_aload_n C.hx C.hb dJ27_putStringAt_5 rfl (lv_at hl 2 rfl) ?_
  refine lv_aload_n C.hx C.hb dJ27_putStringAt_6 rfl (lv_at hl 0 rfl) ?_
  refine k_get (v := .ref b) C clJ28 ((hRo _ (Or.inl rfl)).at hW1) 0 (Nat.le_of_ble_eq_true rfl) rfl q487 rfl rfl dJ27_putStringAt_7 ?_
  refine lv_iload_n C.hx C.hb dJ27_putStringAt_10 rfl (lv_at hl 1 rfl) ?_
  refine lv_aload_n C.hx C.hb dJ27_putStringAt_11 rfl (lv_at hl 0 rfl) ?_
  refine k_get (v := .int (nI 0)) C clJ28 ((hRo _ (Or.inl rfl)).at hW1) 1 (Nat.le_of_ble_eq_true rfl) rfl q488 rfl rfl dJ27_putStringAt_12 ?_
  refine k_callV (Sc := [[(b, .inl (G.2.2.1 3, 16, .inl (fun j => nI (u j))))]]) (Sr := []) (As := [.ref b, .int (nI k), .int (nI 0)]) (rest := []) C (ctJ18_getBytes l G b k a2 b2 n h2 z2 u t hn hkn ht) hW1 clJ18 ((hRo _ (Or.inr (Or.inl rfl))).at hW1) q616 q617 q618 q95 q619 rfl rfl ⟨by decide, by decide, Eq.trans (b := some 3) (by decide +kernel) rfl⟩ (Nat.le_of_ble_eq_true rfl) (Nat.le_of_ble_eq_true rfl) (Nat.le_refl _) (Nat.le_refl _) hl.1 rfl (Nat.le_of_ble_eq_true rfl) dJ27_putStringAt_15 ((pick_perm [[(b, .inl (G.2.2.1 3, 16, .inl (fun j => nI (u j))))]] 1 rfl (is := [0]) (by decide)).flatten.symm) (fun z => (fun hz => hz.elim (fun e => by cases e; exact Or.inr (Or.inr (hRo _ (Or.inr (Or.inl rfl))))) (fun e => by cases e; exact Or.inr (Or.inr (hRo _ (Or.inr (Or.inr rfl))))))) (fun v H2 locs2 S1 hQ hz2 hW2 => ?_)
  obtain ⟨rfl, rfl⟩ := hQ
  have hW2 : Ws G A s ([[(b, .inl (G.2.2.1 3, 16, .inl (fun j => nI ((cpN t u 0 k n) j))))]]) H2 locs2 := hW2
  clear hW1
  refine W.eq (g2 := F0 m 18 ls []) rfl ?_
  exact k_vret C hW2 rfl ⟨rfl, rfl⟩ (Nat.le_refl _) (Nat.le_refl _) dJ27_putStringAt_18

def Q_ctJ27_append_s (G : GT) (a b k a2 b2 n : Nat) (h2 z2 : Int32) (u t : Nat → Nat) : Option Value → List va_W → Prop := fun v S1 => v = some (.ref a) ∧ S1 = [[(a, .inr (18, [.ref b, .int (nI 0), .int 0, .int (nI (k + n))]))], [(b, .inl (G.2.2.1 3, 16, .inl (fun j => nI ((cpN t u 0 k n) j))))]]
set_option maxHeartbeats 4000000 in
set_option maxRecDepth 100000 in
theorem ctJ27_append_s (l : Launch) (G : GT) (a b k a2 b2 n : Nat) (h2 z2 : Int32) (u t : Nat → Nat) (hn : n ≤ 16) (hkn : k + n ≤ 16) (ht : ∀ j, j < n → t j < 128) : Ct l G yJ27_append cJ27_append 3 (some (.object "java/lang/AbstractStringBuilder")) 3 74 0 0 [.ref a, .ref a2] ([[(a, .inr (18, [.ref b, .int (nI 0), .int 0, .int (nI k)]))], [(b, .inl (G.2.2.1 3, 16, .inl (fun j => nI (u j))))]]) ((fun z => z = .inl (a2, .inr (17, [.ref b2, .int (nI 0), .int h2, .int z2])) ∨ z = .inl (b2, .inl (G.2.2.1 3, n, .inl (fun j => nI (t j)))))) (Q_ctJ27_append_s G a b k a2 b2 n h2 z2 u t) := by
  refine Ct.of (by decide +kernel) (Nat.le_of_ble_eq_true rfl) ?_
  intro p e s m below meth c A ls C hW hRo hl
  have hl : lv_has ls 3 [(0, .ref a), (1, .ref a2)] := hl
  refine lv_aload_n C.hx C.hb dJ27_append_0 rfl (lv_at hl 1 rfl) ?_
  refine lv_ifnonnull (tgt := 9) C.hx C.hb dJ27_append_1 (by decide) ?_
  refine lv_aload_n C.hx C.hb dJ27_append_9 rfl (lv_at hl 1 rfl) ?_
  refine k_callV (Sc := []) (Sr := [[(a, .inr (18, [.ref b, .int (nI 0), .int 0, .int (nI k)]))], [(b, .inl (G.2.2.1 3, 16, .inl (fun j => nI (u j))))]]) (As := []) (rest := []) C (ctJ18_length l G a2 b2 n h2 z2 t) hW clJ18 ((hRo _ (Or.inl rfl)).at hW) q579 q580 q581 q95 q582 rfl rfl ⟨by decide, by decide, Eq.trans (b := some 0) (by decide +kernel) rfl⟩ (Nat.le_of_ble_eq_true rfl) (Nat.le_of_ble_eq_true rfl) (Nat.le_refl _) (Nat.le_refl _) hl.1 rfl (Nat.le_of_ble_eq_true rfl) dJ27_append_10 (k_permR _) (fun z => (fun hz => hz.elim (fun e => by cases e; exact Or.inr (Or.inr (hRo _ (Or.inl rfl)))) (fun e => by cases e; exact Or.inr (Or.inr (hRo _ (Or.inr rfl)))))) (fun v H1 locs1 S1 hQ hz1 hW1 => ?_)
  obtain ⟨rfl, rfl⟩ := hQ
  have hW1 : Ws G A s ([[(a, .inr (18, [.ref b, .int (nI 0), .int 0, .int (nI k)]))], [(b, .inl (G.2.2.1 3, 16, .inl (fun j => nI (u j))))]]) H1 locs1 := hW1
  clear hW
  refine W.eq (g2 := F0 m 13 ls [.int (nI n)]) rfl ?_
  refine lv_istore_n (lv' := [(2, .int (nI n)), (0, .ref a), (1, .ref a2)]) C.hx C.hb dJ27_append_13 rfl hl (Nat.le_of_ble_eq_true rfl) rfl (fun ls2 hl2 => ?_)
  clear hl
  refine lv_aload_n C.hx C.hb dJ27_append_14 rfl (lv_at hl2 1 rfl) ?_
  refine lv_aload_n C.hx C.hb dJ27_append_15 rfl (lv_at hl2 1 rfl) ?_
  refine k_get (v := .int (nI k)) C clJ28 (hW1.get 0 0 rfl rfl) 3 (Nat.le_of_ble_eq_true rfl) rfl q490 rfl rfl dJ27_append_16 ?_
  refine lv_iload_n C.hx C.hb dJ27_append_19 rfl (lv_at hl2 0 rfl) ?_
  refine kn_iadd C  dJ27_append_20 ?_
  refine k_callUP (owner := "java/lang/AbstractStringBuilder") (Sc := []) (Sr := [[(a, .inr (18, [.ref b, .int (nI 0), .int 0, .int (nI k)]))], [(b, .inl (G.2.2.1 3, 16, .inl (fun j => nI (u j))))]]) (As := [.int (nI (k + n))]) (rest := []) C (ctJ27_ensureCapacityInternal l G a b k (k + n) u (by omega)) hW1 clJ28 (hW1.get 0 0 rfl rfl) q513 q2659 (List.mem_of_getElem? (i := 2) rfl) q515 q105 q516 rfl rfl ⟨by decide, by decide, Eq.trans (b := some 1) (by decide +kernel) rfl⟩ (Nat.le_of_ble_eq_true rfl) (Nat.le_of_ble_eq_true rfl) (Nat.le_refl _) (Nat.le_refl _) hl2.1 rfl (Nat.le_of_ble_eq_true rfl) dJ27_append_21 (k_permR _) (fun z => (fun hz => hz.elim (fun e => by cases e; exact Or.inl ⟨_, rfl, seg_mem (i := 0) (j := 0) rfl rfl⟩) (fun e => by cases e; exact Or.inl ⟨_, rfl, seg_mem (i := 1) (j := 0) rfl rfl⟩))) (fun v H3 locs3 S1 hQ hz3 hW3 => ?_)
  obtain ⟨rfl, rfl⟩ := hQ
  have hW3 : Ws G A s ([[(a, .inr (18, [.ref b, .int (nI 0), .int 0, .int (nI k)]))], [(b, .inl (G.2.2.1 3, 16, .inl (fun j => nI (u j))))]]) H3 locs3 := hW3
  clear hW1
  refine W.eq (g2 := F0 m 24 ls2 []) rfl ?_
  refine lv_aload_n C.hx C.hb dJ27_append_24 rfl (lv_at hl2 1 rfl) ?_
  refine lv_aload_n C.hx C.hb dJ27_append_25 rfl (lv_at hl2 1 rfl) ?_
  refine k_get (v := .int (nI k)) C clJ28 (hW3.get 0 0 rfl rfl) 3 (Nat.le_of_ble_eq_true rfl) rfl q490 rfl rfl dJ27_append_26 ?_
  refine lv_aload_n C.hx C.hb dJ27_append_29 rfl (lv_at hl2 2 rfl) ?_
  refine k_callUP (owner := "java/lang/AbstractStringBuilder") (Sc := [[(b, .inl (G.2.2.1 3, 16, .inl (fun j => nI (u j))))]]) (Sr := [[(a, .inr (18, [.ref b, .int (nI 0), .int 0, .int (nI k)]))]]) (As := [.int (nI k), .ref a2]) (rest := []) C (ctJ27_putStringAt l G a b k a2 b2 n h2 z2 u t hn hkn ht) hW3 clJ28 (hW3.get 0 0 rfl rfl) q588 q2661 (List.mem_of_getElem? (i := 0) rfl) q590 q105 q591 rfl rfl ⟨by decide, by decide, Eq.trans (b := some 2) (by decide +kernel) rfl⟩ (Nat.le_of_ble_eq_true rfl) (Nat.le_of_ble_eq_true rfl) (Nat.le_refl _) (Nat.le_refl _) hl2.1 rfl (Nat.le_of_ble_eq_true rfl) dJ27_append_30 ((pick_perm [[(a, .inr (18, [.ref b, .int (nI 0), .int 0, .int (nI k)]))], [(b, .inl (G.2.2.1 3, 16, .inl (fun j => nI (u j))))]] 2 rfl (is := [0, 1]) (by decide)).flatten.symm) (fun z => (fun hz => hz.elim (fun e => by cases e; exact Or.inl ⟨_, rfl, seg_mem (i := 0) (j := 0) rfl rfl⟩) (fun hz => hz.elim (fun e => by cases e; exact Or.inr (Or.inr (hRo _ (Or.inl rfl)))) (fun e => by cases e; exact Or.inr (Or.inr (hRo _ (Or.inr rfl))))))) (fun v H4 locs4 S1 hQ hz4 hW4 => ?_)
  obtain ⟨rfl, rfl⟩ := hQ
  have hW4 : Ws G A s ([[(a, .inr (18, [.ref b, .int (nI 0), .int 0, .int (nI k)]))], [(b, .inl (G.2.2.1 3, 16, .inl (fun j => nI ((cpN t u 0 k n) j))))]]) H4 locs4 := hW4
  clear hW3
  refine W.eq (g2 := F0 m 33 ls2 []) rfl ?_
  refine lv_aload_n C.hx C.hb dJ27_append_33 rfl (lv_at hl2 1 rfl) ?_
  refine lv_dup C.hx C.hb dJ27_append_34 rfl ?_
  refine k_get (v := .int (nI k)) C clJ28 (hW4.get 0 0 rfl rfl) 3 (Nat.le_of_ble_eq_true rfl) rfl q490 rfl rfl dJ27_append_35 ?_
  refine lv_iload_n C.hx C.hb dJ27_append_38 rfl (lv_at hl2 0 rfl) ?_
  refine kn_iadd C  dJ27_append_39 ?_
  refine k_put (S' := [[(a, .inr (18, [.ref b, .int (nI 0), .int 0, .int (nI (k + n))]))], [(b, .inl (G.2.2.1 3, 16, .inl (fun j => nI ((cpN t u 0 k n) j))))]]) C clJ28 hW4 0 0 rfl rfl 3 (Nat.le_of_ble_eq_true rfl) rfl q490 rfl (fun _ h => h) (Or.inl rfl) (fty := .int) (v := .int (nI (k + n))) (by decide +kernel) rfl rfl (Nat.le_of_ble_eq_true rfl) dJ27_append_40 rfl (fun H5 locs5 hW5 => ?_)
  clear hW4
  refine lv_aload_n C.hx C.hb dJ27_append_43 rfl (lv_at hl2 1 rfl) ?_
  exact k_aret C hW5 rfl (Or.inl ⟨_, rfl⟩) (Or.inr ⟨_, rfl⟩) ⟨rfl, rfl⟩ (Nat.le_refl _) (Nat.le_refl _) dJ27_append_44

def Q_ctJ28_append_s (G : GT) (a b k a2 b2 n : Nat) (h2 z2 : Int32) (u t : Nat → Nat) : Option Value → List va_W → Prop := fun v S1 => v = some (.ref a) ∧ S1 = [[(a, .inr (18, [.ref b, .int (nI 0), .int 0, .int (nI (k + n))]))], [(b, .inl (G.2.2.1 3, 16, .inl (fun j => nI ((cpN t u 0 k n) j))))]]
set_option maxHeartbeats 4000000 in
set_option maxRecDepth 100000 in
theorem ctJ28_append_s (l : Launch) (G : GT) (a b k a2 b2 n : Nat) (h2 z2 : Int32) (u t : Nat → Nat) (hn : n ≤ 16) (hkn : k + n ≤ 16) (ht : ∀ j, j < n → t j < 128) : Ct l G yJ28_append cJ28_append 2 (some (.object "java/lang/StringBuilder")) 4 96 0 0 [.ref a, .ref a2] ([[(a, .inr (18, [.ref b, .int (nI 0), .int 0, .int (nI k)]))], [(b, .inl (G.2.2.1 3, 16, .inl (fun j => nI (u j))))]]) ((fun z => z = .inl (a2, .inr (17, [.ref b2, .int (nI 0), .int h2, .int z2])) ∨ z = .inl (b2, .inl (G.2.2.1 3, n, .inl (fun j => nI (t j)))))) (Q_ctJ28_append_s G a b k a2 b2 n h2 z2 u t) := by
  refine Ct.of (by decide +kernel) (Nat.le_of_ble_eq_true rfl) ?_
  intro p e s m below meth c A ls C hW hRo hl
  have hl : lv_has ls 2 [(0, .ref a), (1, .ref a2)] := hl
  refine lv_aload_n C.hx C.hb dJ28_append_0 rfl (lv_at hl 0 rfl) ?_
  refine lv_aload_n C.hx C.hb dJ28_append_1 rfl (lv_at hl 1 rfl) ?_
  refine k_callSU (Sc := [[(a, .inr (18, [.ref b, .int (nI 0), .int 0, .int (nI k)]))], [(b, .inl (G.2.2.1 3, 16, .inl (fun j => nI (u j))))]]) (Sr := []) (As := [.ref a2]) (rest := []) C (ctJ27_append_s l G a b k a2 b2 n h2 z2 u t hn hkn ht) hW clJ28 (hW.get 0 0 rfl rfl) q506 q2657 q499 q507 q105 q508 rfl ⟨by decide, Eq.trans (b := some 1) (by decide +kernel) rfl⟩ (Nat.le_of_ble_eq_true rfl) (Nat.le_of_ble_eq_true rfl) (Nat.le_refl _) (Nat.le_refl _) hl.1 rfl (Nat.le_of_ble_eq_true rfl) dJ28_append_2 ((pick_perm [[(a, .inr (18, [.ref b, .int (nI 0), .int 0, .int (nI k)]))], [(b, .inl (G.2.2.1 3, 16, .inl (fun j => nI (u j))))]] 2 rfl (is := [0, 1]) (by decide)).flatten.symm) (fun z => (fun hz => hz.elim (fun e => by cases e; exact Or.inr (Or.inr (hRo _ (Or.inl rfl)))) (fun e => by cases e; exact Or.inr (Or.inr (hRo _ (Or.inr rfl)))))) (fun v H1 locs1 S1 hQ hz1 hW1 => ?_)
  obtain ⟨rfl, rfl⟩ := hQ
  have hW1 : Ws G A s ([[(a, .inr (18, [.ref b, .int (nI 0), .int 0, .int (nI (k + n))]))], [(b, .inl (G.2.2.1 3, 16, .inl (fun j => nI ((cpN t u 0 k n) j))))]]) H1 locs1 := hW1
  clear hW
  refine W.eq (g2 := F0 m 5 ls [.ref a]) rfl ?_
  refine lv_pop C.hx C.hb dJ28_append_5 rfl ?_
  refine lv_aload_n C.hx C.hb dJ28_append_6 rfl (lv_at hl 0 rfl) ?_
  exact k_aret C hW1 rfl (Or.inl ⟨_, rfl⟩) (Or.inr ⟨_, rfl⟩) ⟨rfl, rfl⟩ (Nat.le_refl _) (Nat.le_refl _) dJ28_append_7

def Q_ctJ19_canEncode (G : GT) (ch : Nat) : Option Value → List va_W → Prop := fun v S1 => v = some (.int (nI 1)) ∧ S1 = []
set_option maxHeartbeats 4000000 in
set_option maxRecDepth 100000 in
theorem ctJ19_canEncode (l : Launch) (G : GT) (ch : Nat) (hc : ch < 128) : Ct l G yJ19_canEncode cJ19_canEncode 1 (some .boolean) 0 0 0 0 [.int (nI ch)] ([]) noR (Q_ctJ19_canEncode G ch) := by
  refine Ct.of (by decide +kernel) (Nat.le_of_ble_eq_true rfl) ?_
  intro p e s m below meth c A ls C hW hRo hl
  have hl : lv_has ls 1 [(0, .int (nI ch))] := hl
  refine lv_iload_n C.hx C.hb dJ19_canEncode_0 rfl (lv_at hl 0 rfl) ?_
  refine kn_sipush (a := 255) C (by decide) dJ19_canEncode_1 ?_
  refine kn_icmp_gt (tgt := 11) C (by omega) (by decide) dJ19_canEncode_4 (by decide) (fun c4 => (absurd c4 (by omega))) (fun c4 => ?_)
  refine kn_iconst (a := 1) C (by decide) dJ19_canEncode_7 ?_
  refine lv_goto (tgt := 12) C.hx C.hb dJ19_canEncode_8 (by decide) ?_
  exact k_zret C hW rfl (by decide) ⟨rfl, rfl⟩ (Nat.le_refl _) (Nat.le_refl _) dJ19_canEncode_12

def Q_ctJ27_append_c (G : GT) (a b k : Nat) (u : Nat → Nat) (ch : Nat) : Option Value → List va_W → Prop := fun v S1 => v = some (.ref a) ∧ S1 = [[(a, .inr (18, [.ref b, .int (nI 0), .int 0, .int (nI (k + 1))]))], [(b, .inl (G.2.2.1 3, 16, .inl (fun j => nI ((ptN u k ch) j))))]]
set_option maxHeartbeats 4000000 in
set_option maxRecDepth 100000 in
theorem ctJ27_append_c (l : Launch) (G : GT) (a b k : Nat) (u : Nat → Nat) (ch : Nat) (hk : k < 16) (hc : ch < 128) : Ct l G yJ27_append_3 cJ27_append_3 2 (some (.object "java/lang/AbstractStringBuilder")) 1 22 0 0 [.ref a, .int (nI ch)] ([[(a, .inr (18, [.ref b, .int (nI 0), .int 0, .int (nI k)]))], [(b, .inl (G.2.2.1 3, 16, .inl (fun j => nI (u j))))]]) noR (Q_ctJ27_append_c G a b k u ch) := by
  refine Ct.of (by decide +kernel) (Nat.le_of_ble_eq_true rfl) ?_
  intro p e s m below meth c A ls C hW hRo hl
  have hl : lv_has ls 2 [(0, .ref a), (1, .int (nI ch))] := hl
  refine lv_aload_n C.hx C.hb dJ27_append_3_0 rfl (lv_at hl 0 rfl) ?_
  refine lv_aload_n C.hx C.hb dJ27_append_3_1 rfl (lv_at hl 0 rfl) ?_
  refine k_get (v := .int (nI k)) C clJ28 (hW.get 0 0 rfl rfl) 3 (Nat.le_of_ble_eq_true rfl) rfl q490 rfl rfl dJ27_append_3_2 ?_
  refine kn_iconst (a := 1) C (by decide) dJ27_append_3_5 ?_
  refine kn_iadd C  dJ27_append_3_6 ?_
  refine k_callUP (owner := "java/lang/AbstractStringBuilder") (Sc := []) (Sr := [[(a, .inr (18, [.ref b, .int (nI 0), .int 0, .int (nI k)]))], [(b, .inl (G.2.2.1 3, 16, .inl (fun j => nI (u j))))]]) (As := [.int (nI (k + 1))]) (rest := []) C (ctJ27_ensureCapacityInternal l G a b k (k + 1) u (by omega)) hW clJ28 (hW.get 0 0 rfl rfl) q513 q2659 (List.mem_of_getElem? (i := 2) rfl) q515 q105 q516 rfl rfl ⟨by decide, by decide, Eq.trans (b := some 1) (by decide +kernel) rfl⟩ (Nat.le_of_ble_eq_true rfl) (Nat.le_of_ble_eq_true rfl) (Nat.le_refl _) (Nat.le_refl _) hl.1 rfl (Nat.le_of_ble_eq_true rfl) dJ27_append_3_7 (k_permR _) (fun z => (fun hz => hz.elim (fun e => by cases e; exact Or.inl ⟨_, rfl, seg_mem (i := 0) (j := 0) rfl rfl⟩) (fun e => by cases e; exact Or.inl ⟨_, rfl, seg_mem (i := 1) (j := 0) rfl rfl⟩))) (fun v H1 locs1 S1 hQ hz1 hW1 => ?_)
  obtain ⟨rfl, rfl⟩ := hQ
  have hW1 : Ws G A s ([[(a, .inr (18, [.ref b, .int (nI 0), .int 0, .int (nI k)]))], [(b, .inl (G.2.2.1 3, 16, .inl (fun j => nI (u j))))]]) H1 locs1 := hW1
  clear hW
  refine W.eq (g2 := F0 m 10 ls []) rfl ?_
  refine lv_aload_n C.hx C.hb dJ27_append_3_10 rfl (lv_at hl 0 rfl) ?_
  refine k_callU (owner := "java/lang/AbstractStringBuilder") (Sc := []) (Sr := [[(a, .inr (18, [.ref b, .int (nI 0), .int 0, .int (nI k)]))], [(b, .inl (G.2.2.1 3, 16, .inl (fun j => nI (u j))))]]) (As := []) (rest := []) C (ctJ27_isLatin1 l G a b k) hW1 clJ28 (hW1.get 0 0 rfl rfl) q548 q550 q551 q549 q105 q552 rfl rfl ⟨by decide, by decide, Eq.trans (b := some 0) (by decide +kernel) rfl⟩ (Nat.le_of_ble_eq_true rfl) (Nat.le_of_ble_eq_true rfl) (Nat.le_refl _) (Nat.le_refl _) hl.1 rfl (Nat.le_of_ble_eq_true rfl) dJ27_append_3_11 (k_permR _) (fun z hz => by cases hz; exact Or.inl ⟨_, rfl, seg_mem (i := 0) (j := 0) rfl rfl⟩) (fun v H2 locs2 S1 hQ hz2 hW2 => ?_)
  obtain ⟨rfl, rfl⟩ := hQ
  have hW2 : Ws G A s ([[(a, .inr (18, [.ref b, .int (nI 0), .int 0, .int (nI k)]))], [(b, .inl (G.2.2.1 3, 16, .inl (fun j => nI (u j))))]]) H2 locs2 := hW2
  clear hW1
  refine W.eq (g2 := F0 m 14 ls [.int (nI 1)]) rfl ?_
  refine kn_if_eq (tgt := 45) C (by decide) dJ27_append_3_14 (by decide) (fun cq => absurd cq (by decide)) (fun cq => ?_)
  refine lv_iload_n C.hx C.hb dJ27_append_3_17 rfl (lv_at hl 1 rfl) ?_
  refine k_callS (Sc := []) (Sr := [[(a, .inr (18, [.ref b, .int (nI 0), .int 0, .int (nI k)]))], [(b, .inl (G.2.2.1 3, 16, .inl (fun j => nI (u j))))]]) (As := [.int (nI ch)]) (rest := []) C (ctJ19_canEncode l G ch hc) hW2 q1892 q1893 q96 q1894 rfl ⟨by decide, by decide, Eq.trans (b := some 1) (by decide +kernel) rfl⟩ (Nat.le_of_ble_eq_true rfl) (Nat.le_of_ble_eq_true rfl) (Nat.le_refl _) (Nat.le_refl _) hl.1 rfl (Nat.le_of_ble_eq_true rfl) dJ27_append_3_18 (k_permR _) (fun _ h => h.elim) (fun v H3 locs3 S1 hQ hz3 hW3 => ?_)
  obtain ⟨rfl, rfl⟩ := hQ
  have hW3 : Ws G A s ([[(a, .inr (18, [.ref b, .int (nI 0), .int 0, .int (nI k)]))], [(b, .inl (G.2.2.1 3, 16, .inl (fun j => nI (u j))))]]) H3 locs3 := hW3
  clear hW2
  refine W.eq (g2 := F0 m 21 ls [.int (nI 1)]) rfl ?_
  refine kn_if_eq (tgt := 45) C (by decide) dJ27_append_3_21 (by decide) (fun cq => absurd cq (by decide)) (fun cq => ?_)
  refine lv_aload_n C.hx C.hb dJ27_append_3_24 rfl (lv_at hl 0 rfl) ?_
  refine k_get (v := .ref b) C clJ28 (hW3.get 0 0 rfl rfl) 0 (Nat.le_of_ble_eq_true rfl) rfl q487 rfl rfl dJ27_append_3_25 ?_
  refine lv_aload_n C.hx C.hb dJ27_append_3_28 rfl (lv_at hl 0 rfl) ?_
  refine lv_dup C.hx C.hb dJ27_append_3_29 rfl ?_
  refine k_get (v := .int (nI k)) C clJ28 (hW3.get 0 0 rfl rfl) 3 (Nat.le_of_ble_eq_true rfl) rfl q490 rfl rfl dJ27_append_3_30 ?_
  refine lv_dup_x1 C.hx C.hb dJ27_append_3_33 rfl rfl ?_
  refine kn_iconst (a := 1) C (by decide) dJ27_append_3_34 ?_
  refine kn_iadd C  dJ27_append_3_35 ?_
  refine k_put (S' := [[(a, .inr (18, [.ref b, .int (nI 0), .int 0, .int (nI (k + 1))]))], [(b, .inl (G.2.2.1 3, 16, .inl (fun j => nI (u j))))]]) C clJ28 hW3 0 0 rfl rfl 3 (Nat.le_of_ble_eq_true rfl) rfl q490 rfl (fun _ h => h) (Or.inl rfl) (fty := .int) (v := .int (nI (k + 1))) (by decide +kernel) rfl rfl (Nat.le_of_ble_eq_true rfl) dJ27_append_3_36 rfl (fun H4 locs4 hW4 => ?_)
  clear hW3
  refine lv_iload_n C.hx C.hb dJ27_append_3_39 rfl (lv_at hl 1 rfl) ?_
  refine lv_i2b C.hx C.hb dJ27_append_3_40 (i2b_b _ hc) ?_
  refine k_bast (S' := [[(a, .inr (18, [.ref b, .int (nI 0), .int 0, .int (nI (k + 1))]))], [(b, .inl (G.2.2.1 3, 16, .inl (fun j => nI (ptN u k ch j))))]]) C hW4 1 0 rfl rfl rfl (by omega) (by decide) dJ27_append_3_41 (by rw [ptN_eq _ _ _ (hc)]; rfl) (fun H5 locs5 hW5 => ?_)
  clear hW4
  refine lv_goto (tgt := 75) C.hx C.hb dJ27_append_3_42 (by decide) ?_
  refine lv_aload_n C.hx C.hb dJ27_append_3_75 rfl (lv_at hl 0 rfl) ?_
  exact k_aret C hW5 rfl (Or.inl ⟨_, rfl⟩) (Or.inr ⟨_, rfl⟩) ⟨rfl, rfl⟩ (Nat.le_refl _) (Nat.le_refl _) dJ27_append_3_76

def Q_ctJ28_append_c (G : GT) (a b k : Nat) (u : Nat → Nat) (ch : Nat) : Option Value → List va_W → Prop := fun v S1 => v = some (.ref a) ∧ S1 = [[(a, .inr (18, [.ref b, .int (nI 0), .int 0, .int (nI (k + 1))]))], [(b, .inl (G.2.2.1 3, 16, .inl (fun j => nI ((ptN u k ch) j))))]]
set_option maxHeartbeats 4000000 in
set_option maxRecDepth 100000 in
theorem ctJ28_append_c (l : Launch) (G : GT) (a b k : Nat) (u : Nat → Nat) (ch : Nat) (hk : k < 16) (hc : ch < 128) : Ct l G yJ28_append_3 cJ28_append_3 2 (some (.object "java/lang/StringBuilder")) 2 43 0 0 [.ref a, .int (nI ch)] ([[(a, .inr (18, [.ref b, .int (nI 0), .int 0, .int (nI k)]))], [(b, .inl (G.2.2.1 3, 16, .inl (fun j => nI (u j))))]]) noR (Q_ctJ28_append_c G a b k u ch) := by
  refine Ct.of (by decide +kernel) (Nat.le_of_ble_eq_true rfl) ?_
  intro p e s m below meth c A ls C hW hRo hl
  have hl : lv_has ls 2 [(0, .ref a), (1, .int (nI ch))] := hl
  refine lv_aload_n C.hx C.hb dJ28_append_3_0 rfl (lv_at hl 0 rfl) ?_
  refine lv_iload_n C.hx C.hb dJ28_append_3_1 rfl (lv_at hl 1 rfl) ?_
  refine k_callSU (Sc := [[(a, .inr (18, [.ref b, .int (nI 0), .int 0, .int (nI k)]))], [(b, .inl (G.2.2.1 3, 16, .inl (fun j => nI (u j))))]]) (Sr := []) (As := [.int (nI ch)]) (rest := []) C (ctJ27_append_c l G a b k u ch hk hc) hW clJ28 (hW.get 0 0 rfl rfl) q1889 q2672 q499 q1890 q105 q1891 rfl ⟨by decide, Eq.trans (b := some 1) (by decide +kernel) rfl⟩ (Nat.le_of_ble_eq_true rfl) (Nat.le_of_ble_eq_true rfl) (Nat.le_refl _) (Nat.le_refl _) hl.1 rfl (Nat.le_of_ble_eq_true rfl) dJ28_append_3_2 ((pick_perm [[(a, .inr (18, [.ref b, .int (nI 0), .int 0, .int (nI k)]))], [(b, .inl (G.2.2.1 3, 16, .inl (fun j => nI (u j))))]] 2 rfl (is := [0, 1]) (by decide)).flatten.symm) (fun _ h => h.elim) (fun v H1 locs1 S1 hQ hz1 hW1 => ?_)
  obtain ⟨rfl, rfl⟩ := hQ
  have hW1 : Ws G A s ([[(a, .inr (18, [.ref b, .int (nI 0), .int 0, .int (nI (k + 1))]))], [(b, .inl (G.2.2.1 3, 16, .inl (fun j => nI ((ptN u k ch) j))))]]) H1 locs1 := hW1
  clear hW
  refine W.eq (g2 := F0 m 5 ls [.ref a]) rfl ?_
  refine lv_pop C.hx C.hb dJ28_append_3_5 rfl ?_
  refine lv_aload_n C.hx C.hb dJ28_append_3_6 rfl (lv_at hl 0 rfl) ?_
  exact k_aret C hW1 rfl (Or.inl ⟨_, rfl⟩) (Or.inr ⟨_, rfl⟩) ⟨rfl, rfl⟩ (Nat.le_refl _) (Nat.le_refl _) dJ28_append_3_7

def Q_ctJ16_stringSize_1 (G : GT) (i : Nat) : Option Value → List va_W → Prop := fun v S1 => v = some (.int (nI 1)) ∧ S1 = []
set_option maxHeartbeats 4000000 in
set_option maxRecDepth 100000 in
theorem ctJ16_stringSize_1 (l : Launch) (G : GT) (i : Nat) (h10 : i < 10) (hi : i < 2 ^ 31) : Ct l G yJ16_stringSize cJ16_stringSize 4 (some .int) 0 0 0 0 [.int (nI i)] ([]) noR (Q_ctJ16_stringSize_1 G i) := by
  refine Ct.of (by decide +kernel) (Nat.le_of_ble_eq_true rfl) ?_
  intro p e s m below meth c A ls C hW hRo hl
  have hl : lv_has ls 4 [(0, .int (nI i))] := hl
  refine kn_iconst (a := 1) C (by decide) dJ16_stringSize_0 ?_
  refine lv_istore_n (lv' := [(1, .int (nI 1)), (0, .int (nI i))]) C.hx C.hb dJ16_stringSize_1 rfl hl (Nat.le_of_ble_eq_true rfl) rfl (fun ls1 hl1 => ?_)
  clear hl
  refine lv_iload_n C.hx C.hb dJ16_stringSize_2 rfl (lv_at hl1 1 rfl) ?_
  refine kn_if_lt (tgt := 11) C (by omega) dJ16_stringSize_3 (by decide) ?_
  refine kn_iconst (a := 0) C (by decide) dJ16_stringSize_6 ?_
  refine lv_istore_n (lv' := [(1, .int (nI 0)), (0, .int (nI i))]) C.hx C.hb dJ16_stringSize_7 rfl hl1 (Nat.le_of_ble_eq_true rfl) rfl (fun ls2 hl2 => ?_)
  clear hl1
  refine lv_iload_n C.hx C.hb dJ16_stringSize_8 rfl (lv_at hl2 1 rfl) ?_
  refine lv_ineg C.hx C.hb dJ16_stringSize_9 ?_
  refine lv_istore_n (lv' := [(0, .int (-nI i)), (1, .int (nI 0))]) C.hx C.hb dJ16_stringSize_10 rfl hl2 (Nat.le_of_ble_eq_true rfl) rfl (fun ls3 hl3 => ?_)
  clear hl2
  refine lv_bipush (v := (-10)) C.hx C.hb dJ16_stringSize_11 (by decide) ?_
  refine lv_istore_n (lv' := [(2, .int (-10)), (0, .int (-nI i)), (1, .int (nI 0))]) C.hx C.hb dJ16_stringSize_13 rfl hl3 (Nat.le_of_ble_eq_true rfl) rfl (fun ls4 hl4 => ?_)
  clear hl3
  refine kn_iconst (a := 1) C (by decide) dJ16_stringSize_14 ?_
  refine lv_istore_n (lv' := [(3, .int (nI 1)), (2, .int (-10)), (0, .int (-nI i)), (1, .int (nI 0))]) C.hx C.hb dJ16_stringSize_15 rfl hl4 (Nat.le_of_ble_eq_true rfl) rfl (fun ls5 hl5 => ?_)
  clear hl4
  refine lv_iload_n C.hx C.hb dJ16_stringSize_16 rfl (lv_at hl5 0 rfl) ?_
  refine kn_bipush (a := 10) C (by decide) dJ16_stringSize_17 ?_
  refine kn_icmp_ge (tgt := 42) C (by decide) (by decide) dJ16_stringSize_19 (by decide) (fun cq => absurd cq (by decide)) (fun cq => ?_)
  refine lv_iload_n C.hx C.hb dJ16_stringSize_22 rfl (lv_at hl5 2 rfl) ?_
  refine lv_iload_n C.hx C.hb dJ16_stringSize_23 rfl (lv_at hl5 1 rfl) ?_
  refine lv_icmp_le (tgt := 31) C.hx C.hb dJ16_stringSize_24 (by decide) (fun c24 => (absurd c24 (ng_le1 i h10))) (fun c24 => ?_)
  refine lv_iload_n C.hx C.hb dJ16_stringSize_27 rfl (lv_at hl5 0 rfl) ?_
  refine lv_iload_n C.hx C.hb dJ16_stringSize_28 rfl (lv_at hl5 3 rfl) ?_
  refine kn_iadd C  dJ16_stringSize_29 ?_
  exact k_iret C hW rfl ⟨rfl, rfl⟩ (Nat.le_refl _) (Nat.le_refl _) dJ16_stringSize_30

def Q_ctJ16_getChars_1 (G : GT) (i k b : Nat) (u : Nat → Nat) : Option Value → List va_W → Prop := fun v S1 => v = some (.int (nI k)) ∧ S1 = [[(b, .inl (G.2.2.1 3, 16, .inl (fun j => nI ((ptN u k (48 + i % 10)) j))))]]
set_option maxHeartbeats 4000000 in
set_option maxRecDepth 100000 in
theorem ctJ16_getChars_1 (l : Launch) (G : GT) (i k b : Nat) (u : Nat → Nat) (h10 : i < 10) (hi : i < 12) (hk : k + 1 ≤ 16) : Ct l G yJ16_getChars cJ16_getChars 7 (some .int) 0 0 0 0 [.int (nI i), .int (nI (k + 1)), .ref b] ([[(b, .inl (G.2.2.1 3, 16, .inl (fun j => nI (u j))))]]) noR (Q_ctJ16_getChars_1 G i k b u) := by
  refine Ct.of (by decide +kernel) (Nat.le_of_ble_eq_true rfl) ?_
  intro p e s m below meth c A ls C hW hRo hl
  have hl : lv_has ls 7 [(0, .int (nI i)), (1, .int (nI (k + 1))), (2, .ref b)] := hl
  refine lv_iload_n C.hx C.hb dJ16_getChars_0 rfl (lv_at hl 1 rfl) ?_
  refine lv_istore (lv' := [(5, .int (nI (k + 1))), (0, .int (nI i)), (1, .int (nI (k + 1))), (2, .ref b)]) C.hx C.hb dJ16_getChars_1 hl (Nat.le_of_ble_eq_true rfl) rfl (fun ls1 hl1 => ?_)
  clear hl
  refine lv_iload_n C.hx C.hb dJ16_getChars_3 rfl (lv_at hl1 1 rfl) ?_
  refine kn_if_ge (tgt := 11) C (by omega) dJ16_getChars_4 (by decide) ?_
  refine kn_iconst (a := 0) C (by decide) dJ16_getChars_11 ?_
  refine lv_istore (lv' := [(6, .int (nI 0)), (5, .int (nI (k + 1))), (0, .int (nI i)), (1, .int (nI (k + 1))), (2, .ref b)]) C.hx C.hb dJ16_getChars_12 hl1 (Nat.le_of_ble_eq_true rfl) rfl (fun ls2 hl2 => ?_)
  clear hl1
  refine lv_iload C.hx C.hb dJ16_getChars_14 (lv_at hl2 0 rfl) ?_
  refine kn_if_ne (tgt := 22) C (by decide) dJ16_getChars_16 (by decide) (fun cq => absurd cq (by decide)) (fun cq => ?_)
  refine lv_iload_n C.hx C.hb dJ16_getChars_19 rfl (lv_at hl2 2 rfl) ?_
  refine lv_ineg C.hx C.hb dJ16_getChars_20 ?_
  refine lv_istore_n (lv' := [(0, .int (-nI i)), (6, .int (nI 0)), (5, .int (nI (k + 1))), (1, .int (nI (k + 1))), (2, .ref b)]) C.hx C.hb dJ16_getChars_21 rfl hl2 (Nat.le_of_ble_eq_true rfl) rfl (fun ls3 hl3 => ?_)
  clear hl2
  refine lv_iload_n C.hx C.hb dJ16_getChars_22 rfl (lv_at hl3 0 rfl) ?_
  refine lv_bipush (v := (-100)) C.hx C.hb dJ16_getChars_23 (by decide) ?_
  refine lv_icmp_gt (tgt := 72) C.hx C.hb dJ16_getChars_25 (by decide) (fun c25 => ?_) (fun c25 => (absurd (ng_100 i hi) c25))
  refine lv_aload_n C.hx C.hb dJ16_getChars_72 rfl (lv_at hl3 4 rfl) ?_
  refine kn_idec (lv' := [(5, .int (nI ((k + 1) - 1))), (0, .int (-nI i)), (6, .int (nI 0)), (1, .int (nI (k + 1))), (2, .ref b)]) (k := 2) C (by omega) dJ16_getChars_73 hl3 rfl (Nat.le_of_ble_eq_true rfl) rfl (fun ls4 hl4 => ?_)
  clear hl3
  refine lv_iload C.hx C.hb dJ16_getChars_76 (lv_at hl4 0 rfl) ?_
  refine k_gets C hW (List.mem_of_getElem? (i := 7) rfl) q635 rfl dJ16_getChars_78 ?_
  refine lv_iload_n C.hx C.hb dJ16_getChars_81 rfl (lv_at hl4 1 rfl) ?_
  refine lv_ineg C.hx C.hb dJ16_getChars_82 ?_
  refine k_op (y := .int (nI i)) (congrArg Value.int (ng_ng i)) ?_
  refine k_bald C (f := (fun j => nI (48 + j % 10))) rfl ((Ro_ones C.hX hW.2.2.2.2).at hW) (by omega) (by decide) dJ16_getChars_83 ?_
  refine k_bast (S' := [[(b, .inl (G.2.2.1 3, 16, .inl (fun j => nI (ptN u ((k + 1) - 1) (48 + i % 10) j))))]]) C hW 0 0 rfl rfl rfl (by omega) (by decide) dJ16_getChars_84 (by rw [ptN_eq _ _ _ (by omega)]; rfl) (fun H5 locs5 hW5 => ?_)
  clear hW
  refine lv_iload_n C.hx C.hb dJ16_getChars_85 rfl (lv_at hl4 1 rfl) ?_
  refine lv_bipush (v := (-9)) C.hx C.hb dJ16_getChars_86 (by decide) ?_
  refine lv_icmp_ge (tgt := 104) C.hx C.hb dJ16_getChars_88 (by decide) (fun c88 => ?_) (fun c88 => (absurd (ng_9a i h10) c88))
  refine lv_iload C.hx C.hb dJ16_getChars_104 (lv_at hl4 2 rfl) ?_
  refine kn_if_eq (tgt := 118) C (by decide) dJ16_getChars_106 (by decide) (fun cq => ?_) (fun cq => absurd cq (by decide))
  refine lv_iload C.hx C.hb dJ16_getChars_118 (lv_at hl4 0 rfl) ?_
  exact k_iret C hW5 rfl ⟨rfl, rfl⟩ (Nat.le_refl _) (Nat.le_refl _) dJ16_getChars_120

def Q_ctJ27_append_i1 (G : GT) (a b k : Nat) (u : Nat → Nat) (i : Nat) : Option Value → List va_W → Prop := fun v S1 => v = some (.ref a) ∧ S1 = [[(a, .inr (18, [.ref b, .int (nI 0), .int 0, .int (nI (k + 1))]))], [(b, .inl (G.2.2.1 3, 16, .inl (fun j => nI ((ptN u k (48 + i % 10)) j))))]]
set_option maxHeartbeats 4000000 in
set_option maxRecDepth 100000 in
theorem ctJ27_append_i1 (l : Launch) (G : GT) (a b k : Nat) (u : Nat → Nat) (i : Nat) (h10 : i < 10) (hi : i < 12) (hk : k + 1 ≤ 16) : Ct l G yJ27_append_2 cJ27_append_2 4 (some (.object "java/lang/AbstractStringBuilder")) 1 26 0 0 [.ref a, .int (nI i)] ([[(a, .inr (18, [.ref b, .int (nI 0), .int 0, .int (nI k)]))], [(b, .inl (G.2.2.1 3, 16, .inl (fun j => nI (u j))))]]) noR (Q_ctJ27_append_i1 G a b k u i) := by
  refine Ct.of (by decide +kernel) (Nat.le_of_ble_eq_true rfl) ?_
  intro p e s m below meth c A ls C hW hRo hl
  have hl : lv_has ls 4 [(0, .ref a), (1, .int (nI i))] := hl
  refine lv_aload_n C.hx C.hb dJ27_append_2_0 rfl (lv_at hl 0 rfl) ?_
  refine k_get (v := .int (nI k)) C clJ28 (hW.get 0 0 rfl rfl) 3 (Nat.le_of_ble_eq_true rfl) rfl q490 rfl rfl dJ27_append_2_1 ?_
  refine lv_istore_n (lv' := [(2, .int (nI k)), (0, .ref a), (1, .int (nI i))]) C.hx C.hb dJ27_append_2_4 rfl hl (Nat.le_of_ble_eq_true rfl) rfl (fun ls1 hl1 => ?_)
  clear hl
  refine lv_iload_n C.hx C.hb dJ27_append_2_5 rfl (lv_at hl1 0 rfl) ?_
  refine lv_iload_n C.hx C.hb dJ27_append_2_6 rfl (lv_at hl1 2 rfl) ?_
  refine k_callS (Sc := []) (Sr := [[(a, .inr (18, [.ref b, .int (nI 0), .int 0, .int (nI k)]))], [(b, .inl (G.2.2.1 3, 16, .inl (fun j => nI (u j))))]]) (As := [.int (nI i)]) (rest := [.int (nI k)]) C (ctJ16_stringSize_1 l G i h10 (by omega)) hW q629 q630 q92 q631 rfl ⟨by decide, by decide, Eq.trans (b := some 1) (by decide +kernel) rfl⟩ (Nat.le_of_ble_eq_true rfl) (Nat.le_of_ble_eq_true rfl) (Nat.le_refl _) (Nat.le_refl _) hl1.1 rfl (Nat.le_of_ble_eq_true rfl) dJ27_append_2_7 (k_permR _) (fun _ h => h.elim) (fun v H2 locs2 S1 hQ hz2 hW2 => ?_)
  obtain ⟨rfl, rfl⟩ := hQ
  have hW2 : Ws G A s ([[(a, .inr (18, [.ref b, .int (nI 0), .int 0, .int (nI k)]))], [(b, .inl (G.2.2.1 3, 16, .inl (fun j => nI (u j))))]]) H2 locs2 := hW2
  clear hW
  refine W.eq (g2 := F0 m 10 ls1 [.int (nI 1), .int (nI k)]) rfl ?_
  refine kn_iadd C  dJ27_append_2_10 ?_
  refine lv_istore_n (lv' := [(3, .int (nI (k + 1))), (2, .int (nI k)), (0, .ref a), (1, .int (nI i))]) C.hx C.hb dJ27_append_2_11 rfl hl1 (Nat.le_of_ble_eq_true rfl) rfl (fun ls3 hl3 => ?_)
  clear hl1
  refine lv_aload_n C.hx C.hb dJ27_append_2_12 rfl (lv_at hl3 2 rfl) ?_
  refine lv_iload_n C.hx C.hb dJ27_append_2_13 rfl (lv_at hl3 0 rfl) ?_
  refine k_callUP (owner := "java/lang/AbstractStringBuilder") (Sc := []) (Sr := [[(a, .inr (18, [.ref b, .int (nI 0), .int 0, .int (nI k)]))], [(b, .inl (G.2.2.1 3, 16, .inl (fun j => nI (u j))))]]) (As := [.int (nI (k + 1))]) (rest := []) C (ctJ27_ensureCapacityInternal l G a b k (k + 1) u (by omega)) hW2 clJ28 (hW2.get 0 0 rfl rfl) q513 q2659 (List.mem_of_getElem? (i := 2) rfl) q515 q105 q516 rfl rfl ⟨by decide, by decide, Eq.trans (b := some 1) (by decide +kernel) rfl⟩ (Nat.le_of_ble_eq_true rfl) (Nat.le_of_ble_eq_true rfl) (Nat.le_refl _) (Nat.le_refl _) hl3.1 rfl (Nat.le_of_ble_eq_true rfl) dJ27_append_2_14 (k_permR _) (fun z => (fun hz => hz.elim (fun e => by cases e; exact Or.inl ⟨_, rfl, seg_mem (i := 0) (j := 0) rfl rfl⟩) (fun e => by cases e; exact Or.inl ⟨_, rfl, seg_mem (i := 1) (j := 0) rfl rfl⟩))) (fun v H4 locs4 S1 hQ hz4 hW4 => ?_)
  obtain ⟨rfl, rfl⟩ := hQ
  have hW4 : Ws G A s ([[(a, .inr (18, [.ref b, .int (nI 0), .int 0, .int (nI k)]))], [(b, .inl (G.2.2.1 3, 16, .inl (fun j => nI (u j))))]]) H4 locs4 := hW4
  clear hW2
  refine W.eq (g2 := F0 m 17 ls3 []) rfl ?_
  refine lv_aload_n C.hx C.hb dJ27_append_2_17 rfl (lv_at hl3 2 rfl) ?_
  refine k_callU (owner := "java/lang/AbstractStringBuilder") (Sc := []) (Sr := [[(a, .inr (18, [.ref b, .int (nI 0), .int 0, .int (nI k)]))], [(b, .inl (G.2.2.1 3, 16, .inl (fun j => nI (u j))))]]) (As := []) (rest := []) C (ctJ27_isLatin1 l G a b k) hW4 clJ28 (hW4.get 0 0 rfl rfl) q548 q550 q551 q549 q105 q552 rfl rfl ⟨by decide, by decide, Eq.trans (b := some 0) (by decide +kernel) rfl⟩ (Nat.le_of_ble_eq_true rfl) (Nat.le_of_ble_eq_true rfl) (Nat.le_refl _) (Nat.le_refl _) hl3.1 rfl (Nat.le_of_ble_eq_true rfl) dJ27_append_2_18 (k_permR _) (fun z hz => by cases hz; exact Or.inl ⟨_, rfl, seg_mem (i := 0) (j := 0) rfl rfl⟩) (fun v H5 locs5 S1 hQ hz5 hW5 => ?_)
  obtain ⟨rfl, rfl⟩ := hQ
  have hW5 : Ws G A s ([[(a, .inr (18, [.ref b, .int (nI 0), .int 0, .int (nI k)]))], [(b, .inl (G.2.2.1 3, 16, .inl (fun j => nI (u j))))]]) H5 locs5 := hW5
  clear hW4
  refine W.eq (g2 := F0 m 21 ls3 [.int (nI 1)]) rfl ?_
  refine kn_if_eq (tgt := 37) C (by decide) dJ27_append_2_21 (by decide) (fun cq => absurd cq (by decide)) (fun cq => ?_)
  refine lv_iload_n C.hx C.hb dJ27_append_2_24 rfl (lv_at hl3 3 rfl) ?_
  refine lv_iload_n C.hx C.hb dJ27_append_2_25 rfl (lv_at hl3 0 rfl) ?_
  refine lv_aload_n C.hx C.hb dJ27_append_2_26 rfl (lv_at hl3 2 rfl) ?_
  refine k_get (v := .ref b) C clJ28 (hW5.get 0 0 rfl rfl) 0 (Nat.le_of_ble_eq_true rfl) rfl q487 rfl rfl dJ27_append_2_27 ?_
  refine k_callS (Sc := [[(b, .inl (G.2.2.1 3, 16, .inl (fun j => nI (u j))))]]) (Sr := [[(a, .inr (18, [.ref b, .int (nI 0), .int 0, .int (nI k)]))]]) (As := [.int (nI i), .int (nI (k + 1)), .ref b]) (rest := []) C (ctJ16_getChars_1 l G i k b u h10 hi hk) hW5 q632 q633 q92 q634 rfl ⟨by decide, by decide, Eq.trans (b := some 3) (by decide +kernel) rfl⟩ (Nat.le_of_ble_eq_true rfl) (Nat.le_of_ble_eq_true rfl) (Nat.le_refl _) (Nat.le_refl _) hl3.1 rfl (Nat.le_of_ble_eq_true rfl) dJ27_append_2_30 ((pick_perm [[(a, .inr (18, [.ref b, .int (nI 0), .int 0, .int (nI k)]))], [(b, .inl (G.2.2.1 3, 16, .inl (fun j => nI (u j))))]] 2 rfl (is := [0, 1]) (by decide)).flatten.symm) (fun _ h => h.elim) (fun v H6 locs6 S1 hQ hz6 hW6 => ?_)
  obtain ⟨rfl, rfl⟩ := hQ
  have hW6 : Ws G A s ([[(a, .inr (18, [.ref b, .int (nI 0), .int 0, .int (nI k)]))], [(b, .inl (G.2.2.1 3, 16, .inl (fun j => nI ((ptN u k (48 + i % 10)) j))))]]) H6 locs6 := hW6
  clear hW5
  refine W.eq (g2 := F0 m 33 ls3 [.int (nI k)]) rfl ?_
  refine lv_pop C.hx C.hb dJ27_append_2_33 rfl ?_
  refine lv_goto (tgt := 48) C.hx C.hb dJ27_append_2_34 (by decide) ?_
  refine lv_aload_n C.hx C.hb dJ27_append_2_48 rfl (lv_at hl3 2 rfl) ?_
  refine lv_iload_n C.hx C.hb dJ27_append_2_49 rfl (lv_at hl3 0 rfl) ?_
  refine k_put (S' := [[(a, .inr (18, [.ref b, .int (nI 0), .int 0, .int (nI (k + 1))]))], [(b, .inl (G.2.2.1 3, 16, .inl (fun j => nI ((ptN u k (48 + i % 10)) j))))]]) C clJ28 hW6 0 0 rfl rfl 3 (Nat.le_of_ble_eq_true rfl) rfl q490 rfl (fun _ h => h) (Or.inl rfl) (fty := .int) (v := .int (nI (k + 1))) (by decide +kernel) rfl rfl (Nat.le_of_ble_eq_true rfl) dJ27_append_2_50 rfl (fun H7 locs7 hW7 => ?_)
  clear hW6
  refine lv_aload_n C.hx C.hb dJ27_append_2_53 rfl (lv_at hl3 2 rfl) ?_
  exact k_aret C hW7 rfl (Or.inl ⟨_, rfl⟩) (Or.inr ⟨_, rfl⟩) ⟨rfl, rfl⟩ (Nat.le_refl _) (Nat.le_refl _) dJ27_append_2_54

def Q_ctJ28_append_i1 (G : GT) (a b k : Nat) (u : Nat → Nat) (i : Nat) : Option Value → List va_W → Prop := fun v S1 => v = some (.ref a) ∧ S1 = [[(a, .inr (18, [.ref b, .int (nI 0), .int 0, .int (nI (k + 1))]))], [(b, .inl (G.2.2.1 3, 16, .inl (fun j => nI ((ptN u k (48 + i % 10)) j))))]]
set_option maxHeartbeats 4000000 in
set_option maxRecDepth 100000 in
theorem ctJ28_append_i1 (l : Launch) (G : GT) (a b k : Nat) (u : Nat → Nat) (i : Nat) (h10 : i < 10) (hi : i < 12) (hk : k + 1 ≤ 16) : Ct l G yJ28_append_2 cJ28_append_2 2 (some (.object "java/lang/StringBuilder")) 2 49 0 0 [.ref a, .int (nI i)] ([[(a, .inr (18, [.ref b, .int (nI 0), .int 0, .int (nI k)]))], [(b, .inl (G.2.2.1 3, 16, .inl (fun j => nI (u j))))]]) noR (Q_ctJ28_append_i1 G a b k u i) := by
  refine Ct.of (by decide +kernel) (Nat.le_of_ble_eq_true rfl) ?_
  intro p e s m below meth c A ls C hW hRo hl
  have hl : lv_has ls 2 [(0, .ref a), (1, .int (nI i))] := hl
  refine lv_aload_n C.hx C.hb dJ28_append_2_0 rfl (lv_at hl 0 rfl) ?_
  refine lv_iload_n C.hx C.hb dJ28_append_2_1 rfl (lv_at hl 1 rfl) ?_
  refine k_callSU (Sc := [[(a, .inr (18, [.ref b, .int (nI 0), .int 0, .int (nI k)]))], [(b, .inl (G.2.2.1 3, 16, .inl (fun j => nI (u j))))]]) (Sr := []) (As := [.int (nI i)]) (rest := []) C (ctJ27_append_i1 l G a b k u i h10 hi hk) hW clJ28 (hW.get 0 0 rfl rfl) q626 q2664 q499 q627 q105 q628 rfl ⟨by decide, Eq.trans (b := some 1) (by decide +kernel) rfl⟩ (Nat.le_of_ble_eq_true rfl) (Nat.le_of_ble_eq_true rfl) (Nat.le_refl _) (Nat.le_refl _) hl.1 rfl (Nat.le_of_ble_eq_true rfl) dJ28_append_2_2 ((pick_perm [[(a, .inr (18, [.ref b, .int (nI 0), .int 0, .int (nI k)]))], [(b, .inl (G.2.2.1 3, 16, .inl (fun j => nI (u j))))]] 2 rfl (is := [0, 1]) (by decide)).flatten.symm) (fun _ h => h.elim) (fun v H1 locs1 S1 hQ hz1 hW1 => ?_)
  obtain ⟨rfl, rfl⟩ := hQ
  have hW1 : Ws G A s ([[(a, .inr (18, [.ref b, .int (nI 0), .int 0, .int (nI (k + 1))]))], [(b, .inl (G.2.2.1 3, 16, .inl (fun j => nI ((ptN u k (48 + i % 10)) j))))]]) H1 locs1 := hW1
  clear hW
  refine W.eq (g2 := F0 m 5 ls [.ref a]) rfl ?_
  refine lv_pop C.hx C.hb dJ28_append_2_5 rfl ?_
  refine lv_aload_n C.hx C.hb dJ28_append_2_6 rfl (lv_at hl 0 rfl) ?_
  exact k_aret C hW1 rfl (Or.inl ⟨_, rfl⟩) (Or.inr ⟨_, rfl⟩) ⟨rfl, rfl⟩ (Nat.le_refl _) (Nat.le_refl _) dJ28_append_2_7

def Q_ctJ16_stringSize_2 (G : GT) (i : Nat) : Option Value → List va_W → Prop := fun v S1 => v = some (.int (nI 2)) ∧ S1 = []
set_option maxHeartbeats 4000000 in
set_option maxRecDepth 100000 in
theorem ctJ16_stringSize_2 (l : Launch) (G : GT) (i : Nat) (h10 : 10 ≤ i) (h12 : i < 12) : Ct l G yJ16_stringSize cJ16_stringSize 4 (some .int) 0 0 0 0 [.int (nI i)] ([]) noR (Q_ctJ16_stringSize_2 G i) := by
  refine Ct.of (by decide +kernel) (Nat.le_of_ble_eq_true rfl) ?_
  intro p e s m below meth c A ls C hW hRo hl
  have hl : lv_has ls 4 [(0, .int (nI i))] := hl
  refine kn_iconst (a := 1) C (by decide) dJ16_stringSize_0 ?_
  refine lv_istore_n (lv' := [(1, .int (nI 1)), (0, .int (nI i))]) C.hx C.hb dJ16_stringSize_1 rfl hl (Nat.le_of_ble_eq_true rfl) rfl (fun ls1 hl1 => ?_)
  clear hl
  refine lv_iload_n C.hx C.hb dJ16_stringSize_2 rfl (lv_at hl1 1 rfl) ?_
  refine kn_if_lt (tgt := 11) C (by omega) dJ16_stringSize_3 (by decide) ?_
  refine kn_iconst (a := 0) C (by decide) dJ16_stringSize_6 ?_
  refine lv_istore_n (lv' := [(1, .int (nI 0)), (0, .int (nI i))]) C.hx C.hb dJ16_stringSize_7 rfl hl1 (Nat.le_of_ble_eq_true rfl) rfl (fun ls2 hl2 => ?_)
  clear hl1
  refine lv_iload_n C.hx C.hb dJ16_stringSize_8 rfl (lv_at hl2 1 rfl) ?_
  refine lv_ineg C.hx C.hb dJ16_stringSize_9 ?_
  refine lv_istore_n (lv' := [(0, .int (-nI i)), (1, .int (nI 0))]) C.hx C.hb dJ16_stringSize_10 rfl hl2 (Nat.le_of_ble_eq_true rfl) rfl (fun ls3 hl3 => ?_)
  clear hl2
  refine lv_bipush (v := (-10)) C.hx C.hb dJ16_stringSize_11 (by decide) ?_
  refine lv_istore_n (lv' := [(2, .int (-10)), (0, .int (-nI i)), (1, .int (nI 0))]) C.hx C.hb dJ16_stringSize_13 rfl hl3 (Nat.le_of_ble_eq_true rfl) rfl (fun ls4 hl4 => ?_)
  clear hl3
  refine kn_iconst (a := 1) C (by decide) dJ16_stringSize_14 ?_
  refine lv_istore_n (lv' := [(3, .int (nI 1)), (2, .int (-10)), (0, .int (-nI i)), (1, .int (nI 0))]) C.hx C.hb dJ16_stringSize_15 rfl hl4 (Nat.le_of_ble_eq_true rfl) rfl (fun ls5 hl5 => ?_)
  clear hl4
  refine lv_iload_n C.hx C.hb dJ16_stringSize_16 rfl (lv_at hl5 0 rfl) ?_
  refine kn_bipush (a := 10) C (by decide) dJ16_stringSize_17 ?_
  refine kn_icmp_ge (tgt := 42) C (by decide) (by decide) dJ16_stringSize_19 (by decide) (fun cq => absurd cq (by decide)) (fun cq => ?_)
  refine lv_iload_n C.hx C.hb dJ16_stringSize_22 rfl (lv_at hl5 2 rfl) ?_
  refine lv_iload_n C.hx C.hb dJ16_stringSize_23 rfl (lv_at hl5 1 rfl) ?_
  refine lv_icmp_le (tgt := 31) C.hx C.hb dJ16_stringSize_24 (by decide) (fun _ => ?_) (fun q => absurd (ng_le2 i h12 h10) q)
  refine kn_bipush (a := 10) C (by decide) dJ16_stringSize_31 ?_
  refine lv_iload_n C.hx C.hb dJ16_stringSize_33 rfl (lv_at hl5 1 rfl) ?_
  refine lv_imul C.hx C.hb dJ16_stringSize_34 ?_
  refine lv_istore_n (lv' := [(2, .int ((nI 10) * (-10))), (3, .int (nI 1)), (0, .int (-nI i)), (1, .int (nI 0))]) C.hx C.hb dJ16_stringSize_35 rfl hl5 (Nat.le_of_ble_eq_true rfl) rfl (fun ls6 hl6 => ?_)
  clear hl5
  refine kn_iinc (lv' := [(3, .int (nI 2)), (2, .int ((nI 10) * (-10))), (0, .int (-nI i)), (1, .int (nI 0))]) (k := 1) C dJ16_stringSize_36 hl6 rfl (Nat.le_of_ble_eq_true rfl) rfl (fun ls7 hl7 => ?_)
  clear hl6
  refine lv_goto (tgt := 16) C.hx C.hb dJ16_stringSize_39 (by decide) ?_
  refine lv_iload_n C.hx C.hb dJ16_stringSize_16 rfl (lv_at hl7 0 rfl) ?_
  refine kn_bipush (a := 10) C (by decide) dJ16_stringSize_17 ?_
  refine kn_icmp_ge (tgt := 42) C (by decide) (by decide) dJ16_stringSize_19 (by decide) (fun cq => absurd cq (by decide)) (fun cq => ?_)
  refine lv_iload_n C.hx C.hb dJ16_stringSize_22 rfl (lv_at hl7 2 rfl) ?_
  refine lv_iload_n C.hx C.hb dJ16_stringSize_23 rfl (lv_at hl7 1 rfl) ?_
  refine lv_icmp_le (tgt := 31) C.hx C.hb dJ16_stringSize_24 (by decide) (fun q => absurd q (ng_le3 i h12)) (fun _ => ?_)
  refine lv_iload_n C.hx C.hb dJ16_stringSize_27 rfl (lv_at hl7 0 rfl) ?_
  refine lv_iload_n C.hx C.hb dJ16_stringSize_28 rfl (lv_at hl7 3 rfl) ?_
  refine kn_iadd C  dJ16_stringSize_29 ?_
  exact k_iret C hW rfl ⟨rfl, rfl⟩ (Nat.le_refl _) (Nat.le_refl _) dJ16_stringSize_30

def Q_ctJ16_getChars_2 (G : GT) (i k b : Nat) (u : Nat → Nat) : Option Value → List va_W → Prop := fun v S1 => v = some (.int (nI k)) ∧ S1 = [[(b, .inl (G.2.2.1 3, 16, .inl (fun j => nI ((ptN (ptN u (k + 1) (48 + i % 10)) k (48 + i / 10)) j))))]]
set_option maxHeartbeats 4000000 in
set_option maxRecDepth 100000 in
theorem ctJ16_getChars_2 (l : Launch) (G : GT) (i k b : Nat) (u : Nat → Nat) (h10 : 10 ≤ i) (h12 : i < 12) (hi : i < 12) (hk : k + 2 ≤ 16) : Ct l G yJ16_getChars cJ16_getChars 7 (some .int) 0 0 0 0 [.int (nI i), .int (nI (k + 1 + 1)), .ref b] ([[(b, .inl (G.2.2.1 3, 16, .inl (fun j => nI (u j))))]]) noR (Q_ctJ16_getChars_2 G i k b u) := by
  refine Ct.of (by decide +kernel) (Nat.le_of_ble_eq_true rfl) ?_
  intro p e s m below meth c A ls C hW hRo hl
  have hl : lv_has ls 7 [(0, .int (nI i)), (1, .int (nI (k + 1 + 1))), (2, .ref b)] := hl
  refine lv_iload_n C.hx C.hb dJ16_getChars_0 rfl (lv_at hl 1 rfl) ?_
  refine lv_istore (lv' := [(5, .int (nI (k + 1 + 1))), (0, .int (nI i)), (1, .int (nI (k + 1 + 1))), (2, .ref b)]) C.hx C.hb dJ16_getChars_1 hl (Nat.le_of_ble_eq_true rfl) rfl (fun ls1 hl1 => ?_)
  clear hl
  refine lv_iload_n C.hx C.hb dJ16_getChars_3 rfl (lv_at hl1 1 rfl) ?_
  refine kn_if_ge (tgt := 11) C (by omega) dJ16_getChars_4 (by decide) ?_
  refine kn_iconst (a := 0) C (by decide) dJ16_getChars_11 ?_
  refine lv_istore (lv' := [(6, .int (nI 0)), (5, .int (nI (k + 1 + 1))), (0, .int (nI i)), (1, .int (nI (k + 1 + 1))), (2, .ref b)]) C.hx C.hb dJ16_getChars_12 hl1 (Nat.le_of_ble_eq_true rfl) rfl (fun ls2 hl2 => ?_)
  clear hl1
  refine lv_iload C.hx C.hb dJ16_getChars_14 (lv_at hl2 0 rfl) ?_
  refine kn_if_ne (tgt := 22) C (by decide) dJ16_getChars_16 (by decide) (fun cq => absurd cq (by decide)) (fun cq => ?_)
  refine lv_iload_n C.hx C.hb dJ16_getChars_19 rfl (lv_at hl2 2 rfl) ?_
  refine lv_ineg C.hx C.hb dJ16_getChars_20 ?_
  refine lv_istore_n (lv' := [(0, .int (-nI i)), (6, .int (nI 0)), (5, .int (nI (k + 1 + 1))), (1, .int (nI (k + 1 + 1))), (2, .ref b)]) C.hx C.hb dJ16_getChars_21 rfl hl2 (Nat.le_of_ble_eq_true rfl) rfl (fun ls3 hl3 => ?_)
  clear hl2
  refine lv_iload_n C.hx C.hb dJ16_getChars_22 rfl (lv_at hl3 0 rfl) ?_
  refine lv_bipush (v := (-100)) C.hx C.hb dJ16_getChars_23 (by decide) ?_
  refine lv_icmp_gt (tgt := 72) C.hx C.hb dJ16_getChars_25 (by decide) (fun c25 => ?_) (fun c25 => (absurd (ng_100 i hi) c25))
  refine lv_aload_n C.hx C.hb dJ16_getChars_72 rfl (lv_at hl3 4 rfl) ?_
  refine kn_idec (lv' := [(5, .int (nI ((k + 1 + 1) - 1))), (0, .int (-nI i)), (6, .int (nI 0)), (1, .int (nI (k + 1 + 1))), (2, .ref b)]) (k := 2) C (by omega) dJ16_getChars_73 hl3 rfl (Nat.le_of_ble_eq_true rfl) rfl (fun ls4 hl4 => ?_)
  clear hl3
  refine lv_iload C.hx C.hb dJ16_getChars_76 (lv_at hl4 0 rfl) ?_
  refine k_gets C hW (List.mem_of_getElem? (i := 7) rfl) q635 rfl dJ16_getChars_78 ?_
  refine lv_iload_n C.hx C.hb dJ16_getChars_81 rfl (lv_at hl4 1 rfl) ?_
  refine lv_ineg C.hx C.hb dJ16_getChars_82 ?_
  refine k_op (y := .int (nI i)) (congrArg Value.int (ng_ng i)) ?_
  refine k_bald C (f := (fun j => nI (48 + j % 10))) rfl ((Ro_ones C.hX hW.2.2.2.2).at hW) (by omega) (by decide) dJ16_getChars_83 ?_
  refine k_bast (S' := [[(b, .inl (G.2.2.1 3, 16, .inl (fun j => nI (ptN u ((k + 1 + 1) - 1) (48 + i % 10) j))))]]) C hW 0 0 rfl rfl rfl (by omega) (by decide) dJ16_getChars_84 (by rw [ptN_eq _ _ _ (by omega)]; rfl) (fun H5 locs5 hW5 => ?_)
  clear hW
  refine lv_iload_n C.hx C.hb dJ16_getChars_85 rfl (lv_at hl4 1 rfl) ?_
  refine lv_bipush (v := (-9)) C.hx C.hb dJ16_getChars_86 (by decide) ?_
  refine lv_icmp_ge (tgt := 104) C.hx C.hb dJ16_getChars_88 (by decide) (fun c88 => (absurd c88 (ng_9b i h12 h10))) (fun c88 => ?_)
  refine lv_aload_n C.hx C.hb dJ16_getChars_91 rfl (lv_at hl4 4 rfl) ?_
  refine kn_idec (lv' := [(5, .int (nI (((k + 1 + 1) - 1) - 1))), (0, .int (-nI i)), (6, .int (nI 0)), (1, .int (nI (k + 1 + 1))), (2, .ref b)]) (k := 0) C (by omega) dJ16_getChars_92 hl4 rfl (Nat.le_of_ble_eq_true rfl) rfl (fun ls6 hl6 => ?_)
  clear hl4
  refine lv_iload C.hx C.hb dJ16_getChars_95 (lv_at hl6 0 rfl) ?_
  refine k_gets C hW5 (List.mem_of_getElem? (i := 8) rfl) q637 rfl dJ16_getChars_97 ?_
  refine lv_iload_n C.hx C.hb dJ16_getChars_100 rfl (lv_at hl6 1 rfl) ?_
  refine lv_ineg C.hx C.hb dJ16_getChars_101 ?_
  refine k_op (y := .int (nI i)) (congrArg Value.int (ng_ng i)) ?_
  refine k_bald C (f := (fun j => nI (48 + j / 10))) rfl ((Ro_tens C.hX hW5.2.2.2.2).at hW5) (by omega) (by decide) dJ16_getChars_102 ?_
  refine k_bast (S' := [[(b, .inl (G.2.2.1 3, 16, .inl (fun j => nI (ptN (ptN u ((k + 1 + 1) - 1) (48 + i % 10)) (((k + 1 + 1) - 1) - 1) (48 + i / 10) j))))]]) C hW5 0 0 rfl rfl rfl (by omega) (by decide) dJ16_getChars_103 (by rw [ptN_eq _ _ _ (by omega)]; rfl) (fun H7 locs7 hW7 => ?_)
  clear hW5
  refine lv_iload C.hx C.hb dJ16_getChars_104 (lv_at hl6 2 rfl) ?_
  refine kn_if_eq (tgt := 118) C (by decide) dJ16_getChars_106 (by decide) (fun cq => ?_) (fun cq => absurd cq (by decide))
  refine lv_iload C.hx C.hb dJ16_getChars_118 (lv_at hl6 0 rfl) ?_
  exact k_iret C hW7 rfl ⟨rfl, rfl⟩ (Nat.le_refl _) (Nat.le_refl _) dJ16_getChars_120

def Q_ctJ27_append_i2 (G : GT) (a b k : Nat) (u : Nat → Nat) (i : Nat) : Option Value → List va_W → Prop := fun v S1 => v = some (.ref a) ∧ S1 = [[(a, .inr (18, [.ref b, .int (nI 0), .int 0, .int (nI (k + 2))]))], [(b, .inl (G.2.2.1 3, 16, .inl (fun j => nI ((ptN (ptN u (k + 1) (48 + i % 10)) k (48 + i / 10)) j))))]]
set_option maxHeartbeats 4000000 in
set_option maxRecDepth 100000 in
theorem ctJ27_append_i2 (l : Launch) (G : GT) (a b k : Nat) (u : Nat → Nat) (i : Nat) (h10 : 10 ≤ i) (h12 : i < 12) (hi : i < 12) (hk : k + 2 ≤ 16) : Ct l G yJ27_append_2 cJ27_append_2 4 (some (.object "java/lang/AbstractStringBuilder")) 1 26 0 0 [.ref a, .int (nI i)] ([[(a, .inr (18, [.ref b, .int (nI 0), .int 0, .int (nI k)]))], [(b, .inl (G.2.2.1 3, 16, .inl (fun j => nI (u j))))]]) noR (Q_ctJ27_append_i2 G a b k u i) := by
  refine Ct.of (by decide +kernel) (Nat.le_of_ble_eq_true rfl) ?_
  intro p e s m below meth c A ls C hW hRo hl
  have hl : lv_has ls 4 [(0, .ref a), (1, .int (nI i))] := hl
  refine lv_aload_n C.hx C.hb dJ27_append_2_0 rfl (lv_at hl 0 rfl) ?_
  refine k_get (v := .int (nI k)) C clJ28 (hW.get 0 0 rfl rfl) 3 (Nat.le_of_ble_eq_true rfl) rfl q490 rfl rfl dJ27_append_2_1 ?_
  refine lv_istore_n (lv' := [(2, .int (nI k)), (0, .ref a), (1, .int (nI i))]) C.hx C.hb dJ27_append_2_4 rfl hl (Nat.le_of_ble_eq_true rfl) rfl (fun ls1 hl1 => ?_)
  clear hl
  refine lv_iload_n C.hx C.hb dJ27_append_2_5 rfl (lv_at hl1 0 rfl) ?_
  refine lv_iload_n C.hx C.hb dJ27_append_2_6 rfl (lv_at hl1 2 rfl) ?_
  refine k_callS (Sc := []) (Sr := [[(a, .inr (18, [.ref b, .int (nI 0), .int 0, .int (nI k)]))], [(b, .inl (G.2.2.1 3, 16, .inl (fun j => nI (u j))))]]) (As := [.int (nI i)]) (rest := [.int (nI k)]) C (ctJ16_stringSize_2 l G i h10 h12) hW q629 q630 q92 q631 rfl ⟨by decide, by decide, Eq.trans (b := some 1) (by decide +kernel) rfl⟩ (Nat.le_of_ble_eq_true rfl) (Nat.le_of_ble_eq_true rfl) (Nat.le_refl _) (Nat.le_refl _) hl1.1 rfl (Nat.le_of_ble_eq_true rfl) dJ27_append_2_7 (k_permR _) (fun _ h => h.elim) (fun v H2 locs2 S1 hQ hz2 hW2 => ?_)
  obtain ⟨rfl, rfl⟩ := hQ
  have hW2 : Ws G A s ([[(a, .inr (18, [.ref b, .int (nI 0), .int 0, .int (nI k)]))], [(b, .inl (G.2.2.1 3, 16, .inl (fun j => nI (u j))))]]) H2 locs2 := hW2
  clear hW
  refine W.eq (g2 := F0 m 10 ls1 [.int (nI 2), .int (nI k)]) rfl ?_
  refine kn_iadd C  dJ27_append_2_10 ?_
  refine lv_istore_n (lv' := [(3, .int (nI (k + 2))), (2, .int (nI k)), (0, .ref a), (1, .int (nI i))]) C.hx C.hb dJ27_append_2_11 rfl hl1 (Nat.le_of_ble_eq_true rfl) rfl (fun ls3 hl3 => ?_)
  clear hl1
  refine lv_aload_n C.hx C.hb dJ27_append_2_12 rfl (lv_at hl3 2 rfl) ?_
  refine lv_iload_n C.hx C.hb dJ27_append_2_13 rfl (lv_at hl3 0 rfl) ?_
  refine k_callUP (owner := "java/lang/AbstractStringBuilder") (Sc := []) (Sr := [[(a, .inr (18, [.ref b, .int (nI 0), .int 0, .int (nI k)]))], [(b, .inl (G.2.2.1 3, 16, .inl (fun j => nI (u j))))]]) (As := [.int (nI (k + 2))]) (rest := []) C (ctJ27_ensureCapacityInternal l G a b k (k + 2) u (by omega)) hW2 clJ28 (hW2.get 0 0 rfl rfl) q513 q2659 (List.mem_of_getElem? (i := 2) rfl) q515 q105 q516 rfl rfl ⟨by decide, by decide, Eq.trans (b := some 1) (by decide +kernel) rfl⟩ (Nat.le_of_ble_eq_true rfl) (Nat.le_of_ble_eq_true rfl) (Nat.le_refl _) (Nat.le_refl _) hl3.1 rfl (Nat.le_of_ble_eq_true rfl) dJ27_append_2_14 (k_permR _) (fun z => (fun hz => hz.elim (fun e => by cases e; exact Or.inl ⟨_, rfl, seg_mem (i := 0) (j := 0) rfl rfl⟩) (fun e => by cases e; exact Or.inl ⟨_, rfl, seg_mem (i := 1) (j := 0) rfl rfl⟩))) (fun v H4 locs4 S1 hQ hz4 hW4 => ?_)
  obtain ⟨rfl, rfl⟩ := hQ
  have hW4 : Ws G A s ([[(a, .inr (18, [.ref b, .int (nI 0), .int 0, .int (nI k)]))], [(b, .inl (G.2.2.1 3, 16, .inl (fun j => nI (u j))))]]) H4 locs4 := hW4
  clear hW2
  refine W.eq (g2 := F0 m 17 ls3 []) rfl ?_
  refine lv_aload_n C.hx C.hb dJ27_append_2_17 rfl (lv_at hl3 2 rfl) ?_
  refine k_callU (owner := "java/lang/AbstractStringBuilder") (Sc := []) (Sr := [[(a, .inr (18, [.ref b, .int (nI 0), .int 0, .int (nI k)]))], [(b, .inl (G.2.2.1 3, 16, .inl (fun j => nI (u j))))]]) (As := []) (rest := []) C (ctJ27_isLatin1 l G a b k) hW4 clJ28 (hW4.get 0 0 rfl rfl) q548 q550 q551 q549 q105 q552 rfl rfl ⟨by decide, by decide, Eq.trans (b := some 0) (by decide +kernel) rfl⟩ (Nat.le_of_ble_eq_true rfl) (Nat.le_of_ble_eq_true rfl) (Nat.le_refl _) (Nat.le_refl _) hl3.1 rfl (Nat.le_of_ble_eq_true rfl) dJ27_append_2_18 (k_permR _) (fun z hz => by cases hz; exact Or.inl ⟨_, rfl, seg_mem (i := 0) (j := 0) rfl rfl⟩) (fun v H5 locs5 S1 hQ hz5 hW5 => ?_)
  obtain ⟨rfl, rfl⟩ := hQ
  have hW5 : Ws G A s ([[(a, .inr (18, [.ref b, .int (nI 0), .int 0, .int (nI k)]))], [(b, .inl (G.2.2.1 3, 16, .inl (fun j => nI (u j))))]]) H5 locs5 := hW5
  clear hW4
  refine W.eq (g2 := F0 m 21 ls3 [.int (nI 1)]) rfl ?_
  refine kn_if_eq (tgt := 37) C (by decide) dJ27_append_2_21 (by decide) (fun cq => absurd cq (by decide)) (fun cq => ?_)
  refine lv_iload_n C.hx C.hb dJ27_append_2_24 rfl (lv_at hl3 3 rfl) ?_
  refine lv_iload_n C.hx C.hb dJ27_append_2_25 rfl (lv_at hl3 0 rfl) ?_
  refine lv_aload_n C.hx C.hb dJ27_append_2_26 rfl (lv_at hl3 2 rfl) ?_
  refine k_get (v := .ref b) C clJ28 (hW5.get 0 0 rfl rfl) 0 (Nat.le_of_ble_eq_true rfl) rfl q487 rfl rfl dJ27_append_2_27 ?_
  refine k_callS (Sc := [[(b, .inl (G.2.2.1 3, 16, .inl (fun j => nI (u j))))]]) (Sr := [[(a, .inr (18, [.ref b, .int (nI 0), .int 0, .int (nI k)]))]]) (As := [.int (nI i), .int (nI (k + 2)), .ref b]) (rest := []) C (ctJ16_getChars_2 l G i k b u h10 h12 hi hk) hW5 q632 q633 q92 q634 rfl ⟨by decide, by decide, Eq.trans (b := some 3) (by decide +kernel) rfl⟩ (Nat.le_of_ble_eq_true rfl) (Nat.le_of_ble_eq_true rfl) (Nat.le_refl _) (Nat.le_refl _) hl3.1 rfl (Nat.le_of_ble_eq_true rfl) dJ27_append_2_30 ((pick_perm [[(a, .inr (18, [.ref b, .int (nI 0), .int 0, .int (nI k)]))], [(b, .inl (G.2.2.1 3, 16, .inl (fun j => nI (u j))))]] 2 rfl (is := [0, 1]) (by decide)).flatten.symm) (fun _ h => h.elim) (fun v H6 locs6 S1 hQ hz6 hW6 => ?_)
  obtain ⟨rfl, rfl⟩ := hQ
  have hW6 : Ws G A s ([[(a, .inr (18, [.ref b, .int (nI 0), .int 0, .int (nI k)]))], [(b, .inl (G.2.2.1 3, 16, .inl (fun j => nI ((ptN (ptN u (k + 1) (48 + i % 10)) k (48 + i / 10)) j))))]]) H6 locs6 := hW6
  clear hW5
  refine W.eq (g2 := F0 m 33 ls3 [.int (nI k)]) rfl ?_
  refine lv_pop C.hx C.hb dJ27_append_2_33 rfl ?_
  refine lv_goto (tgt := 48) C.hx C.hb dJ27_append_2_34 (by decide) ?_
  refine lv_aload_n C.hx C.hb dJ27_append_2_48 rfl (lv_at hl3 2 rfl) ?_
  refine lv_iload_n C.hx C.hb dJ27_append_2_49 rfl (lv_at hl3 0 rfl) ?_
  refine k_put (S' := [[(a, .inr (18, [.ref b, .int (nI 0), .int 0, .int (nI (k + 2))]))], [(b, .inl (G.2.2.1 3, 16, .inl (fun j => nI ((ptN (ptN u (k + 1) (48 + i % 10)) k (48 + i / 10)) j))))]]) C clJ28 hW6 0 0 rfl rfl 3 (Nat.le_of_ble_eq_true rfl) rfl q490 rfl (fun _ h => h) (Or.inl rfl) (fty := .int) (v := .int (nI (k + 2))) (by decide +kernel) rfl rfl (Nat.le_of_ble_eq_true rfl) dJ27_append_2_50 rfl (fun H7 locs7 hW7 => ?_)
  clear hW6
  refine lv_aload_n C.hx C.hb dJ27_append_2_53 rfl (lv_at hl3 2 rfl) ?_
  exact k_aret C hW7 rfl (Or.inl ⟨_, rfl⟩) (Or.inr ⟨_, rfl⟩) ⟨rfl, rfl⟩ (Nat.le_refl _) (Nat.le_refl _) dJ27_append_2_54

def Q_ctJ28_append_i2 (G : GT) (a b k : Nat) (u : Nat → Nat) (i : Nat) : Option Value → List va_W → Prop := fun v S1 => v = some (.ref a) ∧ S1 = [[(a, .inr (18, [.ref b, .int (nI 0), .int 0, .int (nI (k + 2))]))], [(b, .inl (G.2.2.1 3, 16, .inl (fun j => nI ((ptN (ptN u (k + 1) (48 + i % 10)) k (48 + i / 10)) j))))]]
set_option maxHeartbeats 4000000 in
set_option maxRecDepth 100000 in
theorem ctJ28_append_i2 (l : Launch) (G : GT) (a b k : Nat) (u : Nat → Nat) (i : Nat) (h10 : 10 ≤ i) (h12 : i < 12) (hi : i < 12) (hk : k + 2 ≤ 16) : Ct l G yJ28_append_2 cJ28_append_2 2 (some (.object "java/lang/StringBuilder")) 2 49 0 0 [.ref a, .int (nI i)] ([[(a, .inr (18, [.ref b, .int (nI 0), .int 0, .int (nI k)]))], [(b, .inl (G.2.2.1 3, 16, .inl (fun j => nI (u j))))]]) noR (Q_ctJ28_append_i2 G a b k u i) := by
  refine Ct.of (by decide +kernel) (Nat.le_of_ble_eq_true rfl) ?_
  intro p e s m below meth c A ls C hW hRo hl
  have hl : lv_has ls 2 [(0, .ref a), (1, .int (nI i))] := hl
  refine lv_aload_n C.hx C.hb dJ28_append_2_0 rfl (lv_at hl 0 rfl) ?_
  refine lv_iload_n C.hx C.hb dJ28_append_2_1 rfl (lv_at hl 1 rfl) ?_
  refine k_callSU (Sc := [[(a, .inr (18, [.ref b, .int (nI 0), .int 0, .int (nI k)]))], [(b, .inl (G.2.2.1 3, 16, .inl (fun j => nI (u j))))]]) (Sr := []) (As := [.int (nI i)]) (rest := []) C (ctJ27_append_i2 l G a b k u i h10 h12 hi hk) hW clJ28 (hW.get 0 0 rfl rfl) q626 q2664 q499 q627 q105 q628 rfl ⟨by decide, Eq.trans (b := some 1) (by decide +kernel) rfl⟩ (Nat.le_of_ble_eq_true rfl) (Nat.le_of_ble_eq_true rfl) (Nat.le_refl _) (Nat.le_refl _) hl.1 rfl (Nat.le_of_ble_eq_true rfl) dJ28_append_2_2 ((pick_perm [[(a, .inr (18, [.ref b, .int (nI 0), .int 0, .int (nI k)]))], [(b, .inl (G.2.2.1 3, 16, .inl (fun j => nI (u j))))]] 2 rfl (is := [0, 1]) (by decide)).flatten.symm) (fun _ h => h.elim) (fun v H1 locs1 S1 hQ hz1 hW1 => ?_)
  obtain ⟨rfl, rfl⟩ := hQ
  have hW1 : Ws G A s ([[(a, .inr (18, [.ref b, .int (nI 0), .int 0, .int (nI (k + 2))]))], [(b, .inl (G.2.2.1 3, 16, .inl (fun j => nI ((ptN (ptN u (k + 1) (48 + i % 10)) k (48 + i / 10)) j))))]]) H1 locs1 := hW1
  clear hW
  refine W.eq (g2 := F0 m 5 ls [.ref a]) rfl ?_
  refine lv_pop C.hx C.hb dJ28_append_2_5 rfl ?_
  refine lv_aload_n C.hx C.hb dJ28_append_2_6 rfl (lv_at hl 0 rfl) ?_
  exact k_aret C hW1 rfl (Or.inl ⟨_, rfl⟩) (Or.inr ⟨_, rfl⟩) ⟨rfl, rfl⟩ (Nat.le_refl _) (Nat.le_refl _) dJ28_append_2_7

def Q_ctJ18_init_2 (G : GT) (q a b k : Nat) (u : Nat → Nat) : Option Value → List va_W → Prop := fun v S1 => v = none ∧ ∃ q2, S1 = [[(q, .inr (17, [.ref q2, .int (nI 0), .int 0, .int 0]))], [(q2, .inl (G.2.2.1 3, k, .inl (fun j => nI ((cpN u (fun _ => 0) 0 0 k) j))))]]
set_option maxHeartbeats 4000000 in
set_option maxRecDepth 100000 in
theorem ctJ18_init_2 (l : Launch) (G : GT) (q a b k : Nat) (u : Nat → Nat) (hk : k < 16) (h0 : 0 < k) (hu : ∀ j, j < 16 → u j < 128) : Ct l G yJ18_init_2 cJ18_init_2 5 none 3 75 1 k [.ref q, .ref a, .null] ([[(q, .inr (17, [.null, .int 0, .int 0, .int 0]))]]) ((fun z => z = .inl (a, .inr (18, [.ref b, .int (nI 0), .int 0, .int (nI k)])) ∨ z = .inl (b, .inl (G.2.2.1 3, 16, .inl (fun j => nI (u j)))))) (Q_ctJ18_init_2 G q a b k u) := by
  refine Ct.of (by decide +kernel) (Nat.le_of_ble_eq_true rfl) ?_
  intro p e s m below meth c A ls C hW hRo hl
  have hl : lv_has ls 5 [(0, .ref q), (1, .ref a), (2, .null)] := hl
  refine lv_aload_n C.hx C.hb dJ18_init_2_0 rfl (lv_at hl 0 rfl) ?_
  refine W.objInit C.hx C.hb C.hown (C.hts _ q660) (C.hts _ q133) (C.hts _ q134) rfl (by rw [C.hml]; exact hl.1) rfl dJ18_init_2_1 (Nat.le_of_ble_eq_true rfl) (Nat.le_of_ble_eq_true rfl) ?_
  refine W.eq (g2 := F0 m 4 ls []) rfl ?_
  refine lv_aload_n C.hx C.hb dJ18_init_2_4 rfl (lv_at hl 1 rfl) ?_
  refine k_callU (owner := "java/lang/AbstractStringBuilder") (Sc := []) (Sr := [[(q, .inr (17, [.null, .int 0, .int 0, .int 0]))]]) (As := []) (rest := []) C (ctJ27_getValue l G a b k) hW clJ28 ((hRo _ (Or.inl rfl)).at hW) q661 q663 q664 q662 q105 q665 rfl rfl ⟨by decide, by decide, Eq.trans (b := some 0) (by decide +kernel) rfl⟩ (Nat.le_of_ble_eq_true rfl) (Nat.le_of_ble_eq_true rfl) (show 0 + 0 ≤ 1 by omega) (show 0 + 0 ≤ k by omega) hl.1 rfl (Nat.le_of_ble_eq_true rfl) dJ18_init_2_5 (k_permR _) (fun z hz => by cases hz; exact Or.inr (Or.inr (hRo _ (Or.inl rfl)))) (fun v H1 locs1 S1 hQ hz1 hW1 => ?_)
  obtain ⟨rfl, rfl⟩ := hQ
  have hW1 : Ws G A s ([[(q, .inr (17, [.null, .int 0, .int 0, .int 0]))]]) H1 locs1 := hW1
  clear hW
  refine W.eq (g2 := F0 m 8 ls [.ref b]) rfl ?_
  refine lv_astore_n (lv' := [(3, .ref b), (0, .ref q), (1, .ref a), (2, .null)]) C.hx C.hb dJ18_init_2_8 rfl hl (Nat.le_of_ble_eq_true rfl) rfl (fun ls2 hl2 => ?_)
  clear hl
  refine lv_aload_n C.hx C.hb dJ18_init_2_9 rfl (lv_at hl2 2 rfl) ?_
  refine k_callO (owner := "java/lang/AbstractStringBuilder") (Sc := []) (Sr := [[(q, .inr (17, [.null, .int 0, .int 0, .int 0]))]]) (As := []) (rest := []) C (ctJ28_length l G a b k) hW1 clJ28 ((hRo _ (Or.inl rfl)).at hW1) q666 q668 q669 q670 q106 q671 q667 q673 rfl ⟨by decide, by decide, Eq.trans (b := some 0) (by decide +kernel) rfl⟩ (Nat.le_of_ble_eq_true rfl) (Nat.le_of_ble_eq_true rfl) (show 0 + 0 ≤ 1 by omega) (show 0 + 0 ≤ k by omega) hl2.1 rfl (Nat.le_of_ble_eq_true rfl) dJ18_init_2_10 (k_permR _) (fun z hz => by cases hz; exact Or.inr (Or.inr (hRo _ (Or.inl rfl)))) (fun v H3 locs3 S1 hQ hz3 hW3 => ?_)
  obtain ⟨rfl, rfl⟩ := hQ
  have hW3 : Ws G A s ([[(q, .inr (17, [.null, .int 0, .int 0, .int 0]))]]) H3 locs3 := hW3
  clear hW1
  refine W.eq (g2 := F0 m 13 ls2 [.int (nI k)]) rfl ?_
  refine lv_istore (lv' := [(4, .int (nI k)), (3, .ref b), (0, .ref q), (1, .ref a), (2, .null)]) C.hx C.hb dJ18_init_2_13 hl2 (Nat.le_of_ble_eq_true rfl) rfl (fun ls4 hl4 => ?_)
  clear hl2
  refine lv_aload_n C.hx C.hb dJ18_init_2_15 rfl (lv_at hl4 3 rfl) ?_
  refine k_callU (owner := "java/lang/AbstractStringBuilder") (Sc := []) (Sr := [[(q, .inr (17, [.null, .int 0, .int 0, .int 0]))]]) (As := []) (rest := []) C (ctJ27_isLatin1 l G a b k) hW3 clJ28 ((hRo _ (Or.inl rfl)).at hW3) q674 q550 q551 q549 q105 q552 rfl rfl ⟨by decide, by decide, Eq.trans (b := some 0) (by decide +kernel) rfl⟩ (Nat.le_of_ble_eq_true rfl) (Nat.le_of_ble_eq_true rfl) (show 0 + 0 ≤ 1 by omega) (show 0 + 0 ≤ k by omega) hl4.1 rfl (Nat.le_of_ble_eq_true rfl) dJ18_init_2_16 (k_permR _) (fun z hz => by cases hz; exact Or.inr (Or.inr (hRo _ (Or.inl rfl)))) (fun v H5 locs5 S1 hQ hz5 hW5 => ?_)
  obtain ⟨rfl, rfl⟩ := hQ
  have hW5 : Ws G A s ([[(q, .inr (17, [.null, .int 0, .int 0, .int 0]))]]) H5 locs5 := hW5
  clear hW3
  refine W.eq (g2 := F0 m 19 ls4 [.int (nI 1)]) rfl ?_
  refine kn_if_eq (tgt := 41) C (by decide) dJ18_init_2_19 (by decide) (fun cq => absurd cq (by decide)) (fun cq => ?_)
  refine lv_aload_n C.hx C.hb dJ18_init_2_22 rfl (lv_at hl4 2 rfl) ?_
  refine kn_iconst (a := 0) C (by decide) dJ18_init_2_23 ?_
  refine k_put (S' := [[(q, .inr (17, [.null, .int (nI 0), .int 0, .int 0]))]]) C clJ18 hW5 0 0 rfl rfl 1 (Nat.le_of_ble_eq_true rfl) rfl q738 rfl (fun _ h => h) (Or.inr ⟨rfl, rfl⟩) (fty := .byte) (v := .int (nI 0)) (by decide +kernel) (by decide) (by decide) (Nat.le_of_ble_eq_true rfl) dJ18_init_2_24 rfl (fun H6 locs6 hW6 => ?_)
  clear hW5
  refine lv_aload_n C.hx C.hb dJ18_init_2_27 rfl (lv_at hl4 2 rfl) ?_
  refine lv_aload_n C.hx C.hb dJ18_init_2_28 rfl (lv_at hl4 1 rfl) ?_
  refine kn_iconst (a := 0) C (by decide) dJ18_init_2_29 ?_
  refine lv_iload C.hx C.hb dJ18_init_2_30 (lv_at hl4 0 rfl) ?_
  refine k_op (y := .int (nI (0 + k))) (by rw [Nat.zero_add]) ?_
  refine W.eq (g2 := F0 m 32 ls4 [.int (nI (0 + k)), .int (nI 0), .ref b, .ref q]) rfl ?_
  refine k_callS (Sc := []) (Sr := [[(q, .inr (17, [.null, .int (nI 0), .int 0, .int 0]))]]) (As := [.ref b, .int (nI 0), .int (nI (0 + k))]) (rest := [.ref q]) C (ctJ29_copyOfRange l G b 16 0 k u (by omega) (by decide) hu (by omega)) hW6 q675 q676 q107 q677 rfl ⟨by decide, by decide, Eq.trans (b := some 3) (by decide +kernel) rfl⟩ (Nat.le_of_ble_eq_true rfl) (Nat.le_of_ble_eq_true rfl) (show 0 + 1 ≤ 1 by omega) (show 0 + k ≤ k by omega) hl4.1 rfl (Nat.le_of_ble_eq_true rfl) dJ18_init_2_32 (k_permR _) (fun z hz => by cases hz; exact Or.inr (Or.inr (hRo _ (Or.inr rfl)))) (fun v H8 locs8 S1 hQ hz8 hW8 => ?_)
  obtain ⟨q2, rfl, rfl⟩ := hQ
  have hW8 : Ws G A s ([[(q, .inr (17, [.null, .int (nI 0), .int 0, .int 0]))], [(q2, .inl (G.2.2.1 3, k, .inl (fun j => nI ((cpN u (fun _ => 0) 0 0 k) j))))]]) H8 locs8 := hW8
  clear hW6
  refine W.eq (g2 := F0 m 35 ls4 [.ref q2, .ref q]) rfl ?_
  refine k_put (S' := [[(q, .inr (17, [.ref q2, .int (nI 0), .int 0, .int 0]))], [(q2, .inl (G.2.2.1 3, k, .inl (fun j => nI ((cpN u (fun _ => 0) 0 0 k) j))))]]) C clJ18 hW8 0 0 rfl rfl 0 (Nat.le_of_ble_eq_true rfl) rfl q737 rfl (fun _ h => h) (Or.inr ⟨rfl, rfl⟩) (fty := (.array .byte)) (v := .ref q2) (by decide +kernel) rfl rfl (Nat.le_of_ble_eq_true rfl) dJ18_init_2_35 rfl (fun H9 locs9 hW9 => ?_)
  clear hW8
  refine lv_goto (tgt := 97) C.hx C.hb dJ18_init_2_38 (by decide) ?_
  exact k_vret C hW9 rfl ⟨rfl, _, rfl⟩ (by omega) (by omega) dJ18_init_2_97

def Q_ctJ18_init (G : GT) (q a b k : Nat) (u : Nat → Nat) : Option Value → List va_W → Prop := fun v S1 => v = none ∧ ∃ q2, S1 = [[(q, .inr (17, [.ref q2, .int (nI 0), .int 0, .int 0]))], [(q2, .inl (G.2.2.1 3, k, .inl (fun j => nI ((cpN u (fun _ => 0) 0 0 k) j))))]]
set_option maxHeartbeats 4000000 in
set_option maxRecDepth 100000 in
theorem ctJ18_init (l : Launch) (G : GT) (q a b k : Nat) (u : Nat → Nat) (hk : k < 16) (h0 : 0 < k) (hu : ∀ j, j < 16 → u j < 128) : Ct l G yJ18_init cJ18_init 2 none 4 99 1 k [.ref q, .ref a] ([[(q, .inr (17, [.null, .int 0, .int 0, .int 0]))]]) ((fun z => z = .inl (a, .inr (18, [.ref b, .int (nI 0), .int 0, .int (nI k)])) ∨ z = .inl (b, .inl (G.2.2.1 3, 16, .inl (fun j => nI (u j)))))) (Q_ctJ18_init G q a b k u) := by
  refine Ct.of (by decide +kernel) (Nat.le_of_ble_eq_true rfl) ?_
  intro p e s m below meth c A ls C hW hRo hl
  have hl : lv_has ls 2 [(0, .ref q), (1, .ref a)] := hl
  refine lv_aload_n C.hx C.hb dJ18_init_0 rfl (lv_at hl 0 rfl) ?_
  refine lv_aload_n C.hx C.hb dJ18_init_1 rfl (lv_at hl 1 rfl) ?_
  refine lv_null C.hx C.hb dJ18_init_2 ?_
  refine k_callI (Sc := [[(q, .inr (17, [.null, .int 0, .int 0, .int 0]))]]) (Sr := []) (As := [.ref a, .null]) (rest := []) C (ctJ18_init_2 l G q a b k u hk h0 hu) hW q657 q658 q95 q659 rfl rfl ⟨by decide, by decide, Eq.trans (b := some 2) (by decide +kernel) rfl⟩ (Nat.le_of_ble_eq_true rfl) (Nat.le_of_ble_eq_true rfl) (show 0 + 1 ≤ 1 by omega) (show 0 + k ≤ k by omega) hl.1 rfl (Nat.le_of_ble_eq_true rfl) dJ18_init_3 ((pick_perm [[(q, .inr (17, [.null, .int 0, .int 0, .int 0]))]] 1 rfl (is := [0]) (by decide)).flatten.symm) (fun z => (fun hz => hz.elim (fun e => by cases e; exact Or.inr (Or.inr (hRo _ (Or.inl rfl)))) (fun e => by cases e; exact Or.inr (Or.inr (hRo _ (Or.inr rfl)))))) (fun v H1 locs1 S1 hQ hz1 hW1 => ?_)
  obtain ⟨rfl, q2, rfl⟩ := hQ
  have hW1 : Ws G A s ([[(q, .inr (17, [.ref q2, .int (nI 0), .int 0, .int 0]))], [(q2, .inl (G.2.2.1 3, k, .inl (fun j => nI ((cpN u (fun _ => 0) 0 0 k) j))))]]) H1 locs1 := hW1
  clear hW
  refine W.eq (g2 := F0 m 6 ls []) rfl ?_
  exact k_vret C hW1 rfl ⟨rfl, _, rfl⟩ (by omega) (by omega) dJ18_init_6

def Q_ctJ28_toString (G : GT) (a b k : Nat) (u : Nat → Nat) : Option Value → List va_W → Prop := fun v S1 => ∃ q q2, v = some (.ref q) ∧ S1 = [[(q, .inr (17, [.ref q2, .int (nI 0), .int 0, .int 0]))], [(q2, .inl (G.2.2.1 3, k, .inl (fun j => nI ((cpN u (fun _ => 0) 0 0 k) j))))]]
set_option maxHeartbeats 4000000 in
set_option maxRecDepth 100000 in
theorem ctJ28_toString (l : Launch) (G : GT) (a b k : Nat) (u : Nat → Nat) (hk : k < 16) (h0 : 0 < k) (hu : ∀ j, j < 16 → u j < 128) : Ct l G yJ28_toString cJ28_toString 1 (some (.object "java/lang/String")) 5 120 2 ((k + 4)) [.ref a] ([]) ((fun z => z = .inl (a, .inr (18, [.ref b, .int (nI 0), .int 0, .int (nI k)])) ∨ z = .inl (b, .inl (G.2.2.1 3, 16, .inl (fun j => nI (u j)))))) (Q_ctJ28_toString G a b k u) := by
  refine Ct.of (by decide +kernel) (Nat.le_of_ble_eq_true rfl) ?_
  intro p e s m below meth c A ls C hW hRo hl
  have hl : lv_has ls 1 [(0, .ref a)] := hl
  refine k_new (fs := [.null, .int 0, .int 0, .int 0]) C clJ18 hW q652 rfl q653 q95 (fun j hj => (by have := co_dec (P := fun j => defaultValue (tyJ18 j) = vp_V [.null, .int 0, .int 0, .int 0] j) (N := 4) (by decide +kernel) hj; exact this)) (show 0 + 1 ≤ 2 by omega) (show 0 + 4 ≤ (k + 4) by omega) dJ28_toString_0 (fun q1 H1 hW1 => ?_)
  have hW1 : Ws G A s [[(q1, .inr (17, [.null, .int 0, .int 0, .int 0]))]] H1 [] := hW1
  clear hW
  refine lv_dup C.hx C.hb dJ28_toString_3 rfl ?_
  refine lv_aload_n C.hx C.hb dJ28_toString_4 rfl (lv_at hl 0 rfl) ?_
  refine k_callI (Sc := [[(q1, .inr (17, [.null, .int 0, .int 0, .int 0]))]]) (Sr := []) (As := [.ref a]) (rest := [.ref q1]) C (ctJ18_init l G q1 a b k u hk h0 hu) hW1 q654 q655 q95 q656 rfl rfl ⟨by decide, by decide, Eq.trans (b := some 1) (by decide +kernel) rfl⟩ (Nat.le_of_ble_eq_true rfl) (Nat.le_of_ble_eq_true rfl) (show 1 + 1 ≤ 2 by omega) (show 4 + k ≤ (k + 4) by omega) hl.1 rfl (Nat.le_of_ble_eq_true rfl) dJ28_toString_5 ((pick_perm [[(q1, .inr (17, [.null, .int 0, .int 0, .int 0]))]] 1 rfl (is := [0]) (by decide)).flatten.symm) (fun z => (fun hz => hz.elim (fun e => by cases e; exact Or.inr (Or.inr (hRo _ (Or.inl rfl)))) (fun e => by cases e; exact Or.inr (Or.inr (hRo _ (Or.inr rfl)))))) (fun v H2 locs2 S1 hQ hz2 hW2 => ?_)
  obtain ⟨rfl, q2, rfl⟩ := hQ
  have hW2 : Ws G A s ([[(q1, .inr (17, [.ref q2, .int (nI 0), .int 0, .int 0]))], [(q2, .inl (G.2.2.1 3, k, .inl (fun j => nI ((cpN u (fun _ => 0) 0 0 k) j))))]]) H2 locs2 := hW2
  clear hW1
  refine W.eq (g2 := F0 m 8 ls [.ref q1]) rfl ?_
  exact k_aret C hW2 rfl (Or.inl ⟨_, rfl⟩) (Or.inr ⟨_, rfl⟩) ⟨_, _, rfl, rfl⟩ (by omega) (by omega) dJ28_toString_8

