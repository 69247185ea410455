def Q_ctJ6_addEntry_1 (G : GT) (t q1 v0 i n z : Nat) (md : Int32) (cx : List TF) (x : TN) (r : TT) : Option Value → List va_W → Prop := fun v S1 => v = none ∧ ∃ (e : TN) (T : TT), S1 = [[(t, .inr (13, [.null, .null, .null, vr (tad T), .int (nI (n + 1)), .int (md + 1), .null, .null, .null]))], (tw none T)] ∧ e.2.1 = q1 ∧ e.2.2.1 = i ∧ e.2.2.2.1 = v0 ∧ ink T = ink (plug cx (.inner z x () (.inner 0 e () .leaf .leaf) r))
set_option maxHeartbeats 4000000 in
set_option maxRecDepth 100000 in
theorem ctJ6_addEntry_1 (l : Launch) (G : GT) (t q1 v0 i n z : Nat) (md : Int32) (cx : List TF) (x : TN) (r : TT)  : Ct l G yJ6_addEntry cJ6_addEntry 6 none 2 44 1 6 [.ref t, .ref q1, .ref v0, .ref x.1, .int (nI 1)] ([[(t, .inr (13, [.null, .null, .null, vr (rootA cx (some x.1)), .int (nI n), .int md, .null, .null, .null]))], (tw none (plug cx (.inner z x () .leaf r)))]) noR (Q_ctJ6_addEntry_1 G t q1 v0 i n z md cx x r) := by
  refine Ct.of (by decide +kernel) (Nat.le_of_ble_eq_true rfl) ?_
  intro p e s m below meth c A ls C hW hRo hl
  have hl : lv_has ls 6 [(0, .ref t), (1, .ref q1), (2, .ref v0), (3, .ref x.1), (4, .int (nI 1))] := hl
  have hW1 : Ws G A s [[(t, .inr (13, [.null, .null, .null, vr (rootA cx (some x.1)), .int (nI n), .int md, .null, .null, .null]))], [(x.1, .inr (20, [.ref x.2.1, .ref x.2.2.2.1, .null, vr (tad r), vr (pa cx), .int (nI (tcol x.2.2.2.2))]))], (tw (some x.1) r), (cw cx (some x.1))] s.heap [] := hW.perm (wperm (fun d x => by simp only [List.flatten_append, List.flatten_cons, List.flatten_nil, List.count_append, List.count_cons, List.count_nil, plug_ct, tw, cw, tcell, tad_n, tad_i, pa_n, pa_c, plug, recol, tcol_f, tcol_t, vr_n, vr_s, rootA]; try omega))
  clear hW
  refine k_new (fs := [.null, .null, .null, .null, .null, .int 0]) C clJ31 hW1 q1810 rfl q1811 q113 (fun j hj => (by have := co_dec (P := fun j => defaultValue (tyJ31 j) = vp_V [.null, .null, .null, .null, .null, .int 0] j) (N := 6) (by decide +kernel) hj; exact this)) (show 0 + 1 ≤ 1 by omega) (show 0 + 6 ≤ 6 by omega) dJ6_addEntry_0 (fun q2 H2 hW2 => ?_)
  have hW2 : Ws G A s [[(t, .inr (13, [.null, .null, .null, vr (rootA cx (some x.1)), .int (nI n), .int md, .null, .null, .null]))], [(x.1, .inr (20, [.ref x.2.1, .ref x.2.2.2.1, .null, vr (tad r), vr (pa cx), .int (nI (tcol x.2.2.2.2))]))], (tw (some x.1) r), (cw cx (some x.1)), [(q2, .inr (20, [.null, .null, .null, .null, .null, .int 0]))]] H2 [] := hW2
  clear hW1
  refine lv_dup C.hx C.hb dJ6_addEntry_3 rfl ?_
  refine lv_aload_n C.hx C.hb dJ6_addEntry_4 rfl (lv_at hl 1 rfl) ?_
  refine lv_aload_n C.hx C.hb dJ6_addEntry_5 rfl (lv_at hl 2 rfl) ?_
  refine lv_aload_n C.hx C.hb dJ6_addEntry_6 rfl (lv_at hl 3 rfl) ?_
  refine k_callI (Sc := [[(q2, .inr (20, [.null, .null, .null, .null, .null, .int 0]))]]) (Sr := [[(t, .inr (13, [.null, .null, .null, vr (rootA cx (some x.1)), .int (nI n), .int md, .null, .null, .null]))], [(x.1, .inr (20, [.ref x.2.1, .ref x.2.2.2.1, .null, vr (tad r), vr (pa cx), .int (nI (tcol x.2.2.2.2))]))], (tw (some x.1) r), (cw cx (some x.1))]) (As := [.ref q1, .ref v0, .ref x.1]) (rest := [.ref q2]) C (ctJ31_init l G q2 q1 v0 (some x.1)) hW2 q1812 q1813 q113 q1814 rfl rfl ⟨by decide, by decide, Eq.trans (b := some 3) (by decide +kernel) rfl⟩ (Nat.le_of_ble_eq_true rfl) (Nat.le_of_ble_eq_true rfl) (show 1 + 0 ≤ 1 by omega) (show 6 + 0 ≤ 6 by omega) hl.1 rfl (Nat.le_of_ble_eq_true rfl) dJ6_addEntry_7 ((pick_perm [[(t, .inr (13, [.null, .null, .null, vr (rootA cx (some x.1)), .int (nI n), .int md, .null, .null, .null]))], [(x.1, .inr (20, [.ref x.2.1, .ref x.2.2.2.1, .null, vr (tad r), vr (pa cx), .int (nI (tcol x.2.2.2.2))]))], (tw (some x.1) r), (cw cx (some x.1)), [(q2, .inr (20, [.null, .null, .null, .null, .null, .int 0]))]] 5 rfl (is := [0, 1, 2, 3, 4]) (by decide)).flatten.symm) (fun _ h => h.elim) (fun v H3 locs3 S1 hQ hz3 hW3 => ?_)
  obtain ⟨rfl, rfl⟩ := hQ
  have hW3 : Ws G A s ([[(t, .inr (13, [.null, .null, .null, vr (rootA cx (some x.1)), .int (nI n), .int md, .null, .null, .null]))], [(x.1, .inr (20, [.ref x.2.1, .ref x.2.2.2.1, .null, vr (tad r), vr (pa cx), .int (nI (tcol x.2.2.2.2))]))], (tw (some x.1) r), (cw cx (some x.1)), [(q2, .inr (20, [.ref q1, .ref v0, .null, .null, .ref x.1, .int (nI 1)]))]]) H3 locs3 := hW3
  clear hW2
  refine W.eq (g2 := F0 m 10 ls [.ref q2]) rfl ?_
  refine lv_astore (lv' := [(5, .ref q2), (0, .ref t), (1, .ref q1), (2, .ref v0), (3, .ref x.1), (4, .int (nI 1))]) C.hx C.hb dJ6_addEntry_10 hl (Nat.le_of_ble_eq_true rfl) rfl (fun ls4 hl4 => ?_)
  clear hl
  refine lv_iload C.hx C.hb dJ6_addEntry_12 (lv_at hl4 5 rfl) ?_
  refine kn_if_eq (tgt := 26) C (by decide) dJ6_addEntry_14 (by decide) (fun cq => absurd cq (by decide)) (fun cq => ?_)
  refine lv_aload_n C.hx C.hb dJ6_addEntry_17 rfl (lv_at hl4 4 rfl) ?_
  refine lv_aload C.hx C.hb dJ6_addEntry_18 (lv_at hl4 0 rfl) ?_
  refine k_put (S' := [[(t, .inr (13, [.null, .null, .null, vr (rootA cx (some x.1)), .int (nI n), .int md, .null, .null, .null]))], [(x.1, .inr (20, [.ref x.2.1, .ref x.2.2.2.1, .ref q2, vr (tad r), vr (pa cx), .int (nI (tcol x.2.2.2.2))]))], (tw (some x.1) r), (cw cx (some x.1)), [(q2, .inr (20, [.ref q1, .ref v0, .null, .null, .ref x.1, .int (nI 1)]))]]) C clJ31 hW3 1 0 rfl rfl 2 (Nat.le_of_ble_eq_true rfl) rfl q1820 rfl (fun _ h => h) (Or.inl rfl) (fty := (.object "java/util/TreeMap$Entry")) (v := .ref q2) (by decide +kernel) rfl rfl (Nat.le_of_ble_eq_true rfl) dJ6_addEntry_20 rfl (fun H5 locs5 hW5 => ?_)
  clear hW3
  refine lv_goto (tgt := 32) C.hx C.hb dJ6_addEntry_23 (by decide) ?_
  refine lv_aload_n C.hx C.hb dJ6_addEntry_32 rfl (lv_at hl4 1 rfl) ?_
  refine lv_aload C.hx C.hb dJ6_addEntry_33 (lv_at hl4 0 rfl) ?_
  obtain ⟨ee, he⟩ : ∃ ee : TN, (q2, q1, i, v0, true) = ee := ⟨_, rfl⟩
  obtain rfl : q2 = ee.1 := by rw [← he]
  have he1 : ee.2.1 = q1 := by rw [← he]
  have he2 : ee.2.2.1 = i := by rw [← he]
  have he3 : ee.2.2.2.1 = v0 := by rw [← he]
  have he4 : ee.2.2.2.2 = true := by rw [← he]
  clear he
  have hW6 : Ws G A s [[(t, .inr (13, [.null, .null, .null, vr (rootA cx (some x.1)), .int (nI n), .int md, .null, .null, .null]))], (tw none (plug ((true, z, x, r) :: cx) (.inner 0 ee () .leaf .leaf)))] H5 locs5 := hW5.perm (wperm (fun d x => by simp only [he1, he2, he3, he4, List.flatten_append, List.flatten_cons, List.flatten_nil, List.count_append, List.count_cons, List.count_nil, plug_ct, tw, cw, tcell, tad_n, tad_i, pa_n, pa_c, plug, recol, tcol_f, tcol_t, vr_n, vr_s, rootA]; try omega))
  clear hW5
  have hW7 : Ws G A s [[(t, .inr (13, [.null, .null, .null, vr (rootA ((true, z, x, r) :: cx) (some ee.1)), .int (nI n), .int md, .null, .null, .null]))], (tw none (plug ((true, z, x, r) :: cx) (.inner 0 ee () .leaf .leaf)))] H5 locs5 := hW6
  clear hW6
  refine k_callV (Sc := [[(t, .inr (13, [.null, .null, .null, vr (rootA ((true, z, x, r) :: cx) (some ee.1)), .int (nI n), .int md, .null, .null, .null]))], (tw none (plug ((true, z, x, r) :: cx) (.inner 0 ee () .leaf .leaf)))]) (Sr := []) (As := [.ref ee.1]) (rest := []) C (ctJ6_fixAfterInsertion l G t n 0 md ((true, z, x, r) :: cx) ee .leaf .leaf) hW7 clJ6 (hW7.get 0 0 rfl rfl) q1843 q1845 qs36 q79 q1846 rfl rfl ⟨by decide, by decide, Eq.trans (b := some 1) (by decide +kernel) rfl⟩ (Nat.le_of_ble_eq_true rfl) (Nat.le_of_ble_eq_true rfl) (show 1 + 0 ≤ 1 by omega) (show 6 + 0 ≤ 6 by omega) hl4.1 rfl (Nat.le_of_ble_eq_true rfl) dJ6_addEntry_35 ((pick_perm [[(t, .inr (13, [.null, .null, .null, vr (rootA ((true, z, x, r) :: cx) (some ee.1)), .int (nI n), .int md, .null, .null, .null]))], (tw none (plug ((true, z, x, r) :: cx) (.inner 0 ee () .leaf .leaf)))] 2 rfl (is := [0, 1]) (by decide)).flatten.symm) (fun _ h => h.elim) (fun v H8 locs8 S1 hQ hz8 hW8 => ?_)
  obtain ⟨rfl, T, rfl, hink, hne⟩ := hQ
  have hW8 : Ws G A s ([[(t, .inr (13, [.null, .null, .null, vr (tad T), .int (nI n), .int md, .null, .null, .null]))], (tw none T)]) H8 locs8 := hW8
  clear hW7
  refine W.eq (g2 := F0 m 38 ls4 []) rfl ?_
  refine lv_aload_n C.hx C.hb dJ6_addEntry_38 rfl (lv_at hl4 1 rfl) ?_
  refine lv_dup C.hx C.hb dJ6_addEntry_39 rfl ?_
  refine k_get (v := .int (nI n)) C clJ6 (hW8.get 0 0 rfl rfl) 4 (Nat.le_of_ble_eq_true rfl) rfl q227 rfl rfl dJ6_addEntry_40 ?_
  refine kn_iconst (a := 1) C (by decide) dJ6_addEntry_43 ?_
  refine kn_iadd C  dJ6_addEntry_44 ?_
  refine k_put (S' := [[(t, .inr (13, [.null, .null, .null, vr (tad T), .int (nI (n + 1)), .int md, .null, .null, .null]))], (tw none T)]) C clJ6 hW8 0 0 rfl rfl 4 (Nat.le_of_ble_eq_true rfl) rfl q227 rfl (fun _ h => h) (Or.inl rfl) (fty := .int) (v := .int (nI (n + 1))) (by decide +kernel) rfl rfl (Nat.le_of_ble_eq_true rfl) dJ6_addEntry_45 rfl (fun H9 locs9 hW9 => ?_)
  clear hW8
  refine lv_aload_n C.hx C.hb dJ6_addEntry_48 rfl (lv_at hl4 1 rfl) ?_
  refine lv_dup C.hx C.hb dJ6_addEntry_49 rfl ?_
  refine k_get (v := .int md) C clJ6 (hW9.get 0 0 rfl rfl) 5 (Nat.le_of_ble_eq_true rfl) rfl q228 rfl rfl dJ6_addEntry_50 ?_
  refine kn_iconst (a := 1) C (by decide) dJ6_addEntry_53 ?_
  refine lv_iadd C.hx C.hb dJ6_addEntry_54 ?_
  refine k_put (S' := [[(t, .inr (13, [.null, .null, .null, vr (tad T), .int (nI (n + 1)), .int (md + (nI 1)), .null, .null, .null]))], (tw none T)]) C clJ6 hW9 0 0 rfl rfl 5 (Nat.le_of_ble_eq_true rfl) rfl q228 rfl (fun _ h => h) (Or.inl rfl) (fty := .int) (v := .int (md + (nI 1))) (by decide +kernel) rfl rfl (Nat.le_of_ble_eq_true rfl) dJ6_addEntry_55 rfl (fun H10 locs10 hW10 => ?_)
  clear hW9
  exact k_vret C hW10 rfl ⟨rfl, ee, T, rfl, he1, he2, he3, hink⟩ (by omega) (by omega) dJ6_addEntry_58

def Q_ctJ6_addEntry_0 (G : GT) (t q1 v0 i n z : Nat) (md : Int32) (cx : List TF) (x : TN) (r : TT) : Option Value → List va_W → Prop := fun v S1 => v = none ∧ ∃ (e : TN) (T : TT), S1 = [[(t, .inr (13, [.null, .null, .null, vr (tad T), .int (nI (n + 1)), .int (md + 1), .null, .null, .null]))], (tw none T)] ∧ e.2.1 = q1 ∧ e.2.2.1 = i ∧ e.2.2.2.1 = v0 ∧ ink T = ink (plug cx (.inner z x () r (.inner 0 e () .leaf .leaf)))
set_option maxHeartbeats 4000000 in
set_option maxRecDepth 100000 in
theorem ctJ6_addEntry_0 (l : Launch) (G : GT) (t q1 v0 i n z : Nat) (md : Int32) (cx : List TF) (x : TN) (r : TT)  : Ct l G yJ6_addEntry cJ6_addEntry 6 none 2 44 1 6 [.ref t, .ref q1, .ref v0, .ref x.1, .int (nI 0)] ([[(t, .inr (13, [.null, .null, .null, vr (rootA cx (some x.1)), .int (nI n), .int md, .null, .null, .null]))], (tw none (plug cx (.inner z x () r .leaf)))]) noR (Q_ctJ6_addEntry_0 G t q1 v0 i n z md cx x r) := by
  refine Ct.of (by decide +kernel) (Nat.le_of_ble_eq_true rfl) ?_
  intro p e s m below meth c A ls C hW hRo hl
  have hl : lv_has ls 6 [(0, .ref t), (1, .ref q1), (2, .ref v0), (3, .ref x.1), (4, .int (nI 0))] := hl
  have hW1 : Ws G A s [[(t, .inr (13, [.null, .null, .null, vr (rootA cx (some x.1)), .int (nI n), .int md, .null, .null, .null]))], [(x.1, .inr (20, [.ref x.2.1, .ref x.2.2.2.1, vr (tad r), .null, vr (pa cx), .int (nI (tcol x.2.2.2.2))]))], (tw (some x.1) r), (cw cx (some x.1))] s.heap [] := hW.perm (wperm (fun d x => by simp only [List.flatten_append, List.flatten_cons, List.flatten_nil, List.count_append, List.count_cons, List.count_nil, plug_ct, tw, cw, tcell, tad_n, tad_i, pa_n, pa_c, plug, recol, tcol_f, tcol_t, vr_n, vr_s, rootA]; try omega))
  clear hW
  refine k_new (fs := [.null, .null, .null, .null, .null, .int 0]) C clJ31 hW1 q1810 rfl q1811 q113 (fun j hj => (by have := co_dec (P := fun j => defaultValue (tyJ31 j) = vp_V [.null, .null, .null, .null, .null, .int 0] j) (N := 6) (by decide +kernel) hj; exact this)) (show 0 + 1 ≤ 1 by omega) (show 0 + 6 ≤ 6 by omega) dJ6_addEntry_0 (fun q2 H2 hW2 => ?_)
  have hW2 : Ws G A s [[(t, .inr (13, [.null, .null, .null, vr (rootA cx (some x.1)), .int (nI n), .int md, .null, .null, .null]))], [(x.1, .inr (20, [.ref x.2.1, .ref x.2.2.2.1, vr (tad r), .null, vr (pa cx), .int (nI (tcol x.2.2.2.2))]))], (tw (some x.1) r), (cw cx (some x.1)), [(q2, .inr (20, [.null, .null, .null, .null, .null, .int 0]))]] H2 [] := hW2
  clear hW1
  refine lv_dup C.hx C.hb dJ6_addEntry_3 rfl ?_
  refine lv_aload_n C.hx C.hb dJ6_addEntry_4 rfl (lv_at hl 1 rfl) ?_
  refine lv_aload_n C.hx C.hb dJ6_addEntry_5 rfl (lv_at hl 2 rfl) ?_
  refine lv_aload_n C.hx C.hb dJ6_addEntry_6 rfl (lv_at hl 3 rfl) ?_
  refine k_callI (Sc := [[(q2, .inr (20, [.null, .null, .null, .null, .null, .int 0]))]]) (Sr := [[(t, .inr (13, [.null, .null, .null, vr (rootA cx (some x.1)), .int (nI n), .int md, .null, .null, .null]))], [(x.1, .inr (20, [.ref x.2.1, .ref x.2.2.2.1, vr (tad r), .null, vr (pa cx), .int (nI (tcol x.2.2.2.2))]))], (tw (some x.1) r), (cw cx (some x.1))]) (As := [.ref q1, .ref v0, .ref x.1]) (rest := [.ref q2]) C (ctJ31_init l G q2 q1 v0 (some x.1)) hW2 q1812 q1813 q113 q1814 rfl rfl ⟨by decide, by decide, Eq.trans (b := some 3) (by decide +kernel) rfl⟩ (Nat.le_of_ble_eq_true rfl) (Nat.le_of_ble_eq_true rfl) (show 1 + 0 ≤ 1 by omega) (show 6 + 0 ≤ 6 by omega) hl.1 rfl (Nat.le_of_ble_eq_true rfl) dJ6_addEntry_7 ((pick_perm [[(t, .inr (13, [.null, .null, .null, vr (rootA cx (some x.1)), .int (nI n), .int md, .null, .null, .null]))], [(x.1, .inr (20, [.ref x.2.1, .ref x.2.2.2.1, vr (tad r), .null, vr (pa cx), .int (nI (tcol x.2.2.2.2))]))], (tw (some x.1) r), (cw cx (some x.1)), [(q2, .inr (20, [.null, .null, .null, .null, .null, .int 0]))]] 5 rfl (is := [0, 1, 2, 3, 4]) (by decide)).flatten.symm) (fun _ h => h.elim) (fun v H3 locs3 S1 hQ hz3 hW3 => ?_)
  obtain ⟨rfl, rfl⟩ := hQ
  have hW3 : Ws G A s ([[(t, .inr (13, [.null, .null, .null, vr (rootA cx (some x.1)), .int (nI n), .int md, .null, .null, .null]))], [(x.1, .inr (20, [.ref x.2.1, .ref x.2.2.2.1, vr (tad r), .null, vr (pa cx), .int (nI (tcol x.2.2.2.2))]))], (tw (some x.1) r), (cw cx (some x.1)), [(q2, .inr (20, [.ref q1, .ref v0, .null, .null, .ref x.1, .int (nI 1)]))]]) H3 locs3 := hW3
  clear hW2
  refine W.eq (g2 := F0 m 10 ls [.ref q2]) rfl ?_
  refine lv_astore (lv' := [(5, .ref q2), (0, .ref t), (1, .ref q1), (2, .ref v0), (3, .ref x.1), (4, .int (nI 0))]) C.hx C.hb dJ6_addEntry_10 hl (Nat.le_of_ble_eq_true rfl) rfl (fun ls4 hl4 => ?_)
  clear hl
  refine lv_iload C.hx C.hb dJ6_addEntry_12 (lv_at hl4 5 rfl) ?_
  refine kn_if_eq (tgt := 26) C (by decide) dJ6_addEntry_14 (by decide) (fun cq => ?_) (fun cq => absurd cq (by decide))
  refine lv_aload_n C.hx C.hb dJ6_addEntry_26 rfl (lv_at hl4 4 rfl) ?_
  refine lv_aload C.hx C.hb dJ6_addEntry_27 (lv_at hl4 0 rfl) ?_
  refine k_put (S' := [[(t, .inr (13, [.null, .null, .null, vr (rootA cx (some x.1)), .int (nI n), .int md, .null, .null, .null]))], [(x.1, .inr (20, [.ref x.2.1, .ref x.2.2.2.1, vr (tad r), .ref q2, vr (pa cx), .int (nI (tcol x.2.2.2.2))]))], (tw (some x.1) r), (cw cx (some x.1)), [(q2, .inr (20, [.ref q1, .ref v0, .null, .null, .ref x.1, .int (nI 1)]))]]) C clJ31 hW3 1 0 rfl rfl 3 (Nat.le_of_ble_eq_true rfl) rfl q1821 rfl (fun _ h => h) (Or.inl rfl) (fty := (.object "java/util/TreeMap$Entry")) (v := .ref q2) (by decide +kernel) rfl rfl (Nat.le_of_ble_eq_true rfl) dJ6_addEntry_29 rfl (fun H5 locs5 hW5 => ?_)
  clear hW3
  refine lv_aload_n C.hx C.hb dJ6_addEntry_32 rfl (lv_at hl4 1 rfl) ?_
  refine lv_aload C.hx C.hb dJ6_addEntry_33 (lv_at hl4 0 rfl) ?_
  obtain ⟨ee, he⟩ : ∃ ee : TN, (q2, q1, i, v0, true) = ee := ⟨_, rfl⟩
  obtain rfl : q2 = ee.1 := by rw [← he]
  have he1 : ee.2.1 = q1 := by rw [← he]
  have he2 : ee.2.2.1 = i := by rw [← he]
  have he3 : ee.2.2.2.1 = v0 := by rw [← he]
  have he4 : ee.2.2.2.2 = true := by rw [← he]
  clear he
  have hW6 : Ws G A s [[(t, .inr (13, [.null, .null, .null, vr (rootA cx (some x.1)), .int (nI n), .int md, .null, .null, .null]))], (tw none (plug ((false, z, x, r) :: cx) (.inner 0 ee () .leaf .leaf)))] H5 locs5 := hW5.perm (wperm (fun d x => by simp only [he1, he2, he3, he4, List.flatten_append, List.flatten_cons, List.flatten_nil, List.count_append, List.count_cons, List.count_nil, plug_ct, tw, cw, tcell, tad_n, tad_i, pa_n, pa_c, plug, recol, tcol_f, tcol_t, vr_n, vr_s, rootA]; try omega))
  clear hW5
  have hW7 : Ws G A s [[(t, .inr (13, [.null, .null, .null, vr (rootA ((false, z, x, r) :: cx) (some ee.1)), .int (nI n), .int md, .null, .null, .null]))], (tw none (plug ((false, z, x, r) :: cx) (.inner 0 ee () .leaf .leaf)))] H5 locs5 := hW6
  clear hW6
  refine k_callV (Sc := [[(t, .inr (13, [.null, .null, .null, vr (rootA ((false, z, x, r) :: cx) (some ee.1)), .int (nI n), .int md, .null, .null, .null]))], (tw none (plug ((false, z, x, r) :: cx) (.inner 0 ee () .leaf .leaf)))]) (Sr := []) (As := [.ref ee.1]) (rest := []) C (ctJ6_fixAfterInsertion l G t n 0 md ((false, z, x, r) :: cx) ee .leaf .leaf) hW7 clJ6 (hW7.get 0 0 rfl rfl) q1843 q1845 qs36 q79 q1846 rfl rfl ⟨by decide, by decide, Eq.trans (b := some 1) (by decide +kernel) rfl⟩ (Nat.le_of_ble_eq_true rfl) (Nat.le_of_ble_eq_true rfl) (show 1 + 0 ≤ 1 by omega) (show 6 + 0 ≤ 6 by omega) hl4.1 rfl (Nat.le_of_ble_eq_true rfl) dJ6_addEntry_35 ((pick_perm [[(t, .inr (13, [.null, .null, .null, vr (rootA ((false, z, x, r) :: cx) (some ee.1)), .int (nI n), .int md, .null, .null, .null]))], (tw none (plug ((false, z, x, r) :: cx) (.inner 0 ee () .leaf .leaf)))] 2 rfl (is := [0, 1]) (by decide)).flatten.symm) (fun _ h => h.elim) (fun v H8 locs8 S1 hQ hz8 hW8 => ?_)
  obtain ⟨rfl, T, rfl, hink, hne⟩ := hQ
  have hW8 : Ws G A s ([[(t, .inr (13, [.null, .null, .null, vr (tad T), .int (nI n), .int md, .null, .null, .null]))], (tw none T)]) H8 locs8 := hW8
  clear hW7
  refine W.eq (g2 := F0 m 38 ls4 []) rfl ?_
  refine lv_aload_n C.hx C.hb dJ6_addEntry_38 rfl (lv_at hl4 1 rfl) ?_
  refine lv_dup C.hx C.hb dJ6_addEntry_39 rfl ?_
  refine k_get (v := .int (nI n)) C clJ6 (hW8.get 0 0 rfl rfl) 4 (Nat.le_of_ble_eq_true rfl) rfl q227 rfl rfl dJ6_addEntry_40 ?_
  refine kn_iconst (a := 1) C (by decide) dJ6_addEntry_43 ?_
  refine kn_iadd C  dJ6_addEntry_44 ?_
  refine k_put (S' := [[(t, .inr (13, [.null, .null, .null, vr (tad T), .int (nI (n + 1)), .int md, .null, .null, .null]))], (tw none T)]) C clJ6 hW8 0 0 rfl rfl 4 (Nat.le_of_ble_eq_true rfl) rfl q227 rfl (fun _ h => h) (Or.inl rfl) (fty := .int) (v := .int (nI (n + 1))) (by decide +kernel) rfl rfl (Nat.le_of_ble_eq_true rfl) dJ6_addEntry_45 rfl (fun H9 locs9 hW9 => ?_)
  clear hW8
  refine lv_aload_n C.hx C.hb dJ6_addEntry_48 rfl (lv_at hl4 1 rfl) ?_
  refine lv_dup C.hx C.hb dJ6_addEntry_49 rfl ?_
  refine k_get (v := .int md) C clJ6 (hW9.get 0 0 rfl rfl) 5 (Nat.le_of_ble_eq_true rfl) rfl q228 rfl rfl dJ6_addEntry_50 ?_
  refine kn_iconst (a := 1) C (by decide) dJ6_addEntry_53 ?_
  refine lv_iadd C.hx C.hb dJ6_addEntry_54 ?_
  refine k_put (S' := [[(t, .inr (13, [.null, .null, .null, vr (tad T), .int (nI (n + 1)), .int (md + (nI 1)), .null, .null, .null]))], (tw none T)]) C clJ6 hW9 0 0 rfl rfl 5 (Nat.le_of_ble_eq_true rfl) rfl q228 rfl (fun _ h => h) (Or.inl rfl) (fty := .int) (v := .int (md + (nI 1))) (by decide +kernel) rfl rfl (Nat.le_of_ble_eq_true rfl) dJ6_addEntry_55 rfl (fun H10 locs10 hW10 => ?_)
  clear hW9
  exact k_vret C hW10 rfl ⟨rfl, ee, T, rfl, he1, he2, he3, hink⟩ (by omega) (by omega) dJ6_addEntry_58

def Q_ctJ6_put_2 (G : GT) (t q1 v0 i n : Nat) (md : Int32) (T0 : TT) : Option Value → List va_W → Prop := fun v S1 => v = some .null ∧ ∃ (n2 : Nat) (e : TN) (T : TT) (A B : List (Nat × Nat × Nat × Nat)), S1 = [[(t, .inr (13, [.null, .null, .null, vr (tad T), .int (nI n2), .int (md + 1), .null, .null, .null]))], (tw none T)] ∧ e.2.1 = q1 ∧ e.2.2.1 = i ∧ e.2.2.2.1 = v0 ∧ ink T0 = A ++ B ∧ ink T = A ++ nk e :: B ∧ (∀ y ∈ A, y.2.2.1 < i) ∧ (∀ y ∈ B, i < y.2.2.1) ∧ n2 = n + 1
set_option maxHeartbeats 4000000 in
set_option maxRecDepth 100000 in
theorem ctJ6_put_2 (l : Launch) (G : GT) (t q1 v0 i n : Nat) (md : Int32) (T0 : TT) (hi : i < 2 ^ 31) (hk : ∀ x ∈ inord T0, x.2.2.1 < 2 ^ 31) (hs : srt (inord T0)) (hnf : ∀ x ∈ inord T0, x.2.2.1 ≠ i) (hn : n = (ink T0).length) : Ct l G yJ6_put_2 cJ6_put_2 10 (some (.object "java/lang/Object")) 5 107 1 6 [.ref t, .ref q1, .ref v0, .int (nI 1)] ([[(t, .inr (13, [.null, .null, .null, vr (tad T0), .int (nI n), .int md, .null, .null, .null]))], (tw none T0)]) ((fun z => z = .inl (q1, .inr (16, [.int (nI i)])) ∨ ∃ x ∈ inord T0, z = .inl (x.2.1, .inr (16, [.int (nI x.2.2.1)])))) (Q_ctJ6_put_2 G t q1 v0 i n md T0) := by
  refine Ct.of (by decide +kernel) (Nat.le_of_ble_eq_true rfl) ?_
  intro p e s m below meth c A ls C hW hRo hl
  have hl : lv_has ls 10 [(0, .ref t), (1, .ref q1), (2, .ref v0), (3, .int (nI 1))] := hl
  refine lv_aload_n C.hx C.hb dJ6_put_2_0 rfl (lv_at hl 0 rfl) ?_
  refine k_get (v := vr (tad T0)) C clJ6 (hW.get 0 0 rfl rfl) 3 (Nat.le_of_ble_eq_true rfl) rfl q226 rfl rfl dJ6_put_2_1 ?_
  obtain hT | ⟨z0, x0, l0, r0, hT⟩ : T0 = .leaf ∨ ∃ z0 x0 l0 r0, T0 = .inner z0 x0 () l0 r0 := by
    cases T0 with
    | leaf => exact Or.inl rfl
    | inner z x u l r => exact Or.inr ⟨_, _, _, _, rfl⟩
  · have hW1 : Ws G A s [[(t, .inr (13, [.null, .null, .null, .null, .int (nI n), .int md, .null, .null, .null]))], (tw none .leaf)] s.heap [] := by
      have h9 := hW
      rw [hT] at h9
      exact h9
    clear hW
    refine W.eq (g2 := F0 m 4 ls [.null]) (by rw [hT]; rfl) ?_
    have hW2 : Ws G A s [[(t, .inr (13, [.null, .null, .null, .null, .int (nI n), .int md, .null, .null, .null]))]] s.heap [] := hW1.drop (S2 := [(tw none .leaf)]) rfl
    clear hW1
    refine lv_astoreN (lv' := [(4, .null), (0, .ref t), (1, .ref q1), (2, .ref v0), (3, .int (nI 1))]) C.hx C.hb dJ6_put_2_4 hl (Nat.le_of_ble_eq_true rfl) rfl (fun ls3 hl3 => ?_)
    clear hl
    refine lv_aloadN C.hx C.hb dJ6_put_2_6 (lv_at hl3 0 rfl) ?_
    refine lv_ifnonnullN C.hx C.hb dJ6_put_2_8 ?_
    refine lv_aload_n C.hx C.hb dJ6_put_2_11 rfl (lv_at hl3 1 rfl) ?_
    refine lv_aload_n C.hx C.hb dJ6_put_2_12 rfl (lv_at hl3 2 rfl) ?_
    refine lv_aload_n C.hx C.hb dJ6_put_2_13 rfl (lv_at hl3 3 rfl) ?_
    refine k_callV (Sc := [[(t, .inr (13, [.null, .null, .null, .null, .int (nI n), .int md, .null, .null, .null]))]]) (Sr := []) (As := [.ref q1, .ref v0]) (rest := []) C (ctJ6_addEntryToEmptyMap l G t q1 v0 i n md hi) hW2 clJ6 (hW2.get 0 0 rfl rfl) q1802 q1804 qs34 q79 q1805 rfl rfl ⟨by decide, by decide, Eq.trans (b := some 2) (by decide +kernel) rfl⟩ (Nat.le_of_ble_eq_true rfl) (Nat.le_of_ble_eq_true rfl) (show 0 + 1 ≤ 1 by omega) (show 0 + 6 ≤ 6 by omega) hl3.1 rfl (Nat.le_of_ble_eq_true rfl) dJ6_put_2_14 ((pick_perm [[(t, .inr (13, [.null, .null, .null, .null, .int (nI n), .int md, .null, .null, .null]))]] 1 rfl (is := [0]) (by decide)).flatten.symm) (fun z hz => by cases hz; exact Or.inr (Or.inr (hRo _ (Or.inl rfl)))) (fun v H4 locs4 S1 hQ hz4 hW4 => ?_)
    obtain ⟨rfl, x, rfl⟩ := hQ
    have hW4 : Ws G A s ([[(t, .inr (13, [.null, .null, .null, .ref x, .int (nI 1), .int (md + 1), .null, .null, .null]))], [(x, .inr (20, [.ref q1, .ref v0, .null, .null, .null, .int (nI 1)]))]]) H4 locs4 := hW4
    clear hW2
    refine W.eq (g2 := F0 m 17 ls3 []) rfl ?_
    refine lv_null C.hx C.hb dJ6_put_2_17 ?_
    obtain ⟨ee, he⟩ : ∃ ee : TN, (x, q1, i, v0, true) = ee := ⟨_, rfl⟩
    obtain rfl : x = ee.1 := by rw [← he]
    have he1 : ee.2.1 = q1 := by rw [← he]
    have he2 : ee.2.2.1 = i := by rw [← he]
    have he3 : ee.2.2.2.1 = v0 := by rw [← he]
    have he4 : ee.2.2.2.2 = true := by rw [← he]
    clear he
    have hW6 : Ws G A s [[(t, .inr (13, [.null, .null, .null, vr (tad (.inner 0 ee () .leaf .leaf)), .int (nI 1), .int (md + 1), .null, .null, .null]))], (tw none (.inner 0 ee () .leaf .leaf))] H4 locs4 := hW4.perm (wperm (fun d x => by simp only [he1, he2, he3, he4, List.flatten_append, List.flatten_cons, List.flatten_nil, List.count_append, List.count_cons, List.count_nil, plug_ct, tw, cw, tcell, tad_n, tad_i, pa_n, pa_c, plug, recol, tcol_f, tcol_t, vr_n, vr_s, rootA]; try omega))
    clear hW4
    exact k_aret C hW6 rfl (Or.inl ⟨_, rfl⟩) (Or.inl rfl) ⟨rfl, 1, ee, _, [], [], rfl, he1, he2, he3, (by rw [hT]; rfl), rfl, (fun _ h => by cases h), (fun _ h => by cases h), by rw [hn, hT]; rfl⟩ (by omega) (by omega) dJ6_put_2_18
  · have hW7 : Ws G A s [[(t, .inr (13, [.null, .null, .null, .ref x0.1, .int (nI n), .int md, .null, .null, .null]))], (tw none (.inner z0 x0 () l0 r0))] s.heap [] := by
      have h9 := hW
      rw [hT] at h9
      exact h9
    clear hW
    refine W.eq (g2 := F0 m 4 ls [.ref x0.1]) (by rw [hT]; rfl) ?_
    refine lv_astore (lv' := [(4, .ref x0.1), (0, .ref t), (1, .ref q1), (2, .ref v0), (3, .int (nI 1))]) C.hx C.hb dJ6_put_2_4 hl (Nat.le_of_ble_eq_true rfl) rfl (fun ls8 hl8 => ?_)
    clear hl
    refine lv_aload C.hx C.hb dJ6_put_2_6 (lv_at hl8 0 rfl) ?_
    refine lv_ifnonnull (tgt := 19) C.hx C.hb dJ6_put_2_8 (by decide) ?_
    refine lv_aload_n C.hx C.hb dJ6_put_2_19 rfl (lv_at hl8 1 rfl) ?_
    refine k_get (v := .null) C clJ6 (hW7.get 0 0 rfl rfl) 2 (Nat.le_of_ble_eq_true rfl) rfl q225 rfl rfl dJ6_put_2_20 ?_
    refine lv_astoreN (lv' := [(7, .null), (4, .ref x0.1), (0, .ref t), (1, .ref q1), (2, .ref v0), (3, .int (nI 1))]) C.hx C.hb dJ6_put_2_23 hl8 (Nat.le_of_ble_eq_true rfl) rfl (fun ls9 hl9 => ?_)
    clear hl8
    refine lv_aloadN C.hx C.hb dJ6_put_2_25 (lv_at hl9 0 rfl) ?_
    refine lv_ifnullN (tgt := 112) C.hx C.hb dJ6_put_2_27 (by decide) ?_
    refine lv_aload_n C.hx C.hb dJ6_put_2_112 rfl (lv_at hl9 3 rfl) ?_
    refine k_callS (Sc := []) (Sr := [[(t, .inr (13, [.null, .null, .null, .ref x0.1, .int (nI n), .int md, .null, .null, .null]))], (tw none (.inner z0 x0 () l0 r0))]) (As := [.ref q1]) (rest := []) C (ctJ17_requireNonNull l G q1) hW7 q1324 q1325 q94 q1326 rfl ⟨by decide, by decide, Eq.trans (b := some 1) (by decide +kernel) rfl⟩ (Nat.le_of_ble_eq_true rfl) (Nat.le_of_ble_eq_true rfl) (show 0 + 0 ≤ 1 by omega) (show 0 + 0 ≤ 6 by omega) hl9.1 rfl (Nat.le_of_ble_eq_true rfl) dJ6_put_2_113 (k_permR _) (fun _ h => h.elim) (fun v H10 locs10 S1 hQ hz10 hW10 => ?_)
    obtain ⟨rfl, rfl⟩ := hQ
    have hW10 : Ws G A s ([[(t, .inr (13, [.null, .null, .null, .ref x0.1, .int (nI n), .int md, .null, .null, .null]))], (tw none (.inner z0 x0 () l0 r0))]) H10 locs10 := hW10
    clear hW7
    refine W.eq (g2 := F0 m 116 ls9 [.ref q1]) rfl ?_
    refine lv_pop C.hx C.hb dJ6_put_2_116 rfl ?_
    refine lv_aload_n C.hx C.hb dJ6_put_2_117 rfl (lv_at hl9 3 rfl) ?_
    refine k_castY C clJ16 ((hRo _ (Or.inl rfl)).at hW10) q1327 rfl q1332 dJ6_put_2_118 ?_
    refine lv_astore (lv' := [(8, .ref q1), (7, .null), (4, .ref x0.1), (0, .ref t), (1, .ref q1), (2, .ref v0), (3, .int (nI 1))]) C.hx C.hb dJ6_put_2_121 hl9 (Nat.le_of_ble_eq_true rfl) rfl (fun ls11 hl11 => ?_)
    clear hl9
    have La : ∀ (k12 : Nat) (cx1 : List TF) (z1 : Nat) (x1 : TN) (l1 r1 : TT), ((.inner z0 x0 () l0 r0) = plug cx1 (.inner z1 x1 () l1 r1)) → (∀ y ∈ ctxL cx1, y.2.2.1 < i) → (∀ y ∈ ctxR cx1, i < y.2.2.1) → tsz (.inner z1 x1 () l1 r1) < k12 → ∀ (H12 : Heap) (locs12 : List Loc) (ls12 : Array Slot), Ws G A s ([[(t, .inr (13, [.null, .null, .null, .ref x0.1, .int (nI n), .int md, .null, .null, .null]))], (tw none (.inner z0 x0 () l0 r0))]) H12 locs12 → lv_has ls12 10 [(8, .ref q1), (4, .ref x1.1), (0, .ref t), (1, .ref q1), (2, .ref v0), (3, .int (nI 1))] → W p l e ({ frames := 5, cells := 1, slots := 6, locals := 107 } : Room) s m ([.ref t, .ref q1, .ref v0, .int (nI 1)] : List Value).toArray below meth c H12 locs12 0 0 (MQ below (cQ G A (Q_ctJ6_put_2 G t q1 v0 i n md T0)) ([.ref t, .ref q1, .ref v0, .int (nI 1)] : List Value).toArray s 1 6 A) (F0 m 123 ls12 []) := by
      intro k12
      induction k12 with
      | zero => intro cx1 z1 x1 l1 r1 hLa_0 hLa_1 hLa_2 hm12; exact absurd hm12 (Nat.not_lt_zero _)
      | succ k12 ih12 =>
        intro cx1 z1 x1 l1 r1 hLa_0 hLa_1 hLa_2 hm12 H12 locs12 ls12 hW12 hl12
        have hi1 : x1 ∈ inord T0 := by rw [hT, hLa_0]; exact in_plug cx1 z1 x1 () l1 r1
        refine lv_aload C.hx C.hb dJ6_put_2_123 (lv_at hl12 1 rfl) ?_
        refine lv_astore (lv' := [(6, .ref x1.1), (8, .ref q1), (4, .ref x1.1), (0, .ref t), (1, .ref q1), (2, .ref v0), (3, .int (nI 1))]) C.hx C.hb dJ6_put_2_125 hl12 (Nat.le_of_ble_eq_true rfl) rfl (fun ls13 hl13 => ?_)
        clear hl12
        refine lv_aload C.hx C.hb dJ6_put_2_127 (lv_at hl13 1 rfl) ?_
        refine lv_aload C.hx C.hb dJ6_put_2_129 (lv_at hl13 2 rfl) ?_
        refine k_get (v := .ref x1.2.1) C clJ31 (hW12.mem (seg_memP (i := 1) rfl (by rw [hLa_0]; exact cell_plug cx1 z1 x1 () l1 r1))) 0 (Nat.le_of_ble_eq_true rfl) rfl q1817 rfl rfl dJ6_put_2_131 ?_
        refine k_callF (Sc := []) (Sr := [[(t, .inr (13, [.null, .null, .null, .ref x0.1, .int (nI n), .int md, .null, .null, .null]))], (tw none (.inner z0 x0 () l0 r0))]) (As := [.ref x1.2.1]) (rest := []) C (ctJ16_compareTo l G q1 x1.2.1 i x1.2.2.1 hi (hk _ hi1)) hW12 clJ16 ((hRo _ (Or.inl rfl)).at hW12) q1329 q1333 q1335 q92 q1337 q1331 q1330 q1336 q1334 q1332 rfl ⟨by decide, by decide, Eq.trans (b := some 1) (by decide +kernel) rfl⟩ (Nat.le_of_ble_eq_true rfl) (Nat.le_of_ble_eq_true rfl) (show 0 + 0 ≤ 1 by omega) (show 0 + 0 ≤ 6 by omega) hl13.1 rfl (Nat.le_of_ble_eq_true rfl) dJ6_put_2_134 (k_permR _) (fun z => (fun hz => hz.elim (fun e => by cases e; exact Or.inr (Or.inr (hRo _ (Or.inl rfl)))) (fun e => by cases e; exact Or.inr (Or.inr (hRo _ (Or.inr ⟨_, hi1, rfl⟩)))))) (fun v H14 locs14 S1 hQ hz14 hW14 => ?_)
        obtain ⟨rfl, rfl⟩ := hQ
        have hW14 : Ws G A s ([[(t, .inr (13, [.null, .null, .null, .ref x0.1, .int (nI n), .int md, .null, .null, .null]))], (tw none (.inner z0 x0 () l0 r0))]) H14 locs14 := hW14
        clear hW12
        refine W.eq (g2 := F0 m 139 ls13 [.int (nI (if i < x1.2.2.1 then NONE else if i = x1.2.2.1 then 0 else 1))]) rfl ?_
        refine lv_istore (lv' := [(5, .int (nI (if i < x1.2.2.1 then NONE else if i = x1.2.2.1 then 0 else 1))), (6, .ref x1.1), (8, .ref q1), (4, .ref x1.1), (0, .ref t), (1, .ref q1), (2, .ref v0), (3, .int (nI 1))]) C.hx C.hb dJ6_put_2_139 hl13 (Nat.le_of_ble_eq_true rfl) rfl (fun ls15 hl15 => ?_)
        clear hl13
        rcases Nat.lt_trichotomy i x1.2.2.1 with c9 | c9 | c9
        · have e9 : (if i < x1.2.2.1 then NONE else if i = x1.2.2.1 then 0 else 1) = NONE := if_pos c9
          have hl16 : lv_has ls15 10 [(5, .int (nI NONE)), (6, .ref x1.1), (8, .ref q1), (4, .ref x1.1), (0, .ref t), (1, .ref q1), (2, .ref v0), (3, .int (nI 1))] := by have h9 := hl15; rw [e9] at h9; exact h9
          refine lv_iload C.hx C.hb dJ6_put_2_141 (lv_at hl16 0 rfl) ?_
          refine lv_if_ge (tgt := 156) C.hx C.hb dJ6_put_2_143 (by decide) (fun q => absurd q (by decide)) (fun _ => ?_)
          refine W.eq (g2 := F0 m 146 ls15 []) rfl ?_
          refine lv_aload C.hx C.hb dJ6_put_2_146 (lv_at hl16 3 rfl) ?_
          refine k_get (v := vr (tad l1)) C clJ31 (hW14.mem (seg_memP (i := 1) rfl (by rw [hLa_0]; exact cell_plug cx1 z1 x1 () l1 r1))) 2 (Nat.le_of_ble_eq_true rfl) rfl q1820 rfl rfl dJ6_put_2_148 ?_
          refine lv_astoreq (lv' := [(4, vr (tad l1)), (5, .int (nI NONE)), (6, .ref x1.1), (8, .ref q1), (0, .ref t), (1, .ref q1), (2, .ref v0), (3, .int (nI 1))]) C.hx C.hb dJ6_put_2_151 hl16 (Nat.le_of_ble_eq_true rfl) rfl (fun ls17 hl17 => ?_)
          clear hl16
          refine lv_goto (tgt := 196) C.hx C.hb dJ6_put_2_153 (by decide) ?_
          rcases l1 with ⟨z2, x2, _, l2, r2⟩ | _
          · have hl18 : lv_has ls17 10 [(4, .ref x2.1), (5, .int (nI NONE)), (6, .ref x1.1), (8, .ref q1), (0, .ref t), (1, .ref q1), (2, .ref v0), (3, .int (nI 1))] := hl17
            refine lv_aload C.hx C.hb dJ6_put_2_196 (lv_at hl18 0 rfl) ?_
            refine lv_ifnonnull (tgt := 123) C.hx C.hb dJ6_put_2_198 (by decide) ?_
            have hs9 := hs
            rw [hT, hLa_0, inord_plug] at hs9
            have hs8 := (List.pairwise_append.mp (List.pairwise_append.mp hs9).2.1).1
            have hs8 : srt (inord (.inner z2 x2 () l2 r2) ++ x1 :: inord r1) := hs8
            have hkr : ∀ y ∈ inord r1, x1.2.2.1 < y.2.2.1 := (List.pairwise_cons.mp (List.pairwise_append.mp hs8).2.1).1
            have hl20 : lv_has ls17 10 [(4, .ref x2.1), (8, .ref q1), (0, .ref t), (1, .ref q1), (2, .ref v0), (3, .int (nI 1)), (5, .int (nI NONE)), (6, .ref x1.1)] := lv_sub hl18 [0, 3, 4, 5, 6, 7, 1, 2] rfl
            exact ih12 ((true, z1, x1, r1) :: cx1) z2 x2 l2 r2 (by rw [hLa_0]; rfl) hLa_1 (fun y hy => by rcases List.mem_append.mp (show y ∈ (x1 :: inord r1) ++ ctxR cx1 from hy) with h | h; (rcases List.mem_cons.mp h with rfl | h; exact c9; have := hkr y h; omega); exact hLa_2 y h) (by simp only [tsz] at *; omega) _ _ _ hW14 (lv_sub hl20 [1, 0, 2, 3, 4, 5] rfl)
          · have hl21 : lv_has ls17 10 [(4, .null), (5, .int (nI NONE)), (6, .ref x1.1), (8, .ref q1), (0, .ref t), (1, .ref q1), (2, .ref v0), (3, .int (nI 1))] := hl17
            refine lv_aloadN C.hx C.hb dJ6_put_2_196 (lv_at hl21 0 rfl) ?_
            refine lv_ifnonnullN C.hx C.hb dJ6_put_2_198 ?_
            refine lv_aload_n C.hx C.hb dJ6_put_2_201 rfl (lv_at hl21 4 rfl) ?_
            refine lv_aload_n C.hx C.hb dJ6_put_2_202 rfl (lv_at hl21 5 rfl) ?_
            refine lv_aload_n C.hx C.hb dJ6_put_2_203 rfl (lv_at hl21 6 rfl) ?_
            refine lv_aload C.hx C.hb dJ6_put_2_204 (lv_at hl21 2 rfl) ?_
            refine lv_iload C.hx C.hb dJ6_put_2_206 (lv_at hl21 1 rfl) ?_
            refine lv_if_ge (tgt := 215) C.hx C.hb dJ6_put_2_208 (by decide) (fun q => absurd q (by decide)) (fun _ => ?_)
            refine W.eq (g2 := F0 m 211 ls17 [.ref x1.1, .ref v0, .ref q1, .ref t]) rfl ?_
            refine kn_iconst (a := 1) C (by decide) dJ6_put_2_211 ?_
            refine lv_goto (tgt := 216) C.hx C.hb dJ6_put_2_212 (by decide) ?_
            have hs9 := hs
            rw [hT, hLa_0, inord_plug] at hs9
            have hs8 := (List.pairwise_append.mp (List.pairwise_append.mp hs9).2.1).1
            have hs8 : srt (inord .leaf ++ x1 :: inord r1) := hs8
            have hkr : ∀ y ∈ inord r1, x1.2.2.1 < y.2.2.1 := (List.pairwise_cons.mp (List.pairwise_append.mp hs8).2.1).1
            have hr9 : rootA cx1 (some x1.1) = some x0.1 := root_of rfl hLa_0.symm
            have hW22 : Ws G A s [[(t, .inr (13, [.null, .null, .null, vr (rootA cx1 (some x1.1)), .int (nI n), .int md, .null, .null, .null]))], (tw none (plug cx1 (.inner z1 x1 () .leaf r1)))] H14 locs14 := by
              rw [← hLa_0, hr9]
              exact hW14
            clear hW14
            refine k_callV (Sc := [[(t, .inr (13, [.null, .null, .null, vr (rootA cx1 (some x1.1)), .int (nI n), .int md, .null, .null, .null]))], (tw none (plug cx1 (.inner z1 x1 () .leaf r1)))]) (Sr := []) (As := [.ref q1, .ref v0, .ref x1.1, .int (nI 1)]) (rest := []) C (ctJ6_addEntry_1 l G t q1 v0 i n z1 md cx1 x1 r1) hW22 clJ6 (hW22.get 0 0 rfl rfl) q1839 q1841 qs35 q79 q1842 rfl rfl ⟨by decide, by decide, Eq.trans (b := some 4) (by decide +kernel) rfl⟩ (Nat.le_of_ble_eq_true rfl) (Nat.le_of_ble_eq_true rfl) (show 0 + 1 ≤ 1 by omega) (show 0 + 6 ≤ 6 by omega) hl21.1 rfl (Nat.le_of_ble_eq_true rfl) dJ6_put_2_216 ((pick_perm [[(t, .inr (13, [.null, .null, .null, vr (rootA cx1 (some x1.1)), .int (nI n), .int md, .null, .null, .null]))], (tw none (plug cx1 (.inner z1 x1 () .leaf r1)))] 2 rfl (is := [0, 1]) (by decide)).flatten.symm) (fun _ h => h.elim) (fun v H23 locs23 S1 hQ hz23 hW23 => ?_)
            obtain ⟨rfl, e9, T, rfl, he1, he2, he3, hink⟩ := hQ
            have hW23 : Ws G A s ([[(t, .inr (13, [.null, .null, .null, vr (tad T), .int (nI (n + 1)), .int (md + 1), .null, .null, .null]))], (tw none T)]) H23 locs23 := hW23
            clear hW22
            refine W.eq (g2 := F0 m 219 ls17 []) rfl ?_
            refine lv_null C.hx C.hb dJ6_put_2_219 ?_
            have hA : ∀ y ∈ ((ctxL cx1).map nk), y.2.2.1 < i := fun y hy => by
              obtain ⟨y9, h9, rfl⟩ := List.mem_map.mp hy
              exact (show ∀ y ∈ _, y.2.2.1 < i from hLa_1) y9 h9
            have hB : ∀ y ∈ ((x1 :: inord r1 ++ ctxR cx1).map nk), i < y.2.2.1 := fun y hy => by
              obtain ⟨y9, h9, rfl⟩ := List.mem_map.mp hy
              exact (show ∀ y ∈ _, i < y.2.2.1 from (fun y hy => by rcases List.mem_append.mp (show y ∈ (x1 :: inord r1) ++ ctxR cx1 from hy) with h | h; (rcases List.mem_cons.mp h with rfl | h; exact c9; have := hkr y h; omega); exact hLa_2 y h)) y9 h9
            exact k_aret C hW23 rfl (Or.inl ⟨_, rfl⟩) (Or.inl rfl) ⟨rfl, n + 1, e9, T, ((ctxL cx1).map nk), ((x1 :: inord r1 ++ ctxR cx1).map nk), rfl, he1, he2, he3, (by rw [hT, hLa_0]; simp [ink, inord_plug, inord]), (by rw [hink]; simp [ink, inord_plug, inord]), hA, hB, rfl⟩ (by omega) (by omega) dJ6_put_2_220
        · exact absurd c9.symm (hnf _ hi1)
        · have e9 : (if i < x1.2.2.1 then NONE else if i = x1.2.2.1 then 0 else 1) = 1 := (if_neg (by omega)).trans (if_neg (by omega))
          have hl24 : lv_has ls15 10 [(5, .int (nI 1)), (6, .ref x1.1), (8, .ref q1), (4, .ref x1.1), (0, .ref t), (1, .ref q1), (2, .ref v0), (3, .int (nI 1))] := by have h9 := hl15; rw [e9] at h9; exact h9
          refine lv_iload C.hx C.hb dJ6_put_2_141 (lv_at hl24 0 rfl) ?_
          refine kn_if_ge (tgt := 156) C (by decide) dJ6_put_2_143 (by decide) ?_
          refine lv_iload C.hx C.hb dJ6_put_2_156 (lv_at hl24 0 rfl) ?_
          refine kn_if_le (tgt := 171) C (by decide) dJ6_put_2_158 (by decide) (fun cq => absurd cq (by decide)) (fun cq => ?_)
          refine lv_aload C.hx C.hb dJ6_put_2_161 (lv_at hl24 3 rfl) ?_
          refine k_get (v := vr (tad r1)) C clJ31 (hW14.mem (seg_memP (i := 1) rfl (by rw [hLa_0]; exact cell_plug cx1 z1 x1 () l1 r1))) 3 (Nat.le_of_ble_eq_true rfl) rfl q1821 rfl rfl dJ6_put_2_163 ?_
          refine lv_astoreq (lv' := [(4, vr (tad r1)), (5, .int (nI 1)), (6, .ref x1.1), (8, .ref q1), (0, .ref t), (1, .ref q1), (2, .ref v0), (3, .int (nI 1))]) C.hx C.hb dJ6_put_2_166 hl24 (Nat.le_of_ble_eq_true rfl) rfl (fun ls25 hl25 => ?_)
          clear hl24
          refine lv_goto (tgt := 196) C.hx C.hb dJ6_put_2_168 (by decide) ?_
          rcases r1 with ⟨z2, x2, _, l2, r2⟩ | _
          · have hl26 : lv_has ls25 10 [(4, .ref x2.1), (5, .int (nI 1)), (6, .ref x1.1), (8, .ref q1), (0, .ref t), (1, .ref q1), (2, .ref v0), (3, .int (nI 1))] := hl25
            refine lv_aload C.hx C.hb dJ6_put_2_196 (lv_at hl26 0 rfl) ?_
            refine lv_ifnonnull (tgt := 123) C.hx C.hb dJ6_put_2_198 (by decide) ?_
            have hs9 := hs
            rw [hT, hLa_0, inord_plug] at hs9
            have hs8 := (List.pairwise_append.mp (List.pairwise_append.mp hs9).2.1).1
            have hs8 : srt (inord l1 ++ x1 :: inord (.inner z2 x2 () l2 r2)) := hs8
            have hkl : ∀ y ∈ inord l1, y.2.2.1 < x1.2.2.1 := fun y hy => (List.pairwise_append.mp hs8).2.2 y hy x1 List.mem_cons_self
            have hl28 : lv_has ls25 10 [(4, .ref x2.1), (8, .ref q1), (0, .ref t), (1, .ref q1), (2, .ref v0), (3, .int (nI 1)), (5, .int (nI 1)), (6, .ref x1.1)] := lv_sub hl26 [0, 3, 4, 5, 6, 7, 1, 2] rfl
            exact ih12 ((false, z1, x1, l1) :: cx1) z2 x2 l2 r2 (by rw [hLa_0]; rfl) (fun y hy => by rcases List.mem_append.mp (show y ∈ ctxL cx1 ++ (inord l1 ++ [x1]) from hy) with h | h; exact hLa_1 y h; (rcases List.mem_append.mp h with h | h; have := hkl y h; omega; (rcases List.mem_cons.mp h with rfl | h; exact c9; cases h))) hLa_2 (by simp only [tsz] at *; omega) _ _ _ hW14 (lv_sub hl28 [1, 0, 2, 3, 4, 5] rfl)
          · have hl29 : lv_has ls25 10 [(4, .null), (5, .int (nI 1)), (6, .ref x1.1), (8, .ref q1), (0, .ref t), (1, .ref q1), (2, .ref v0), (3, .int (nI 1))] := hl25
            refine lv_aloadN C.hx C.hb dJ6_put_2_196 (lv_at hl29 0 rfl) ?_
            refine lv_ifnonnullN C.hx C.hb dJ6_put_2_198 ?_
            refine lv_aload_n C.hx C.hb dJ6_put_2_201 rfl (lv_at hl29 4 rfl) ?_
            refine lv_aload_n C.hx C.hb dJ6_put_2_202 rfl (lv_at hl29 5 rfl) ?_
            refine lv_aload_n C.hx C.hb dJ6_put_2_203 rfl (lv_at hl29 6 rfl) ?_
            refine lv_aload C.hx C.hb dJ6_put_2_204 (lv_at hl29 2 rfl) ?_
            refine lv_iload C.hx C.hb dJ6_put_2_206 (lv_at hl29 1 rfl) ?_
            refine kn_if_ge (tgt := 215) C (by decide) dJ6_put_2_208 (by decide) ?_
            refine kn_iconst (a := 0) C (by decide) dJ6_put_2_215 ?_
            have hs9 := hs
            rw [hT, hLa_0, inord_plug] at hs9
            have hs8 := (List.pairwise_append.mp (List.pairwise_append.mp hs9).2.1).1
            have hs8 : srt (inord l1 ++ x1 :: inord .leaf) := hs8
            have hkl : ∀ y ∈ inord l1, y.2.2.1 < x1.2.2.1 := fun y hy => (List.pairwise_append.mp hs8).2.2 y hy x1 List.mem_cons_self
            have hr9 : rootA cx1 (some x1.1) = some x0.1 := root_of rfl hLa_0.symm
            have hW30 : Ws G A s [[(t, .inr (13, [.null, .null, .null, vr (rootA cx1 (some x1.1)), .int (nI n), .int md, .null, .null, .null]))], (tw none (plug cx1 (.inner z1 x1 () l1 .leaf)))] H14 locs14 := by
              rw [← hLa_0, hr9]
              exact hW14
            clear hW14
            refine k_callV (Sc := [[(t, .inr (13, [.null, .null, .null, vr (rootA cx1 (some x1.1)), .int (nI n), .int md, .null, .null, .null]))], (tw none (plug cx1 (.inner z1 x1 () l1 .leaf)))]) (Sr := []) (As := [.ref q1, .ref v0, .ref x1.1, .int (nI 0)]) (rest := []) C (ctJ6_addEntry_0 l G t q1 v0 i n z1 md cx1 x1 l1) hW30 clJ6 (hW30.get 0 0 rfl rfl) q1839 q1841 qs35 q79 q1842 rfl rfl ⟨by decide, by decide, Eq.trans (b := some 4) (by decide +kernel) rfl⟩ (Nat.le_of_ble_eq_true rfl) (Nat.le_of_ble_eq_true rfl) (show 0 + 1 ≤ 1 by omega) (show 0 + 6 ≤ 6 by omega) hl29.1 rfl (Nat.le_of_ble_eq_true rfl) dJ6_put_2_216 ((pick_perm [[(t, .inr (13, [.null, .null, .null, vr (rootA cx1 (some x1.1)), .int (nI n), .int md, .null, .null, .null]))], (tw none (plug cx1 (.inner z1 x1 () l1 .leaf)))] 2 rfl (is := [0, 1]) (by decide)).flatten.symm) (fun _ h => h.elim) (fun v H31 locs31 S1 hQ hz31 hW31 => ?_)
            obtain ⟨rfl, e9, T, rfl, he1, he2, he3, hink⟩ := hQ
            have hW31 : Ws G A s ([[(t, .inr (13, [.null, .null, .null, vr (tad T), .int (nI (n + 1)), .int (md + 1), .null, .null, .null]))], (tw none T)]) H31 locs31 := hW31
            clear hW30
            refine W.eq (g2 := F0 m 219 ls25 []) rfl ?_
            refine lv_null C.hx C.hb dJ6_put_2_219 ?_
            have hA : ∀ y ∈ ((ctxL cx1 ++ (inord l1 ++ [x1])).map nk), y.2.2.1 < i := fun y hy => by
              obtain ⟨y9, h9, rfl⟩ := List.mem_map.mp hy
              exact (show ∀ y ∈ _, y.2.2.1 < i from (fun y hy => by rcases List.mem_append.mp (show y ∈ ctxL cx1 ++ (inord l1 ++ [x1]) from hy) with h | h; exact hLa_1 y h; (rcases List.mem_append.mp h with h | h; have := hkl y h; omega; (rcases List.mem_cons.mp h with rfl | h; exact c9; cases h)))) y9 h9
            have hB : ∀ y ∈ ((ctxR cx1).map nk), i < y.2.2.1 := fun y hy => by
              obtain ⟨y9, h9, rfl⟩ := List.mem_map.mp hy
              exact (show ∀ y ∈ _, i < y.2.2.1 from hLa_2) y9 h9
            exact k_aret C hW31 rfl (Or.inl ⟨_, rfl⟩) (Or.inl rfl) ⟨rfl, n + 1, e9, T, ((ctxL cx1 ++ (inord l1 ++ [x1])).map nk), ((ctxR cx1).map nk), rfl, he1, he2, he3, (by rw [hT, hLa_0]; simp [ink, inord_plug, inord]), (by rw [hink]; simp [ink, inord_plug, inord]), hA, hB, rfl⟩ (by omega) (by omega) dJ6_put_2_220
    exact La (tsz (.inner z0 x0 () l0 r0) + 1) ([]) z0 x0 l0 r0 rfl (fun _ h => by cases h) (fun _ h => by cases h) (Nat.lt_succ_self _) _ _ _ hW10 (lv_sub hl11 [0, 2, 3, 4, 5, 6] rfl)

def Q_ctJ6_put (G : GT) (t q1 v0 i n : Nat) (md : Int32) (T0 : TT) : Option Value → List va_W → Prop := fun v S1 => v = some .null ∧ ∃ (n2 : Nat) (e : TN) (T : TT) (A B : List (Nat × Nat × Nat × Nat)), S1 = [[(t, .inr (13, [.null, .null, .null, vr (tad T), .int (nI n2), .int (md + 1), .null, .null, .null]))], (tw none T)] ∧ e.2.1 = q1 ∧ e.2.2.1 = i ∧ e.2.2.2.1 = v0 ∧ ink T0 = A ++ B ∧ ink T = A ++ nk e :: B ∧ (∀ y ∈ A, y.2.2.1 < i) ∧ (∀ y ∈ B, i < y.2.2.1) ∧ n2 = n + 1
set_option maxHeartbeats 4000000 in
set_option maxRecDepth 100000 in
theorem ctJ6_put (l : Launch) (G : GT) (t q1 v0 i n : Nat) (md : Int32) (T0 : TT) (hi : i < 2 ^ 31) (hk : ∀ x ∈ inord T0, x.2.2.1 < 2 ^ 31) (hs : srt (inord T0)) (hnf : ∀ x ∈ inord T0, x.2.2.1 ≠ i) (hn : n = (ink T0).length) : Ct l G yJ6_put cJ6_put 3 (some (.object "java/lang/Object")) 6 136 1 6 [.ref t, .ref q1, .ref v0] ([[(t, .inr (13, [.null, .null, .null, vr (tad T0), .int (nI n), .int md, .null, .null, .null]))], (tw none T0)]) ((fun z => z = .inl (q1, .inr (16, [.int (nI i)])) ∨ ∃ x ∈ inord T0, z = .inl (x.2.1, .inr (16, [.int (nI x.2.2.1)])))) (Q_ctJ6_put G t q1 v0 i n md T0) := by
  refine Ct.of (by decide +kernel) (Nat.le_of_ble_eq_true rfl) ?_
  intro p e s m below meth c A ls C hW hRo hl
  have hl : lv_has ls 3 [(0, .ref t), (1, .ref q1), (2, .ref v0)] := hl
  refine lv_aload_n C.hx C.hb dJ6_put_0 rfl (lv_at hl 0 rfl) ?_
  refine lv_aload_n C.hx C.hb dJ6_put_1 rfl (lv_at hl 1 rfl) ?_
  refine lv_aload_n C.hx C.hb dJ6_put_2 rfl (lv_at hl 2 rfl) ?_
  refine kn_iconst (a := 1) C (by decide) dJ6_put_3 ?_
  refine k_callV (Sc := [[(t, .inr (13, [.null, .null, .null, vr (tad T0), .int (nI n), .int md, .null, .null, .null]))], (tw none T0)]) (Sr := []) (As := [.ref q1, .ref v0, .int (nI 1)]) (rest := []) C (ctJ6_put_2 l G t q1 v0 i n md T0 hi hk hs hnf hn) hW clJ6 (hW.get 0 0 rfl rfl) q1798 q1800 qs33 q79 q1801 rfl rfl ⟨by decide, by decide, Eq.trans (b := some 3) (by decide +kernel) rfl⟩ (Nat.le_of_ble_eq_true rfl) (Nat.le_of_ble_eq_true rfl) (show 0 + 1 ≤ 1 by omega) (show 0 + 6 ≤ 6 by omega) hl.1 rfl (Nat.le_of_ble_eq_true rfl) dJ6_put_4 ((pick_perm [[(t, .inr (13, [.null, .null, .null, vr (tad T0), .int (nI n), .int md, .null, .null, .null]))], (tw none T0)] 2 rfl (is := [0, 1]) (by decide)).flatten.symm) (fun z hz => Or.inr (Or.inr (hRo z hz))) (fun v H1 locs1 S1 hQ hz1 hW1 => ?_)
  obtain ⟨rfl, n2, e9, T, A9, B9, rfl, hq⟩ := hQ
  have hW1 : Ws G A s ([[(t, .inr (13, [.null, .null, .null, vr (tad T), .int (nI n2), .int (md + 1), .null, .null, .null]))], (tw none T)]) H1 locs1 := hW1
  clear hW
  refine W.eq (g2 := F0 m 7 ls [.null]) rfl ?_
  exact k_aret C hW1 rfl (Or.inl ⟨_, rfl⟩) (Or.inl rfl) ⟨rfl, n2, e9, T, A9, B9, rfl, hq⟩ (by omega) (by omega) dJ6_put_7

