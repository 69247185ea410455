def Q_ctJ6_deleteEntry (G : GT) (t n z : Nat) (md : Int32) (cx : List TF) (x : TN) (r : TT) : Option Value → List va_W → Prop := fun v S1 => v = none ∧ ∃ T : TT, S1 = [[(t, .inr (13, [.null, .null, .null, vr (tad T), .int (nI (n - 1)), .int (md + 1), .null, .null, .null]))], (tw none T)] ∧ ink T = ink (plug cx r)
set_option maxHeartbeats 4000000 in
set_option maxRecDepth 100000 in
theorem ctJ6_deleteEntry (l : Launch) (G : GT) (t n z : Nat) (md : Int32) (cx : List TF) (x : TN) (r : TT) (hal : allL cx) (hn : 0 < n) : Ct l G yJ6_deleteEntry cJ6_deleteEntry 3 none 2 44 0 0 [.ref t, .ref x.1] ([[(t, .inr (13, [.null, .null, .null, vr (rootA cx (some x.1)), .int (nI n), .int md, .null, .null, .null]))], (tw none (plug cx (.inner z x () .leaf r)))]) noR (Q_ctJ6_deleteEntry G t n z md cx x r) := by
  refine Ct.of (by decide +kernel) (Nat.le_of_ble_eq_true rfl) ?_
  intro p e s m below meth c A ls C hW hRo hl
  have hl : lv_has ls 3 [(0, .ref t), (1, .ref x.1)] := hl
  rcases r with ⟨z5, x5, _, l5, r5⟩ | _
  · rcases cx with _ | ⟨⟨d2, z2, x2, o2⟩, cx2⟩
    · have hW1 : Ws G A s [[(t, .inr (13, [.null, .null, .null, vr (rootA [] (some x.1)), .int (nI n), .int md, .null, .null, .null]))], (tw none (plug [] (.inner z x () .leaf (.inner z5 x5 () l5 r5))))] s.heap [] := hW
      clear hW
      have hW2 : Ws G A s [[(t, .inr (13, [.null, .null, .null, .ref x.1, .int (nI n), .int md, .null, .null, .null]))], [(x.1, .inr (20, [.ref x.2.1, .ref x.2.2.2.1, .null, .ref x5.1, .null, .int (nI (tcol x.2.2.2.2))]))], [(x5.1, .inr (20, [.ref x5.2.1, .ref x5.2.2.2.1, vr (tad l5), vr (tad r5), .ref x.1, .int (nI (tcol x5.2.2.2.2))]))], (tw (some x5.1) l5), (tw (some x5.1) r5)] s.heap [] := hW1.perm (wperm (fun d x => by simp only [List.flatten_append, List.flatten_cons, List.flatten_nil, List.count_append, List.count_cons, List.count_nil, plug_ct, tw, cw, tcell, tad_n, tad_i, pa_n, pa_c, plug, recol, tcol_f, tcol_t, vr_n, vr_s, rootA]; try omega))
      clear hW1
      refine lv_aload_n C.hx C.hb dJ6_deleteEntry_0 rfl (lv_at hl 0 rfl) ?_
      refine lv_dup C.hx C.hb dJ6_deleteEntry_1 rfl ?_
      refine k_get (v := .int md) C clJ6 (hW2.get 0 0 rfl rfl) 5 (Nat.le_of_ble_eq_true rfl) rfl q228 rfl rfl dJ6_deleteEntry_2 ?_
      refine kn_iconst (a := 1) C (by decide) dJ6_deleteEntry_5 ?_
      refine lv_iadd C.hx C.hb dJ6_deleteEntry_6 ?_
      refine k_put (S' := [[(t, .inr (13, [.null, .null, .null, .ref x.1, .int (nI n), .int (md + (nI 1)), .null, .null, .null]))], [(x.1, .inr (20, [.ref x.2.1, .ref x.2.2.2.1, .null, .ref x5.1, .null, .int (nI (tcol x.2.2.2.2))]))], [(x5.1, .inr (20, [.ref x5.2.1, .ref x5.2.2.2.1, vr (tad l5), vr (tad r5), .ref x.1, .int (nI (tcol x5.2.2.2.2))]))], (tw (some x5.1) l5), (tw (some x5.1) r5)]) C clJ6 hW2 0 0 rfl rfl 5 (Nat.le_of_ble_eq_true rfl) rfl q228 rfl (fun _ h => h) (Or.inl rfl) (fty := .int) (v := .int (md + (nI 1))) (by decide +kernel) rfl rfl (Nat.le_of_ble_eq_true rfl) dJ6_deleteEntry_7 rfl (fun H3 locs3 hW3 => ?_)
      clear hW2
      refine lv_aload_n C.hx C.hb dJ6_deleteEntry_10 rfl (lv_at hl 0 rfl) ?_
      refine lv_dup C.hx C.hb dJ6_deleteEntry_11 rfl ?_
      refine k_get (v := .int (nI n)) C clJ6 (hW3.get 0 0 rfl rfl) 4 (Nat.le_of_ble_eq_true rfl) rfl q227 rfl rfl dJ6_deleteEntry_12 ?_
      refine kn_iconst (a := 1) C (by decide) dJ6_deleteEntry_15 ?_
      refine kn_isub C (by omega) dJ6_deleteEntry_16 ?_
      refine k_put (S' := [[(t, .inr (13, [.null, .null, .null, .ref x.1, .int (nI (n - 1)), .int (md + (nI 1)), .null, .null, .null]))], [(x.1, .inr (20, [.ref x.2.1, .ref x.2.2.2.1, .null, .ref x5.1, .null, .int (nI (tcol x.2.2.2.2))]))], [(x5.1, .inr (20, [.ref x5.2.1, .ref x5.2.2.2.1, vr (tad l5), vr (tad r5), .ref x.1, .int (nI (tcol x5.2.2.2.2))]))], (tw (some x5.1) l5), (tw (some x5.1) r5)]) C clJ6 hW3 0 0 rfl rfl 4 (Nat.le_of_ble_eq_true rfl) rfl q227 rfl (fun _ h => h) (Or.inl rfl) (fty := .int) (v := .int (nI (n - 1))) (by decide +kernel) rfl rfl (Nat.le_of_ble_eq_true rfl) dJ6_deleteEntry_17 rfl (fun H4 locs4 hW4 => ?_)
      clear hW3
      refine lv_aload_n C.hx C.hb dJ6_deleteEntry_20 rfl (lv_at hl 1 rfl) ?_
      refine k_get (v := .null) C clJ31 (hW4.get 1 0 rfl rfl) 2 (Nat.le_of_ble_eq_true rfl) rfl q1820 rfl rfl dJ6_deleteEntry_21 ?_
      refine lv_ifnullN (tgt := 57) C.hx C.hb dJ6_deleteEntry_24 (by decide) ?_
      refine lv_aload_n C.hx C.hb dJ6_deleteEntry_57 rfl (lv_at hl 1 rfl) ?_
      refine k_get (v := .null) C clJ31 (hW4.get 1 0 rfl rfl) 2 (Nat.le_of_ble_eq_true rfl) rfl q1820 rfl rfl dJ6_deleteEntry_58 ?_
      refine lv_ifnullN (tgt := 71) C.hx C.hb dJ6_deleteEntry_61 (by decide) ?_
      refine lv_aload_n C.hx C.hb dJ6_deleteEntry_71 rfl (lv_at hl 1 rfl) ?_
      refine k_get (v := .ref x5.1) C clJ31 (hW4.get 1 0 rfl rfl) 3 (Nat.le_of_ble_eq_true rfl) rfl q1821 rfl rfl dJ6_deleteEntry_72 ?_
      refine lv_astore_n (lv' := [(2, .ref x5.1), (0, .ref t), (1, .ref x.1)]) C.hx C.hb dJ6_deleteEntry_75 rfl hl (Nat.le_of_ble_eq_true rfl) rfl (fun ls5 hl5 => ?_)
      clear hl
      refine lv_aload_n C.hx C.hb dJ6_deleteEntry_76 rfl (lv_at hl5 0 rfl) ?_
      refine lv_ifnull C.hx C.hb dJ6_deleteEntry_77 ?_
      refine lv_aload_n C.hx C.hb dJ6_deleteEntry_80 rfl (lv_at hl5 0 rfl) ?_
      refine lv_aload_n C.hx C.hb dJ6_deleteEntry_81 rfl (lv_at hl5 2 rfl) ?_
      refine k_get (v := .null) C clJ31 (hW4.get 1 0 rfl rfl) 4 (Nat.le_of_ble_eq_true rfl) rfl q1823 rfl rfl dJ6_deleteEntry_82 ?_
      refine k_put (S' := [[(t, .inr (13, [.null, .null, .null, .ref x.1, .int (nI (n - 1)), .int (md + (nI 1)), .null, .null, .null]))], [(x.1, .inr (20, [.ref x.2.1, .ref x.2.2.2.1, .null, .ref x5.1, .null, .int (nI (tcol x.2.2.2.2))]))], [(x5.1, .inr (20, [.ref x5.2.1, .ref x5.2.2.2.1, vr (tad l5), vr (tad r5), .null, .int (nI (tcol x5.2.2.2.2))]))], (tw (some x5.1) l5), (tw (some x5.1) r5)]) C clJ31 hW4 2 0 rfl rfl 4 (Nat.le_of_ble_eq_true rfl) rfl q1823 rfl (fun _ h => h) (Or.inl rfl) (fty := (.object "java/util/TreeMap$Entry")) (v := .null) (by decide +kernel) rfl rfl (Nat.le_of_ble_eq_true rfl) dJ6_deleteEntry_85 rfl (fun H6 locs6 hW6 => ?_)
      clear hW4
      refine lv_aload_n C.hx C.hb dJ6_deleteEntry_88 rfl (lv_at hl5 2 rfl) ?_
      refine k_get (v := .null) C clJ31 (hW6.get 1 0 rfl rfl) 4 (Nat.le_of_ble_eq_true rfl) rfl q1823 rfl rfl dJ6_deleteEntry_89 ?_
      refine lv_ifnonnullN C.hx C.hb dJ6_deleteEntry_92 ?_
      refine lv_aload_n C.hx C.hb dJ6_deleteEntry_95 rfl (lv_at hl5 1 rfl) ?_
      refine lv_aload_n C.hx C.hb dJ6_deleteEntry_96 rfl (lv_at hl5 0 rfl) ?_
      refine k_put (S' := [[(t, .inr (13, [.null, .null, .null, .ref x5.1, .int (nI (n - 1)), .int (md + (nI 1)), .null, .null, .null]))], [(x.1, .inr (20, [.ref x.2.1, .ref x.2.2.2.1, .null, .ref x5.1, .null, .int (nI (tcol x.2.2.2.2))]))], [(x5.1, .inr (20, [.ref x5.2.1, .ref x5.2.2.2.1, vr (tad l5), vr (tad r5), .null, .int (nI (tcol x5.2.2.2.2))]))], (tw (some x5.1) l5), (tw (some x5.1) r5)]) C clJ6 hW6 0 0 rfl rfl 3 (Nat.le_of_ble_eq_true rfl) rfl q226 rfl (fun _ h => h) (Or.inl rfl) (fty := (.object "java/util/TreeMap$Entry")) (v := .ref x5.1) (by decide +kernel) rfl rfl (Nat.le_of_ble_eq_true rfl) dJ6_deleteEntry_97 rfl (fun H7 locs7 hW7 => ?_)
      clear hW6
      refine lv_goto (tgt := 133) C.hx C.hb dJ6_deleteEntry_100 (by decide) ?_
      refine lv_aload_n C.hx C.hb dJ6_deleteEntry_133 rfl (lv_at hl5 2 rfl) ?_
      refine lv_aload_n C.hx C.hb dJ6_deleteEntry_134 rfl (lv_at hl5 2 rfl) ?_
      refine lv_aload_n C.hx C.hb dJ6_deleteEntry_135 rfl (lv_at hl5 2 rfl) ?_
      refine lv_null C.hx C.hb dJ6_deleteEntry_136 ?_
      refine lv_dup_x1 C.hx C.hb dJ6_deleteEntry_137 rfl rfl ?_
      refine k_put (S' := [[(t, .inr (13, [.null, .null, .null, .ref x5.1, .int (nI (n - 1)), .int (md + (nI 1)), .null, .null, .null]))], [(x.1, .inr (20, [.ref x.2.1, .ref x.2.2.2.1, .null, .ref x5.1, .null, .int (nI (tcol x.2.2.2.2))]))], [(x5.1, .inr (20, [.ref x5.2.1, .ref x5.2.2.2.1, vr (tad l5), vr (tad r5), .null, .int (nI (tcol x5.2.2.2.2))]))], (tw (some x5.1) l5), (tw (some x5.1) r5)]) C clJ31 hW7 1 0 rfl rfl 4 (Nat.le_of_ble_eq_true rfl) rfl q1823 rfl (fun _ h => h) (Or.inl rfl) (fty := (.object "java/util/TreeMap$Entry")) (v := .null) (by decide +kernel) rfl rfl (Nat.le_of_ble_eq_true rfl) dJ6_deleteEntry_138 rfl (fun H8 locs8 hW8 => ?_)
      clear hW7
      refine lv_dup_x1 C.hx C.hb dJ6_deleteEntry_141 rfl rfl ?_
      refine k_put (S' := [[(t, .inr (13, [.null, .null, .null, .ref x5.1, .int (nI (n - 1)), .int (md + (nI 1)), .null, .null, .null]))], [(x.1, .inr (20, [.ref x.2.1, .ref x.2.2.2.1, .null, .null, .null, .int (nI (tcol x.2.2.2.2))]))], [(x5.1, .inr (20, [.ref x5.2.1, .ref x5.2.2.2.1, vr (tad l5), vr (tad r5), .null, .int (nI (tcol x5.2.2.2.2))]))], (tw (some x5.1) l5), (tw (some x5.1) r5)]) C clJ31 hW8 1 0 rfl rfl 3 (Nat.le_of_ble_eq_true rfl) rfl q1821 rfl (fun _ h => h) (Or.inl rfl) (fty := (.object "java/util/TreeMap$Entry")) (v := .null) (by decide +kernel) rfl rfl (Nat.le_of_ble_eq_true rfl) dJ6_deleteEntry_142 rfl (fun H9 locs9 hW9 => ?_)
      clear hW8
      refine k_put (S' := [[(t, .inr (13, [.null, .null, .null, .ref x5.1, .int (nI (n - 1)), .int (md + (nI 1)), .null, .null, .null]))], [(x.1, .inr (20, [.ref x.2.1, .ref x.2.2.2.1, .null, .null, .null, .int (nI (tcol x.2.2.2.2))]))], [(x5.1, .inr (20, [.ref x5.2.1, .ref x5.2.2.2.1, vr (tad l5), vr (tad r5), .null, .int (nI (tcol x5.2.2.2.2))]))], (tw (some x5.1) l5), (tw (some x5.1) r5)]) C clJ31 hW9 1 0 rfl rfl 2 (Nat.le_of_ble_eq_true rfl) rfl q1820 rfl (fun _ h => h) (Or.inl rfl) (fty := (.object "java/util/TreeMap$Entry")) (v := .null) (by decide +kernel) rfl rfl (Nat.le_of_ble_eq_true rfl) dJ6_deleteEntry_145 rfl (fun H10 locs10 hW10 => ?_)
      clear hW9
      refine lv_aload_n C.hx C.hb dJ6_deleteEntry_148 rfl (lv_at hl5 2 rfl) ?_
      refine k_get (v := .int (nI (tcol x.2.2.2.2))) C clJ31 (hW10.get 1 0 rfl rfl) 5 (Nat.le_of_ble_eq_true rfl) rfl q1825 rfl rfl dJ6_deleteEntry_149 ?_
      refine kn_iconst (a := 1) C (by decide) dJ6_deleteEntry_152 ?_
      refine kn_icmp_ne (tgt := 245) C (tcol_lt _) (by decide) dJ6_deleteEntry_153 (by decide) (fun c153 => ?_) (fun c153 => ?_)
      · have hW11 : Ws G A s [[(t, .inr (13, [.null, .null, .null, vr (tad (plug [] (.inner z5 x5 () l5 r5))), .int (nI (n - 1)), .int (md + nI 1), .null, .null, .null]))], (tw none (plug [] (.inner z5 x5 () l5 r5))), [(x.1, .inr (20, [.ref x.2.1, .ref x.2.2.2.1, .null, .null, .null, .int (nI (tcol x.2.2.2.2))]))]] H10 locs10 := hW10.perm (wperm (fun d x => by simp only [plug_ad, List.flatten_append, List.flatten_cons, List.flatten_nil, List.count_append, List.count_cons, List.count_nil, plug_ct, tw, cw, tcell, tad_n, tad_i, pa_n, pa_c, plug, recol, tcol_f, tcol_t, vr_n, vr_s, rootA]; try omega))
        clear hW10
        have hW12 : Ws G A s [[(t, .inr (13, [.null, .null, .null, vr (tad (plug [] (.inner z5 x5 () l5 r5))), .int (nI (n - 1)), .int (md + nI 1), .null, .null, .null]))], (tw none (plug [] (.inner z5 x5 () l5 r5)))] H10 locs10 := hW11.drop (S2 := [[(x.1, .inr (20, [.ref x.2.1, .ref x.2.2.2.1, .null, .null, .null, .int (nI (tcol x.2.2.2.2))]))]]) rfl
        clear hW11
        exact k_vret C hW12 rfl ⟨rfl, _, rfl, (by simp [plug, ink_plug, ink_nd, ink_leaf])⟩ (Nat.le_refl _) (Nat.le_refl _) dJ6_deleteEntry_245
      · refine lv_aload_n C.hx C.hb dJ6_deleteEntry_156 rfl (lv_at hl5 1 rfl) ?_
        refine lv_aload_n C.hx C.hb dJ6_deleteEntry_157 rfl (lv_at hl5 0 rfl) ?_
        have hW13 : Ws G A s [[(t, .inr (13, [.null, .null, .null, vr (rootA [] (some x5.1)), .int (nI (n - 1)), .int (md + nI 1), .null, .null, .null]))], (tw none (plug [] (.inner z5 x5 () l5 r5))), [(x.1, .inr (20, [.ref x.2.1, .ref x.2.2.2.1, .null, .null, .null, .int (nI (tcol x.2.2.2.2))]))]] H10 locs10 := hW10.perm (wperm (fun d x => by simp only [plug, List.flatten_append, List.flatten_cons, List.flatten_nil, List.count_append, List.count_cons, List.count_nil, plug_ct, tw, cw, tcell, tad_n, tad_i, pa_n, pa_c, plug, recol, tcol_f, tcol_t, vr_n, vr_s, rootA]; try omega))
        clear hW10
        refine k_callV (Sc := [[(t, .inr (13, [.null, .null, .null, vr (rootA [] (some x5.1)), .int (nI (n - 1)), .int (md + nI 1), .null, .null, .null]))], (tw none (plug [] (.inner z5 x5 () l5 r5)))]) (Sr := [[(x.1, .inr (20, [.ref x.2.1, .ref x.2.2.2.1, .null, .null, .null, .int (nI (tcol x.2.2.2.2))]))]]) (As := [.ref x5.1]) (rest := []) C (ctJ6_fixAfterDeletion l G t (n - 1) z5 (md + nI 1) [] x5 l5 r5 trivial) hW13 clJ6 (hW13.get 0 0 rfl rfl) q1530 q1532 qs17 q79 q1533 rfl rfl ⟨by decide, by decide, Eq.trans (b := some 1) (by decide +kernel) rfl⟩ (Nat.le_of_ble_eq_true rfl) (Nat.le_of_ble_eq_true rfl) (Nat.le_refl _) (Nat.le_refl _) hl5.1 rfl (Nat.le_of_ble_eq_true rfl) dJ6_deleteEntry_158 ((pick_perm [[(t, .inr (13, [.null, .null, .null, vr (rootA [] (some x5.1)), .int (nI (n - 1)), .int (md + nI 1), .null, .null, .null]))], (tw none (plug [] (.inner z5 x5 () l5 r5))), [(x.1, .inr (20, [.ref x.2.1, .ref x.2.2.2.1, .null, .null, .null, .int (nI (tcol x.2.2.2.2))]))]] 3 rfl (is := [2, 0, 1]) (by decide)).flatten.symm) (fun _ h => h.elim) (fun v H14 locs14 S1 hQ hz14 hW14 => ?_)
        obtain ⟨rfl, T, rfl, hink, -⟩ := hQ
        have hW14 : Ws G A s ([[(x.1, .inr (20, [.ref x.2.1, .ref x.2.2.2.1, .null, .null, .null, .int (nI (tcol x.2.2.2.2))]))], [(t, .inr (13, [.null, .null, .null, vr (tad T), .int (nI (n - 1)), .int (md + nI 1), .null, .null, .null]))], (tw none T)]) H14 locs14 := hW14
        clear hW13
        refine W.eq (g2 := F0 m 161 ls5 []) rfl ?_
        refine lv_goto (tgt := 245) C.hx C.hb dJ6_deleteEntry_161 (by decide) ?_
        have hW15 : Ws G A s [[(t, .inr (13, [.null, .null, .null, vr (tad T), .int (nI (n - 1)), .int (md + nI 1), .null, .null, .null]))], (tw none T), [(x.1, .inr (20, [.ref x.2.1, .ref x.2.2.2.1, .null, .null, .null, .int (nI (tcol x.2.2.2.2))]))]] H14 locs14 := hW14.perm (wperm (fun d x => by simp only [List.flatten_append, List.flatten_cons, List.flatten_nil, List.count_append, List.count_cons, List.count_nil, plug_ct, tw, cw, tcell, tad_n, tad_i, pa_n, pa_c, plug, recol, tcol_f, tcol_t, vr_n, vr_s, rootA]; try omega))
        clear hW14
        have hW16 : Ws G A s [[(t, .inr (13, [.null, .null, .null, vr (tad T), .int (nI (n - 1)), .int (md + nI 1), .null, .null, .null]))], (tw none T)] H14 locs14 := hW15.drop (S2 := [[(x.1, .inr (20, [.ref x.2.1, .ref x.2.2.2.1, .null, .null, .null, .int (nI (tcol x.2.2.2.2))]))]]) rfl
        clear hW15
        exact k_vret C hW16 rfl ⟨rfl, _, rfl, (by rw [hink] <;> simp [plug, ink_plug, ink_nd, ink_leaf])⟩ (Nat.le_refl _) (Nat.le_refl _) dJ6_deleteEntry_245
    · obtain ⟨hd2, hal2⟩ := hal
      subst hd2
      have hW17 : Ws G A s [[(t, .inr (13, [.null, .null, .null, vr (rootA ((true, z2, x2, o2) :: cx2) (some x.1)), .int (nI n), .int md, .null, .null, .null]))], (tw none (plug ((true, z2, x2, o2) :: cx2) (.inner z x () .leaf (.inner z5 x5 () l5 r5))))] s.heap [] := hW
      clear hW
      have hW18 : Ws G A s [[(t, .inr (13, [.null, .null, .null, vr (rootA cx2 (some x2.1)), .int (nI n), .int md, .null, .null, .null]))], [(x2.1, .inr (20, [.ref x2.2.1, .ref x2.2.2.2.1, .ref x.1, vr (tad o2), vr (pa cx2), .int (nI (tcol x2.2.2.2.2))]))], [(x.1, .inr (20, [.ref x.2.1, .ref x.2.2.2.1, .null, .ref x5.1, .ref x2.1, .int (nI (tcol x.2.2.2.2))]))], [(x5.1, .inr (20, [.ref x5.2.1, .ref x5.2.2.2.1, vr (tad l5), vr (tad r5), .ref x.1, .int (nI (tcol x5.2.2.2.2))]))], (tw (some x5.1) l5), (tw (some x5.1) r5), (tw (some x2.1) o2), (cw cx2 (some x2.1))] s.heap [] := hW17.perm (wperm (fun d x => by simp only [List.flatten_append, List.flatten_cons, List.flatten_nil, List.count_append, List.count_cons, List.count_nil, plug_ct, tw, cw, tcell, tad_n, tad_i, pa_n, pa_c, plug, recol, tcol_f, tcol_t, vr_n, vr_s, rootA]; try omega))
      clear hW17
      refine lv_aload_n C.hx C.hb dJ6_deleteEntry_0 rfl (lv_at hl 0 rfl) ?_
      refine lv_dup C.hx C.hb dJ6_deleteEntry_1 rfl ?_
      refine k_get (v := .int md) C clJ6 (hW18.get 0 0 rfl rfl) 5 (Nat.le_of_ble_eq_true rfl) rfl q228 rfl rfl dJ6_deleteEntry_2 ?_
      refine kn_iconst (a := 1) C (by decide) dJ6_deleteEntry_5 ?_
      refine lv_iadd C.hx C.hb dJ6_deleteEntry_6 ?_
      refine k_put (S' := [[(t, .inr (13, [.null, .null, .null, vr (rootA cx2 (some x2.1)), .int (nI n), .int (md + (nI 1)), .null, .null, .null]))], [(x2.1, .inr (20, [.ref x2.2.1, .ref x2.2.2.2.1, .ref x.1, vr (tad o2), vr (pa cx2), .int (nI (tcol x2.2.2.2.2))]))], [(x.1, .inr (20, [.ref x.2.1, .ref x.2.2.2.1, .null, .ref x5.1, .ref x2.1, .int (nI (tcol x.2.2.2.2))]))], [(x5.1, .inr (20, [.ref x5.2.1, .ref x5.2.2.2.1, vr (tad l5), vr (tad r5), .ref x.1, .int (nI (tcol x5.2.2.2.2))]))], (tw (some x5.1) l5), (tw (some x5.1) r5), (tw (some x2.1) o2), (cw cx2 (some x2.1))]) C clJ6 hW18 0 0 rfl rfl 5 (Nat.le_of_ble_eq_true rfl) rfl q228 rfl (fun _ h => h) (Or.inl rfl) (fty := .int) (v := .int (md + (nI 1))) (by decide +kernel) rfl rfl (Nat.le_of_ble_eq_true rfl) dJ6_deleteEntry_7 rfl (fun H19 locs19 hW19 => ?_)
      clear hW18
      refine lv_aload_n C.hx C.hb dJ6_deleteEntry_10 rfl (lv_at hl 0 rfl) ?_
      refine lv_dup C.hx C.hb dJ6_deleteEntry_11 rfl ?_
      refine k_get (v := .int (nI n)) C clJ6 (hW19.get 0 0 rfl rfl) 4 (Nat.le_of_ble_eq_true rfl) rfl q227 rfl rfl dJ6_deleteEntry_12 ?_
      refine kn_iconst (a := 1) C (by decide) dJ6_deleteEntry_15 ?_
      refine kn_isub C (by omega) dJ6_deleteEntry_16 ?_
      refine k_put (S' := [[(t, .inr (13, [.null, .null, .null, vr (rootA cx2 (some x2.1)), .int (nI (n - 1)), .int (md + (nI 1)), .null, .null, .null]))], [(x2.1, .inr (20, [.ref x2.2.1, .ref x2.2.2.2.1, .ref x.1, vr (tad o2), vr (pa cx2), .int (nI (tcol x2.2.2.2.2))]))], [(x.1, .inr (20, [.ref x.2.1, .ref x.2.2.2.1, .null, .ref x5.1, .ref x2.1, .int (nI (tcol x.2.2.2.2))]))], [(x5.1, .inr (20, [.ref x5.2.1, .ref x5.2.2.2.1, vr (tad l5), vr (tad r5), .ref x.1, .int (nI (tcol x5.2.2.2.2))]))], (tw (some x5.1) l5), (tw (some x5.1) r5), (tw (some x2.1) o2), (cw cx2 (some x2.1))]) C clJ6 hW19 0 0 rfl rfl 4 (Nat.le_of_ble_eq_true rfl) rfl q227 rfl (fun _ h => h) (Or.inl rfl) (fty := .int) (v := .int (nI (n - 1))) (by decide +kernel) rfl rfl (Nat.le_of_ble_eq_true rfl) dJ6_deleteEntry_17 rfl (fun H20 locs20 hW20 => ?_)
      clear hW19
      refine lv_aload_n C.hx C.hb dJ6_deleteEntry_20 rfl (lv_at hl 1 rfl) ?_
      refine k_get (v := .null) C clJ31 (hW20.get 2 0 rfl rfl) 2 (Nat.le_of_ble_eq_true rfl) rfl q1820 rfl rfl dJ6_deleteEntry_21 ?_
      refine lv_ifnullN (tgt := 57) C.hx C.hb dJ6_deleteEntry_24 (by decide) ?_
      refine lv_aload_n C.hx C.hb dJ6_deleteEntry_57 rfl (lv_at hl 1 rfl) ?_
      refine k_get (v := .null) C clJ31 (hW20.get 2 0 rfl rfl) 2 (Nat.le_of_ble_eq_true rfl) rfl q1820 rfl rfl dJ6_deleteEntry_58 ?_
      refine lv_ifnullN (tgt := 71) C.hx C.hb dJ6_deleteEntry_61 (by decide) ?_
      refine lv_aload_n C.hx C.hb dJ6_deleteEntry_71 rfl (lv_at hl 1 rfl) ?_
      refine k_get (v := .ref x5.1) C clJ31 (hW20.get 2 0 rfl rfl) 3 (Nat.le_of_ble_eq_true rfl) rfl q1821 rfl rfl dJ6_deleteEntry_72 ?_
      refine lv_astore_n (lv' := [(2, .ref x5.1), (0, .ref t), (1, .ref x.1)]) C.hx C.hb dJ6_deleteEntry_75 rfl hl (Nat.le_of_ble_eq_true rfl) rfl (fun ls21 hl21 => ?_)
      clear hl
      refine lv_aload_n C.hx C.hb dJ6_deleteEntry_76 rfl (lv_at hl21 0 rfl) ?_
      refine lv_ifnull C.hx C.hb dJ6_deleteEntry_77 ?_
      refine lv_aload_n C.hx C.hb dJ6_deleteEntry_80 rfl (lv_at hl21 0 rfl) ?_
      refine lv_aload_n C.hx C.hb dJ6_deleteEntry_81 rfl (lv_at hl21 2 rfl) ?_
      refine k_get (v := .ref x2.1) C clJ31 (hW20.get 2 0 rfl rfl) 4 (Nat.le_of_ble_eq_true rfl) rfl q1823 rfl rfl dJ6_deleteEntry_82 ?_
      refine k_put (S' := [[(t, .inr (13, [.null, .null, .null, vr (rootA cx2 (some x2.1)), .int (nI (n - 1)), .int (md + (nI 1)), .null, .null, .null]))], [(x2.1, .inr (20, [.ref x2.2.1, .ref x2.2.2.2.1, .ref x.1, vr (tad o2), vr (pa cx2), .int (nI (tcol x2.2.2.2.2))]))], [(x.1, .inr (20, [.ref x.2.1, .ref x.2.2.2.1, .null, .ref x5.1, .ref x2.1, .int (nI (tcol x.2.2.2.2))]))], [(x5.1, .inr (20, [.ref x5.2.1, .ref x5.2.2.2.1, vr (tad l5), vr (tad r5), .ref x2.1, .int (nI (tcol x5.2.2.2.2))]))], (tw (some x5.1) l5), (tw (some x5.1) r5), (tw (some x2.1) o2), (cw cx2 (some x2.1))]) C clJ31 hW20 3 0 rfl rfl 4 (Nat.le_of_ble_eq_true rfl) rfl q1823 rfl (fun _ h => h) (Or.inl rfl) (fty := (.object "java/util/TreeMap$Entry")) (v := .ref x2.1) (by decide +kernel) rfl rfl (Nat.le_of_ble_eq_true rfl) dJ6_deleteEntry_85 rfl (fun H22 locs22 hW22 => ?_)
      clear hW20
      refine lv_aload_n C.hx C.hb dJ6_deleteEntry_88 rfl (lv_at hl21 2 rfl) ?_
      refine k_get (v := .ref x2.1) C clJ31 (hW22.get 2 0 rfl rfl) 4 (Nat.le_of_ble_eq_true rfl) rfl q1823 rfl rfl dJ6_deleteEntry_89 ?_
      refine lv_ifnonnull (tgt := 103) C.hx C.hb dJ6_deleteEntry_92 (by decide) ?_
      refine lv_aload_n C.hx C.hb dJ6_deleteEntry_103 rfl (lv_at hl21 2 rfl) ?_
      refine lv_aload_n C.hx C.hb dJ6_deleteEntry_104 rfl (lv_at hl21 2 rfl) ?_
      refine k_get (v := .ref x2.1) C clJ31 (hW22.get 2 0 rfl rfl) 4 (Nat.le_of_ble_eq_true rfl) rfl q1823 rfl rfl dJ6_deleteEntry_105 ?_
      refine k_get (v := .ref x.1) C clJ31 (hW22.get 1 0 rfl rfl) 2 (Nat.le_of_ble_eq_true rfl) rfl q1820 rfl rfl dJ6_deleteEntry_108 ?_
      refine kr_acmp_ne (tgt := 125) C dJ6_deleteEntry_111 (by decide) (fun cq => absurd rfl cq) (fun cq => ?_)
      refine lv_aload_n C.hx C.hb dJ6_deleteEntry_114 rfl (lv_at hl21 2 rfl) ?_
      refine k_get (v := .ref x2.1) C clJ31 (hW22.get 2 0 rfl rfl) 4 (Nat.le_of_ble_eq_true rfl) rfl q1823 rfl rfl dJ6_deleteEntry_115 ?_
      refine lv_aload_n C.hx C.hb dJ6_deleteEntry_118 rfl (lv_at hl21 0 rfl) ?_
      refine k_put (S' := [[(t, .inr (13, [.null, .null, .null, vr (rootA cx2 (some x2.1)), .int (nI (n - 1)), .int (md + (nI 1)), .null, .null, .null]))], [(x2.1, .inr (20, [.ref x2.2.1, .ref x2.2.2.2.1, .ref x5.1, vr (tad o2), vr (pa cx2), .int (nI (tcol x2.2.2.2.2))]))], [(x.1, .inr (20, [.ref x.2.1, .ref x.2.2.2.1, .null, .ref x5.1, .ref x2.1, .int (nI (tcol x.2.2.2.2))]))], [(x5.1, .inr (20, [.ref x5.2.1, .ref x5.2.2.2.1, vr (tad l5), vr (tad r5), .ref x2.1, .int (nI (tcol x5.2.2.2.2))]))], (tw (some x5.1) l5), (tw (some x5.1) r5), (tw (some x2.1) o2), (cw cx2 (some x2.1))]) C clJ31 hW22 1 0 rfl rfl 2 (Nat.le_of_ble_eq_true rfl) rfl q1820 rfl (fun _ h => h) (Or.inl rfl) (fty := (.object "java/util/TreeMap$Entry")) (v := .ref x5.1) (by decide +kernel) rfl rfl (Nat.le_of_ble_eq_true rfl) dJ6_deleteEntry_119 rfl (fun H23 locs23 hW23 => ?_)
      clear hW22
      refine lv_goto (tgt := 133) C.hx C.hb dJ6_deleteEntry_122 (by decide) ?_
      refine lv_aload_n C.hx C.hb dJ6_deleteEntry_133 rfl (lv_at hl21 2 rfl) ?_
      refine lv_aload_n C.hx C.hb dJ6_deleteEntry_134 rfl (lv_at hl21 2 rfl) ?_
      refine lv_aload_n C.hx C.hb dJ6_deleteEntry_135 rfl (lv_at hl21 2 rfl) ?_
      refine lv_null C.hx C.hb dJ6_deleteEntry_136 ?_
      refine lv_dup_x1 C.hx C.hb dJ6_deleteEntry_137 rfl rfl ?_
      refine k_put (S' := [[(t, .inr (13, [.null, .null, .null, vr (rootA cx2 (some x2.1)), .int (nI (n - 1)), .int (md + (nI 1)), .null, .null, .null]))], [(x2.1, .inr (20, [.ref x2.2.1, .ref x2.2.2.2.1, .ref x5.1, vr (tad o2), vr (pa cx2), .int (nI (tcol x2.2.2.2.2))]))], [(x.1, .inr (20, [.ref x.2.1, .ref x.2.2.2.1, .null, .ref x5.1, .null, .int (nI (tcol x.2.2.2.2))]))], [(x5.1, .inr (20, [.ref x5.2.1, .ref x5.2.2.2.1, vr (tad l5), vr (tad r5), .ref x2.1, .int (nI (tcol x5.2.2.2.2))]))], (tw (some x5.1) l5), (tw (some x5.1) r5), (tw (some x2.1) o2), (cw cx2 (some x2.1))]) C clJ31 hW23 2 0 rfl rfl 4 (Nat.le_of_ble_eq_true rfl) rfl q1823 rfl (fun _ h => h) (Or.inl rfl) (fty := (.object "java/util/TreeMap$Entry")) (v := .null) (by decide +kernel) rfl rfl (Nat.le_of_ble_eq_true rfl) dJ6_deleteEntry_138 rfl (fun H24 locs24 hW24 => ?_)
      clear hW23
      refine lv_dup_x1 C.hx C.hb dJ6_deleteEntry_141 rfl rfl ?_
      refine k_put (S' := [[(t, .inr (13, [.null, .null, .null, vr (rootA cx2 (some x2.1)), .int (nI (n - 1)), .int (md + (nI 1)), .null, .null, .null]))], [(x2.1, .inr (20, [.ref x2.2.1, .ref x2.2.2.2.1, .ref x5.1, vr (tad o2), vr (pa cx2), .int (nI (tcol x2.2.2.2.2))]))], [(x.1, .inr (20, [.ref x.2.1, .ref x.2.2.2.1, .null, .null, .null, .int (nI (tcol x.2.2.2.2))]))], [(x5.1, .inr (20, [.ref x5.2.1, .ref x5.2.2.2.1, vr (tad l5), vr (tad r5), .ref x2.1, .int (nI (tcol x5.2.2.2.2))]))], (tw (some x5.1) l5), (tw (some x5.1) r5), (tw (some x2.1) o2), (cw cx2 (some x2.1))]) C clJ31 hW24 2 0 rfl rfl 3 (Nat.le_of_ble_eq_true rfl) rfl q1821 rfl (fun _ h => h) (Or.inl rfl) (fty := (.object "java/util/TreeMap$Entry")) (v := .null) (by decide +kernel) rfl rfl (Nat.le_of_ble_eq_true rfl) dJ6_deleteEntry_142 rfl (fun H25 locs25 hW25 => ?_)
      clear hW24
      refine k_put (S' := [[(t, .inr (13, [.null, .null, .null, vr (rootA cx2 (some x2.1)), .int (nI (n - 1)), .int (md + (nI 1)), .null, .null, .null]))], [(x2.1, .inr (20, [.ref x2.2.1, .ref x2.2.2.2.1, .ref x5.1, vr (tad o2), vr (pa cx2), .int (nI (tcol x2.2.2.2.2))]))], [(x.1, .inr (20, [.ref x.2.1, .ref x.2.2.2.1, .null, .null, .null, .int (nI (tcol x.2.2.2.2))]))], [(x5.1, .inr (20, [.ref x5.2.1, .ref x5.2.2.2.1, vr (tad l5), vr (tad r5), .ref x2.1, .int (nI (tcol x5.2.2.2.2))]))], (tw (some x5.1) l5), (tw (some x5.1) r5), (tw (some x2.1) o2), (cw cx2 (some x2.1))]) C clJ31 hW25 2 0 rfl rfl 2 (Nat.le_of_ble_eq_true rfl) rfl q1820 rfl (fun _ h => h) (Or.inl rfl) (fty := (.object "java/util/TreeMap$Entry")) (v := .null) (by decide +kernel) rfl rfl (Nat.le_of_ble_eq_true rfl) dJ6_deleteEntry_145 rfl (fun H26 locs26 hW26 => ?_)
      clear hW25
      refine lv_aload_n C.hx C.hb dJ6_deleteEntry_148 rfl (lv_at hl21 2 rfl) ?_
      refine k_get (v := .int (nI (tcol x.2.2.2.2))) C clJ31 (hW26.get 2 0 rfl rfl) 5 (Nat.le_of_ble_eq_true rfl) rfl q1825 rfl rfl dJ6_deleteEntry_149 ?_
      refine kn_iconst (a := 1) C (by decide) dJ6_deleteEntry_152 ?_
      refine kn_icmp_ne (tgt := 245) C (tcol_lt _) (by decide) dJ6_deleteEntry_153 (by decide) (fun c153 => ?_) (fun c153 => ?_)
      · have hW27 : Ws G A s [[(t, .inr (13, [.null, .null, .null, vr (tad (plug ((true, z2, x2, o2) :: cx2) (.inner z5 x5 () l5 r5))), .int (nI (n - 1)), .int (md + nI 1), .null, .null, .null]))], (tw none (plug ((true, z2, x2, o2) :: cx2) (.inner z5 x5 () l5 r5))), [(x.1, .inr (20, [.ref x.2.1, .ref x.2.2.2.1, .null, .null, .null, .int (nI (tcol x.2.2.2.2))]))]] H26 locs26 := hW26.perm (wperm (fun d x => by simp only [plug_ad, List.flatten_append, List.flatten_cons, List.flatten_nil, List.count_append, List.count_cons, List.count_nil, plug_ct, tw, cw, tcell, tad_n, tad_i, pa_n, pa_c, plug, recol, tcol_f, tcol_t, vr_n, vr_s, rootA]; try omega))
        clear hW26
        have hW28 : Ws G A s [[(t, .inr (13, [.null, .null, .null, vr (tad (plug ((true, z2, x2, o2) :: cx2) (.inner z5 x5 () l5 r5))), .int (nI (n - 1)), .int (md + nI 1), .null, .null, .null]))], (tw none (plug ((true, z2, x2, o2) :: cx2) (.inner z5 x5 () l5 r5)))] H26 locs26 := hW27.drop (S2 := [[(x.1, .inr (20, [.ref x.2.1, .ref x.2.2.2.1, .null, .null, .null, .int (nI (tcol x.2.2.2.2))]))]]) rfl
        clear hW27
        exact k_vret C hW28 rfl ⟨rfl, _, rfl, (by simp [plug, ink_plug, ink_nd, ink_leaf])⟩ (Nat.le_refl _) (Nat.le_refl _) dJ6_deleteEntry_245
      · refine lv_aload_n C.hx C.hb dJ6_deleteEntry_156 rfl (lv_at hl21 1 rfl) ?_
        refine lv_aload_n C.hx C.hb dJ6_deleteEntry_157 rfl (lv_at hl21 0 rfl) ?_
        have hW29 : Ws G A s [[(t, .inr (13, [.null, .null, .null, vr (rootA ((true, z2, x2, o2) :: cx2) (some x5.1)), .int (nI (n - 1)), .int (md + nI 1), .null, .null, .null]))], (tw none (plug ((true, z2, x2, o2) :: cx2) (.inner z5 x5 () l5 r5))), [(x.1, .inr (20, [.ref x.2.1, .ref x.2.2.2.1, .null, .null, .null, .int (nI (tcol x.2.2.2.2))]))]] H26 locs26 := hW26.perm (wperm (fun d x => by simp only [plug, List.flatten_append, List.flatten_cons, List.flatten_nil, List.count_append, List.count_cons, List.count_nil, plug_ct, tw, cw, tcell, tad_n, tad_i, pa_n, pa_c, plug, recol, tcol_f, tcol_t, vr_n, vr_s, rootA]; try omega))
        clear hW26
        refine k_callV (Sc := [[(t, .inr (13, [.null, .null, .null, vr (rootA ((true, z2, x2, o2) :: cx2) (some x5.1)), .int (nI (n - 1)), .int (md + nI 1), .null, .null, .null]))], (tw none (plug ((true, z2, x2, o2) :: cx2) (.inner z5 x5 () l5 r5)))]) (Sr := [[(x.1, .inr (20, [.ref x.2.1, .ref x.2.2.2.1, .null, .null, .null, .int (nI (tcol x.2.2.2.2))]))]]) (As := [.ref x5.1]) (rest := []) C (ctJ6_fixAfterDeletion l G t (n - 1) z5 (md + nI 1) ((true, z2, x2, o2) :: cx2) x5 l5 r5 ⟨rfl, hal2⟩) hW29 clJ6 (hW29.get 0 0 rfl rfl) q1530 q1532 qs17 q79 q1533 rfl rfl ⟨by decide, by decide, Eq.trans (b := some 1) (by decide +kernel) rfl⟩ (Nat.le_of_ble_eq_true rfl) (Nat.le_of_ble_eq_true rfl) (Nat.le_refl _) (Nat.le_refl _) hl21.1 rfl (Nat.le_of_ble_eq_true rfl) dJ6_deleteEntry_158 ((pick_perm [[(t, .inr (13, [.null, .null, .null, vr (rootA ((true, z2, x2, o2) :: cx2) (some x5.1)), .int (nI (n - 1)), .int (md + nI 1), .null, .null, .null]))], (tw none (plug ((true, z2, x2, o2) :: cx2) (.inner z5 x5 () l5 r5))), [(x.1, .inr (20, [.ref x.2.1, .ref x.2.2.2.1, .null, .null, .null, .int (nI (tcol x.2.2.2.2))]))]] 3 rfl (is := [2, 0, 1]) (by decide)).flatten.symm) (fun _ h => h.elim) (fun v H30 locs30 S1 hQ hz30 hW30 => ?_)
        obtain ⟨rfl, T, rfl, hink, -⟩ := hQ
        have hW30 : Ws G A s ([[(x.1, .inr (20, [.ref x.2.1, .ref x.2.2.2.1, .null, .null, .null, .int (nI (tcol x.2.2.2.2))]))], [(t, .inr (13, [.null, .null, .null, vr (tad T), .int (nI (n - 1)), .int (md + nI 1), .null, .null, .null]))], (tw none T)]) H30 locs30 := hW30
        clear hW29
        refine W.eq (g2 := F0 m 161 ls21 []) rfl ?_
        refine lv_goto (tgt := 245) C.hx C.hb dJ6_deleteEntry_161 (by decide) ?_
        have hW31 : Ws G A s [[(t, .inr (13, [.null, .null, .null, vr (tad T), .int (nI (n - 1)), .int (md + nI 1), .null, .null, .null]))], (tw none T), [(x.1, .inr (20, [.ref x.2.1, .ref x.2.2.2.1, .null, .null, .null, .int (nI (tcol x.2.2.2.2))]))]] H30 locs30 := hW30.perm (wperm (fun d x => by simp only [List.flatten_append, List.flatten_cons, List.flatten_nil, List.count_append, List.count_cons, List.count_nil, plug_ct, tw, cw, tcell, tad_n, tad_i, pa_n, pa_c, plug, recol, tcol_f, tcol_t, vr_n, vr_s, rootA]; try omega))
        clear hW30
        have hW32 : Ws G A s [[(t, .inr (13, [.null, .null, .null, vr (tad T), .int (nI (n - 1)), .int (md + nI 1), .null, .null, .null]))], (tw none T)] H30 locs30 := hW31.drop (S2 := [[(x.1, .inr (20, [.ref x.2.1, .ref x.2.2.2.1, .null, .null, .null, .int (nI (tcol x.2.2.2.2))]))]]) rfl
        clear hW31
        exact k_vret C hW32 rfl ⟨rfl, _, rfl, (by rw [hink] <;> simp [plug, ink_plug, ink_nd, ink_leaf])⟩ (Nat.le_refl _) (Nat.le_refl _) dJ6_deleteEntry_245
  · rcases cx with _ | ⟨⟨d2, z2, x2, o2⟩, cx2⟩
    · have hW33 : Ws G A s [[(t, .inr (13, [.null, .null, .null, vr (rootA [] (some x.1)), .int (nI n), .int md, .null, .null, .null]))], (tw none (plug [] (.inner z x () .leaf .leaf)))] s.heap [] := hW
      clear hW
      have hW34 : Ws G A s [[(t, .inr (13, [.null, .null, .null, .ref x.1, .int (nI n), .int md, .null, .null, .null]))], [(x.1, .inr (20, [.ref x.2.1, .ref x.2.2.2.1, .null, .null, .null, .int (nI (tcol x.2.2.2.2))]))]] s.heap [] := hW33.perm (wperm (fun d x => by simp only [List.flatten_append, List.flatten_cons, List.flatten_nil, List.count_append, List.count_cons, List.count_nil, plug_ct, tw, cw, tcell, tad_n, tad_i, pa_n, pa_c, plug, recol, tcol_f, tcol_t, vr_n, vr_s, rootA]; try omega))
      clear hW33
      refine lv_aload_n C.hx C.hb dJ6_deleteEntry_0 rfl (lv_at hl 0 rfl) ?_
      refine lv_dup C.hx C.hb dJ6_deleteEntry_1 rfl ?_
      refine k_get (v := .int md) C clJ6 (hW34.get 0 0 rfl rfl) 5 (Nat.le_of_ble_eq_true rfl) rfl q228 rfl rfl dJ6_deleteEntry_2 ?_
      refine kn_iconst (a := 1) C (by decide) dJ6_deleteEntry_5 ?_
      refine lv_iadd C.hx C.hb dJ6_deleteEntry_6 ?_
      refine k_put (S' := [[(t, .inr (13, [.null, .null, .null, .ref x.1, .int (nI n), .int (md + (nI 1)), .null, .null, .null]))], [(x.1, .inr (20, [.ref x.2.1, .ref x.2.2.2.1, .null, .null, .null, .int (nI (tcol x.2.2.2.2))]))]]) C clJ6 hW34 0 0 rfl rfl 5 (Nat.le_of_ble_eq_true rfl) rfl q228 rfl (fun _ h => h) (Or.inl rfl) (fty := .int) (v := .int (md + (nI 1))) (by decide +kernel) rfl rfl (Nat.le_of_ble_eq_true rfl) dJ6_deleteEntry_7 rfl (fun H35 locs35 hW35 => ?_)
      clear hW34
      refine lv_aload_n C.hx C.hb dJ6_deleteEntry_10 rfl (lv_at hl 0 rfl) ?_
      refine lv_dup C.hx C.hb dJ6_deleteEntry_11 rfl ?_
      refine k_get (v := .int (nI n)) C clJ6 (hW35.get 0 0 rfl rfl) 4 (Nat.le_of_ble_eq_true rfl) rfl q227 rfl rfl dJ6_deleteEntry_12 ?_
      refine kn_iconst (a := 1) C (by decide) dJ6_deleteEntry_15 ?_
      refine kn_isub C (by omega) dJ6_deleteEntry_16 ?_
      refine k_put (S' := [[(t, .inr (13, [.null, .null, .null, .ref x.1, .int (nI (n - 1)), .int (md + (nI 1)), .null, .null, .null]))], [(x.1, .inr (20, [.ref x.2.1, .ref x.2.2.2.1, .null, .null, .null, .int (nI (tcol x.2.2.2.2))]))]]) C clJ6 hW35 0 0 rfl rfl 4 (Nat.le_of_ble_eq_true rfl) rfl q227 rfl (fun _ h => h) (Or.inl rfl) (fty := .int) (v := .int (nI (n - 1))) (by decide +kernel) rfl rfl (Nat.le_of_ble_eq_true rfl) dJ6_deleteEntry_17 rfl (fun H36 locs36 hW36 => ?_)
      clear hW35
      refine lv_aload_n C.hx C.hb dJ6_deleteEntry_20 rfl (lv_at hl 1 rfl) ?_
      refine k_get (v := .null) C clJ31 (hW36.get 1 0 rfl rfl) 2 (Nat.le_of_ble_eq_true rfl) rfl q1820 rfl rfl dJ6_deleteEntry_21 ?_
      refine lv_ifnullN (tgt := 57) C.hx C.hb dJ6_deleteEntry_24 (by decide) ?_
      refine lv_aload_n C.hx C.hb dJ6_deleteEntry_57 rfl (lv_at hl 1 rfl) ?_
      refine k_get (v := .null) C clJ31 (hW36.get 1 0 rfl rfl) 2 (Nat.le_of_ble_eq_true rfl) rfl q1820 rfl rfl dJ6_deleteEntry_58 ?_
      refine lv_ifnullN (tgt := 71) C.hx C.hb dJ6_deleteEntry_61 (by decide) ?_
      refine lv_aload_n C.hx C.hb dJ6_deleteEntry_71 rfl (lv_at hl 1 rfl) ?_
      refine k_get (v := .null) C clJ31 (hW36.get 1 0 rfl rfl) 3 (Nat.le_of_ble_eq_true rfl) rfl q1821 rfl rfl dJ6_deleteEntry_72 ?_
      refine lv_astore_nN (lv' := [(2, .null), (0, .ref t), (1, .ref x.1)]) C.hx C.hb dJ6_deleteEntry_75 rfl hl (Nat.le_of_ble_eq_true rfl) rfl (fun ls37 hl37 => ?_)
      clear hl
      refine lv_aload_nN C.hx C.hb dJ6_deleteEntry_76 rfl (lv_at hl37 0 rfl) ?_
      refine lv_ifnullN (tgt := 164) C.hx C.hb dJ6_deleteEntry_77 (by decide) ?_
      refine lv_aload_n C.hx C.hb dJ6_deleteEntry_164 rfl (lv_at hl37 2 rfl) ?_
      refine k_get (v := .null) C clJ31 (hW36.get 1 0 rfl rfl) 4 (Nat.le_of_ble_eq_true rfl) rfl q1823 rfl rfl dJ6_deleteEntry_165 ?_
      refine lv_ifnonnullN C.hx C.hb dJ6_deleteEntry_168 ?_
      refine lv_aload_n C.hx C.hb dJ6_deleteEntry_171 rfl (lv_at hl37 1 rfl) ?_
      refine lv_null C.hx C.hb dJ6_deleteEntry_172 ?_
      refine k_put (S' := [[(t, .inr (13, [.null, .null, .null, .null, .int (nI (n - 1)), .int (md + (nI 1)), .null, .null, .null]))], [(x.1, .inr (20, [.ref x.2.1, .ref x.2.2.2.1, .null, .null, .null, .int (nI (tcol x.2.2.2.2))]))]]) C clJ6 hW36 0 0 rfl rfl 3 (Nat.le_of_ble_eq_true rfl) rfl q226 rfl (fun _ h => h) (Or.inl rfl) (fty := (.object "java/util/TreeMap$Entry")) (v := .null) (by decide +kernel) rfl rfl (Nat.le_of_ble_eq_true rfl) dJ6_deleteEntry_173 rfl (fun H38 locs38 hW38 => ?_)
      clear hW36
      refine lv_goto (tgt := 245) C.hx C.hb dJ6_deleteEntry_176 (by decide) ?_
      have hW39 : Ws G A s [[(t, .inr (13, [.null, .null, .null, vr (tad .leaf), .int (nI (n - 1)), .int (md + nI 1), .null, .null, .null]))], (tw none .leaf), [(x.1, .inr (20, [.ref x.2.1, .ref x.2.2.2.1, .null, .null, .null, .int (nI (tcol x.2.2.2.2))]))]] H38 locs38 := hW38.perm (wperm (fun d x => by simp only [plug_ad, List.flatten_append, List.flatten_cons, List.flatten_nil, List.count_append, List.count_cons, List.count_nil, plug_ct, tw, cw, tcell, tad_n, tad_i, pa_n, pa_c, plug, recol, tcol_f, tcol_t, vr_n, vr_s, rootA]; try omega))
      clear hW38
      have hW40 : Ws G A s [[(t, .inr (13, [.null, .null, .null, vr (tad .leaf), .int (nI (n - 1)), .int (md + nI 1), .null, .null, .null]))], (tw none .leaf)] H38 locs38 := hW39.drop (S2 := [[(x.1, .inr (20, [.ref x.2.1, .ref x.2.2.2.1, .null, .null, .null, .int (nI (tcol x.2.2.2.2))]))]]) rfl
      clear hW39
      exact k_vret C hW40 rfl ⟨rfl, _, rfl, (by simp [plug, ink_plug, ink_nd, ink_leaf])⟩ (Nat.le_refl _) (Nat.le_refl _) dJ6_deleteEntry_245
    · obtain ⟨hd2, hal2⟩ := hal
      subst hd2
      have hW41 : Ws G A s [[(t, .inr (13, [.null, .null, .null, vr (rootA ((true, z2, x2, o2) :: cx2) (some x.1)), .int (nI n), .int md, .null, .null, .null]))], (tw none (plug ((true, z2, x2, o2) :: cx2) (.inner z x () .leaf .leaf)))] s.heap [] := hW
      clear hW
      have hW42 : Ws G A s [[(t, .inr (13, [.null, .null, .null, vr (rootA cx2 (some x2.1)), .int (nI n), .int md, .null, .null, .null]))], [(x2.1, .inr (20, [.ref x2.2.1, .ref x2.2.2.2.1, .ref x.1, vr (tad o2), vr (pa cx2), .int (nI (tcol x2.2.2.2.2))]))], [(x.1, .inr (20, [.ref x.2.1, .ref x.2.2.2.1, .null, .null, .ref x2.1, .int (nI (tcol x.2.2.2.2))]))], (tw (some x2.1) o2), (cw cx2 (some x2.1))] s.heap [] := hW41.perm (wperm (fun d x => by simp only [List.flatten_append, List.flatten_cons, List.flatten_nil, List.count_append, List.count_cons, List.count_nil, plug_ct, tw, cw, tcell, tad_n, tad_i, pa_n, pa_c, plug, recol, tcol_f, tcol_t, vr_n, vr_s, rootA]; try omega))
      clear hW41
      refine lv_aload_n C.hx C.hb dJ6_deleteEntry_0 rfl (lv_at hl 0 rfl) ?_
      refine lv_dup C.hx C.hb dJ6_deleteEntry_1 rfl ?_
      refine k_get (v := .int md) C clJ6 (hW42.get 0 0 rfl rfl) 5 (Nat.le_of_ble_eq_true rfl) rfl q228 rfl rfl dJ6_deleteEntry_2 ?_
      refine kn_iconst (a := 1) C (by decide) dJ6_deleteEntry_5 ?_
      refine lv_iadd C.hx C.hb dJ6_deleteEntry_6 ?_
      refine k_put (S' := [[(t, .inr (13, [.null, .null, .null, vr (rootA cx2 (some x2.1)), .int (nI n), .int (md + (nI 1)), .null, .null, .null]))], [(x2.1, .inr (20, [.ref x2.2.1, .ref x2.2.2.2.1, .ref x.1, vr (tad o2), vr (pa cx2), .int (nI (tcol x2.2.2.2.2))]))], [(x.1, .inr (20, [.ref x.2.1, .ref x.2.2.2.1, .null, .null, .ref x2.1, .int (nI (tcol x.2.2.2.2))]))], (tw (some x2.1) o2), (cw cx2 (some x2.1))]) C clJ6 hW42 0 0 rfl rfl 5 (Nat.le_of_ble_eq_true rfl) rfl q228 rfl (fun _ h => h) (Or.inl rfl) (fty := .int) (v := .int (md + (nI 1))) (by decide +kernel) rfl rfl (Nat.le_of_ble_eq_true rfl) dJ6_deleteEntry_7 rfl (fun H43 locs43 hW43 => ?_)
      clear hW42
      refine lv_aload_n C.hx C.hb dJ6_deleteEntry_10 rfl (lv_at hl 0 rfl) ?_
      refine lv_dup C.hx C.hb dJ6_deleteEntry_11 rfl ?_
      refine k_get (v := .int (nI n)) C clJ6 (hW43.get 0 0 rfl rfl) 4 (Nat.le_of_ble_eq_true rfl) rfl q227 rfl rfl dJ6_deleteEntry_12 ?_
      refine kn_iconst (a := 1) C (by decide) dJ6_deleteEntry_15 ?_
      refine kn_isub C (by omega) dJ6_deleteEntry_16 ?_
      refine k_put (S' := [[(t, .inr (13, [.null, .null, .null, vr (rootA cx2 (some x2.1)), .int (nI (n - 1)), .int (md + (nI 1)), .null, .null, .null]))], [(x2.1, .inr (20, [.ref x2.2.1, .ref x2.2.2.2.1, .ref x.1, vr (tad o2), vr (pa cx2), .int (nI (tcol x2.2.2.2.2))]))], [(x.1, .inr (20, [.ref x.2.1, .ref x.2.2.2.1, .null, .null, .ref x2.1, .int (nI (tcol x.2.2.2.2))]))], (tw (some x2.1) o2), (cw cx2 (some x2.1))]) C clJ6 hW43 0 0 rfl rfl 4 (Nat.le_of_ble_eq_true rfl) rfl q227 rfl (fun _ h => h) (Or.inl rfl) (fty := .int) (v := .int (nI (n - 1))) (by decide +kernel) rfl rfl (Nat.le_of_ble_eq_true rfl) dJ6_deleteEntry_17 rfl (fun H44 locs44 hW44 => ?_)
      clear hW43
      refine lv_aload_n C.hx C.hb dJ6_deleteEntry_20 rfl (lv_at hl 1 rfl) ?_
      refine k_get (v := .null) C clJ31 (hW44.get 2 0 rfl rfl) 2 (Nat.le_of_ble_eq_true rfl) rfl q1820 rfl rfl dJ6_deleteEntry_21 ?_
      refine lv_ifnullN (tgt := 57) C.hx C.hb dJ6_deleteEntry_24 (by decide) ?_
      refine lv_aload_n C.hx C.hb dJ6_deleteEntry_57 rfl (lv_at hl 1 rfl) ?_
      refine k_get (v := .null) C clJ31 (hW44.get 2 0 rfl rfl) 2 (Nat.le_of_ble_eq_true rfl) rfl q1820 rfl rfl dJ6_deleteEntry_58 ?_
      refine lv_ifnullN (tgt := 71) C.hx C.hb dJ6_deleteEntry_61 (by decide) ?_
      refine lv_aload_n C.hx C.hb dJ6_deleteEntry_71 rfl (lv_at hl 1 rfl) ?_
      refine k_get (v := .null) C clJ31 (hW44.get 2 0 rfl rfl) 3 (Nat.le_of_ble_eq_true rfl) rfl q1821 rfl rfl dJ6_deleteEntry_72 ?_
      refine lv_astore_nN (lv' := [(2, .null), (0, .ref t), (1, .ref x.1)]) C.hx C.hb dJ6_deleteEntry_75 rfl hl (Nat.le_of_ble_eq_true rfl) rfl (fun ls45 hl45 => ?_)
      clear hl
      refine lv_aload_nN C.hx C.hb dJ6_deleteEntry_76 rfl (lv_at hl45 0 rfl) ?_
      refine lv_ifnullN (tgt := 164) C.hx C.hb dJ6_deleteEntry_77 (by decide) ?_
      refine lv_aload_n C.hx C.hb dJ6_deleteEntry_164 rfl (lv_at hl45 2 rfl) ?_
      refine k_get (v := .ref x2.1) C clJ31 (hW44.get 2 0 rfl rfl) 4 (Nat.le_of_ble_eq_true rfl) rfl q1823 rfl rfl dJ6_deleteEntry_165 ?_
      refine lv_ifnonnull (tgt := 179) C.hx C.hb dJ6_deleteEntry_168 (by decide) ?_
      refine lv_aload_n C.hx C.hb dJ6_deleteEntry_179 rfl (lv_at hl45 2 rfl) ?_
      refine k_get (v := .int (nI (tcol x.2.2.2.2))) C clJ31 (hW44.get 2 0 rfl rfl) 5 (Nat.le_of_ble_eq_true rfl) rfl q1825 rfl rfl dJ6_deleteEntry_180 ?_
      refine kn_iconst (a := 1) C (by decide) dJ6_deleteEntry_183 ?_
      refine kn_icmp_ne (tgt := 192) C (tcol_lt _) (by decide) dJ6_deleteEntry_184 (by decide) (fun c184 => ?_) (fun c184 => ?_)
      · refine lv_aload_n C.hx C.hb dJ6_deleteEntry_192 rfl (lv_at hl45 2 rfl) ?_
        refine k_get (v := .ref x2.1) C clJ31 (hW44.get 2 0 rfl rfl) 4 (Nat.le_of_ble_eq_true rfl) rfl q1823 rfl rfl dJ6_deleteEntry_193 ?_
        refine lv_ifnull C.hx C.hb dJ6_deleteEntry_196 ?_
        refine lv_aload_n C.hx C.hb dJ6_deleteEntry_199 rfl (lv_at hl45 2 rfl) ?_
        refine lv_aload_n C.hx C.hb dJ6_deleteEntry_200 rfl (lv_at hl45 2 rfl) ?_
        refine k_get (v := .ref x2.1) C clJ31 (hW44.get 2 0 rfl rfl) 4 (Nat.le_of_ble_eq_true rfl) rfl q1823 rfl rfl dJ6_deleteEntry_201 ?_
        refine k_get (v := .ref x.1) C clJ31 (hW44.get 1 0 rfl rfl) 2 (Nat.le_of_ble_eq_true rfl) rfl q1820 rfl rfl dJ6_deleteEntry_204 ?_
        refine kr_acmp_ne (tgt := 221) C dJ6_deleteEntry_207 (by decide) (fun cq => absurd rfl cq) (fun cq => ?_)
        refine lv_aload_n C.hx C.hb dJ6_deleteEntry_210 rfl (lv_at hl45 2 rfl) ?_
        refine k_get (v := .ref x2.1) C clJ31 (hW44.get 2 0 rfl rfl) 4 (Nat.le_of_ble_eq_true rfl) rfl q1823 rfl rfl dJ6_deleteEntry_211 ?_
        refine lv_null C.hx C.hb dJ6_deleteEntry_214 ?_
        refine k_put (S' := [[(t, .inr (13, [.null, .null, .null, vr (rootA cx2 (some x2.1)), .int (nI (n - 1)), .int (md + (nI 1)), .null, .null, .null]))], [(x2.1, .inr (20, [.ref x2.2.1, .ref x2.2.2.2.1, .null, vr (tad o2), vr (pa cx2), .int (nI (tcol x2.2.2.2.2))]))], [(x.1, .inr (20, [.ref x.2.1, .ref x.2.2.2.1, .null, .null, .ref x2.1, .int (nI (tcol x.2.2.2.2))]))], (tw (some x2.1) o2), (cw cx2 (some x2.1))]) C clJ31 hW44 1 0 rfl rfl 2 (Nat.le_of_ble_eq_true rfl) rfl q1820 rfl (fun _ h => h) (Or.inl rfl) (fty := (.object "java/util/TreeMap$Entry")) (v := .null) (by decide +kernel) rfl rfl (Nat.le_of_ble_eq_true rfl) dJ6_deleteEntry_215 rfl (fun H46 locs46 hW46 => ?_)
        clear hW44
        refine lv_goto (tgt := 240) C.hx C.hb dJ6_deleteEntry_218 (by decide) ?_
        refine lv_aload_n C.hx C.hb dJ6_deleteEntry_240 rfl (lv_at hl45 2 rfl) ?_
        refine lv_null C.hx C.hb dJ6_deleteEntry_241 ?_
        refine k_put (S' := [[(t, .inr (13, [.null, .null, .null, vr (rootA cx2 (some x2.1)), .int (nI (n - 1)), .int (md + (nI 1)), .null, .null, .null]))], [(x2.1, .inr (20, [.ref x2.2.1, .ref x2.2.2.2.1, .null, vr (tad o2), vr (pa cx2), .int (nI (tcol x2.2.2.2.2))]))], [(x.1, .inr (20, [.ref x.2.1, .ref x.2.2.2.1, .null, .null, .null, .int (nI (tcol x.2.2.2.2))]))], (tw (some x2.1) o2), (cw cx2 (some x2.1))]) C clJ31 hW46 2 0 rfl rfl 4 (Nat.le_of_ble_eq_true rfl) rfl q1823 rfl (fun _ h => h) (Or.inl rfl) (fty := (.object "java/util/TreeMap$Entry")) (v := .null) (by decide +kernel) rfl rfl (Nat.le_of_ble_eq_true rfl) dJ6_deleteEntry_242 rfl (fun H47 locs47 hW47 => ?_)
        clear hW46
        have hW48 : Ws G A s [[(t, .inr (13, [.null, .null, .null, vr (tad (plug cx2 (.inner z2 x2 () .leaf o2))), .int (nI (n - 1)), .int (md + nI 1), .null, .null, .null]))], (tw none (plug cx2 (.inner z2 x2 () .leaf o2))), [(x.1, .inr (20, [.ref x.2.1, .ref x.2.2.2.1, .null, .null, .null, .int (nI (tcol x.2.2.2.2))]))]] H47 locs47 := hW47.perm (wperm (fun d x => by simp only [plug_ad, List.flatten_append, List.flatten_cons, List.flatten_nil, List.count_append, List.count_cons, List.count_nil, plug_ct, tw, cw, tcell, tad_n, tad_i, pa_n, pa_c, plug, recol, tcol_f, tcol_t, vr_n, vr_s, rootA]; try omega))
        clear hW47
        have hW49 : Ws G A s [[(t, .inr (13, [.null, .null, .null, vr (tad (plug cx2 (.inner z2 x2 () .leaf o2))), .int (nI (n - 1)), .int (md + nI 1), .null, .null, .null]))], (tw none (plug cx2 (.inner z2 x2 () .leaf o2)))] H47 locs47 := hW48.drop (S2 := [[(x.1, .inr (20, [.ref x.2.1, .ref x.2.2.2.1, .null, .null, .null, .int (nI (tcol x.2.2.2.2))]))]]) rfl
        clear hW48
        exact k_vret C hW49 rfl ⟨rfl, _, rfl, (by simp [plug, ink_plug, ink_nd, ink_leaf])⟩ (Nat.le_refl _) (Nat.le_refl _) dJ6_deleteEntry_245
      · refine lv_aload_n C.hx C.hb dJ6_deleteEntry_187 rfl (lv_at hl45 1 rfl) ?_
        refine lv_aload_n C.hx C.hb dJ6_deleteEntry_188 rfl (lv_at hl45 2 rfl) ?_
        have hW50 : Ws G A s [[(t, .inr (13, [.null, .null, .null, vr (rootA ((true, z2, x2, o2) :: cx2) (some x.1)), .int (nI (n - 1)), .int (md + nI 1), .null, .null, .null]))], (tw none (plug ((true, z2, x2, o2) :: cx2) (.inner z x () .leaf .leaf)))] H44 locs44 := hW44.perm (wperm (fun d x => by simp only [plug, List.flatten_append, List.flatten_cons, List.flatten_nil, List.count_append, List.count_cons, List.count_nil, plug_ct, tw, cw, tcell, tad_n, tad_i, pa_n, pa_c, plug, recol, tcol_f, tcol_t, vr_n, vr_s, rootA]; try omega))
        clear hW44
        refine k_callV (Sc := [[(t, .inr (13, [.null, .null, .null, vr (rootA ((true, z2, x2, o2) :: cx2) (some x.1)), .int (nI (n - 1)), .int (md + nI 1), .null, .null, .null]))], (tw none (plug ((true, z2, x2, o2) :: cx2) (.inner z x () .leaf .leaf)))]) (Sr := []) (As := [.ref x.1]) (rest := []) C (ctJ6_fixAfterDeletion l G t (n - 1) z (md + nI 1) ((true, z2, x2, o2) :: cx2) x .leaf .leaf ⟨rfl, hal2⟩) hW50 clJ6 (hW50.get 0 0 rfl rfl) q1530 q1532 qs17 q79 q1533 rfl rfl ⟨by decide, by decide, Eq.trans (b := some 1) (by decide +kernel) rfl⟩ (Nat.le_of_ble_eq_true rfl) (Nat.le_of_ble_eq_true rfl) (Nat.le_refl _) (Nat.le_refl _) hl45.1 rfl (Nat.le_of_ble_eq_true rfl) dJ6_deleteEntry_189 ((pick_perm [[(t, .inr (13, [.null, .null, .null, vr (rootA ((true, z2, x2, o2) :: cx2) (some x.1)), .int (nI (n - 1)), .int (md + nI 1), .null, .null, .null]))], (tw none (plug ((true, z2, x2, o2) :: cx2) (.inner z x () .leaf .leaf)))] 2 rfl (is := [0, 1]) (by decide)).flatten.symm) (fun _ h => h.elim) (fun v H51 locs51 S1 hQ hz51 hW51 => ?_)
        obtain ⟨rfl, T, rfl, hink, cy, z9, x9, hcy, hx9, hT9⟩ := hQ
        have hW51 : Ws G A s ([[(t, .inr (13, [.null, .null, .null, vr (tad T), .int (nI (n - 1)), .int (md + nI 1), .null, .null, .null]))], (tw none T)]) H51 locs51 := hW51
        clear hW50
        refine W.eq (g2 := F0 m 192 ls45 []) rfl ?_
        subst hT9
        have hxa : x9.1 = x.1 := congrArg (fun q => q.1) hx9
        rcases cy with _ | ⟨⟨d3, z3, x3, o3⟩, cy3⟩
        · exfalso
          have h8 := congrArg List.length hink
          simp [plug, ink_plug, ink_nd, ink_leaf] at h8
          omega
        obtain ⟨hd3, hcy3⟩ := hcy
        subst hd3
        have hW52 : Ws G A s [[(t, .inr (13, [.null, .null, .null, vr (rootA cy3 (some x3.1)), .int (nI (n - 1)), .int (md + nI 1), .null, .null, .null]))], [(x3.1, .inr (20, [.ref x3.2.1, .ref x3.2.2.2.1, .ref x9.1, vr (tad o3), vr (pa cy3), .int (nI (tcol x3.2.2.2.2))]))], [(x9.1, .inr (20, [.ref x9.2.1, .ref x9.2.2.2.1, .null, .null, .ref x3.1, .int (nI (tcol x9.2.2.2.2))]))], (tw (some x3.1) o3), (cw cy3 (some x3.1))] H51 locs51 := hW51.perm (wperm (fun d x => by simp only [plug_ad, List.flatten_append, List.flatten_cons, List.flatten_nil, List.count_append, List.count_cons, List.count_nil, plug_ct, tw, cw, tcell, tad_n, tad_i, pa_n, pa_c, plug, recol, tcol_f, tcol_t, vr_n, vr_s, rootA]; try omega))
        clear hW51
        have hW53 : Ws G A s [[(t, .inr (13, [.null, .null, .null, vr (rootA cy3 (some x3.1)), .int (nI (n - 1)), .int (md + nI 1), .null, .null, .null]))], [(x3.1, .inr (20, [.ref x3.2.1, .ref x3.2.2.2.1, .ref x.1, vr (tad o3), vr (pa cy3), .int (nI (tcol x3.2.2.2.2))]))], [(x.1, .inr (20, [.ref x9.2.1, .ref x9.2.2.2.1, .null, .null, .ref x3.1, .int (nI (tcol x9.2.2.2.2))]))], (tw (some x3.1) o3), (cw cy3 (some x3.1))] H51 locs51 := by rw [← hxa]; exact hW52
        clear hW52
        refine lv_aload_n C.hx C.hb dJ6_deleteEntry_192 rfl (lv_at hl45 2 rfl) ?_
        refine k_get (v := .ref x3.1) C clJ31 (hW53.get 2 0 rfl rfl) 4 (Nat.le_of_ble_eq_true rfl) rfl q1823 rfl rfl dJ6_deleteEntry_193 ?_
        refine lv_ifnull C.hx C.hb dJ6_deleteEntry_196 ?_
        refine lv_aload_n C.hx C.hb dJ6_deleteEntry_199 rfl (lv_at hl45 2 rfl) ?_
        refine lv_aload_n C.hx C.hb dJ6_deleteEntry_200 rfl (lv_at hl45 2 rfl) ?_
        refine k_get (v := .ref x3.1) C clJ31 (hW53.get 2 0 rfl rfl) 4 (Nat.le_of_ble_eq_true rfl) rfl q1823 rfl rfl dJ6_deleteEntry_201 ?_
        refine k_get (v := .ref x.1) C clJ31 (hW53.get 1 0 rfl rfl) 2 (Nat.le_of_ble_eq_true rfl) rfl q1820 rfl rfl dJ6_deleteEntry_204 ?_
        refine kr_acmp_ne (tgt := 221) C dJ6_deleteEntry_207 (by decide) (fun cq => absurd rfl cq) (fun cq => ?_)
        refine lv_aload_n C.hx C.hb dJ6_deleteEntry_210 rfl (lv_at hl45 2 rfl) ?_
        refine k_get (v := .ref x3.1) C clJ31 (hW53.get 2 0 rfl rfl) 4 (Nat.le_of_ble_eq_true rfl) rfl q1823 rfl rfl dJ6_deleteEntry_211 ?_
        refine lv_null C.hx C.hb dJ6_deleteEntry_214 ?_
        refine k_put (S' := [[(t, .inr (13, [.null, .null, .null, vr (rootA cy3 (some x3.1)), .int (nI (n - 1)), .int (md + nI 1), .null, .null, .null]))], [(x3.1, .inr (20, [.ref x3.2.1, .ref x3.2.2.2.1, .null, vr (tad o3), vr (pa cy3), .int (nI (tcol x3.2.2.2.2))]))], [(x.1, .inr (20, [.ref x9.2.1, .ref x9.2.2.2.1, .null, .null, .ref x3.1, .int (nI (tcol x9.2.2.2.2))]))], (tw (some x3.1) o3), (cw cy3 (some x3.1))]) C clJ31 hW53 1 0 rfl rfl 2 (Nat.le_of_ble_eq_true rfl) rfl q1820 rfl (fun _ h => h) (Or.inl rfl) (fty := (.object "java/util/TreeMap$Entry")) (v := .null) (by decide +kernel) rfl rfl (Nat.le_of_ble_eq_true rfl) dJ6_deleteEntry_215 rfl (fun H54 locs54 hW54 => ?_)
        clear hW53
        refine lv_goto (tgt := 240) C.hx C.hb dJ6_deleteEntry_218 (by decide) ?_
        refine lv_aload_n C.hx C.hb dJ6_deleteEntry_240 rfl (lv_at hl45 2 rfl) ?_
        refine lv_null C.hx C.hb dJ6_deleteEntry_241 ?_
        refine k_put (S' := [[(t, .inr (13, [.null, .null, .null, vr (rootA cy3 (some x3.1)), .int (nI (n - 1)), .int (md + nI 1), .null, .null, .null]))], [(x3.1, .inr (20, [.ref x3.2.1, .ref x3.2.2.2.1, .null, vr (tad o3), vr (pa cy3), .int (nI (tcol x3.2.2.2.2))]))], [(x.1, .inr (20, [.ref x9.2.1, .ref x9.2.2.2.1, .null, .null, .null, .int (nI (tcol x9.2.2.2.2))]))], (tw (some x3.1) o3), (cw cy3 (some x3.1))]) C clJ31 hW54 2 0 rfl rfl 4 (Nat.le_of_ble_eq_true rfl) rfl q1823 rfl (fun _ h => h) (Or.inl rfl) (fty := (.object "java/util/TreeMap$Entry")) (v := .null) (by decide +kernel) rfl rfl (Nat.le_of_ble_eq_true rfl) dJ6_deleteEntry_242 rfl (fun H55 locs55 hW55 => ?_)
        clear hW54
        have hW56 : Ws G A s [[(t, .inr (13, [.null, .null, .null, vr (tad (plug cy3 (.inner z3 x3 () .leaf o3))), .int (nI (n - 1)), .int (md + nI 1), .null, .null, .null]))], (tw none (plug cy3 (.inner z3 x3 () .leaf o3))), [(x.1, .inr (20, [.ref x9.2.1, .ref x9.2.2.2.1, .null, .null, .null, .int (nI (tcol x9.2.2.2.2))]))]] H55 locs55 := hW55.perm (wperm (fun d x => by simp only [plug_ad, List.flatten_append, List.flatten_cons, List.flatten_nil, List.count_append, List.count_cons, List.count_nil, plug_ct, tw, cw, tcell, tad_n, tad_i, pa_n, pa_c, plug, recol, tcol_f, tcol_t, vr_n, vr_s, rootA]; try omega))
        clear hW55
        have hW57 : Ws G A s [[(t, .inr (13, [.null, .null, .null, vr (tad (plug cy3 (.inner z3 x3 () .leaf o3))), .int (nI (n - 1)), .int (md + nI 1), .null, .null, .null]))], (tw none (plug cy3 (.inner z3 x3 () .leaf o3)))] H55 locs55 := hW56.drop (S2 := [[(x.1, .inr (20, [.ref x9.2.1, .ref x9.2.2.2.1, .null, .null, .null, .int (nI (tcol x9.2.2.2.2))]))]]) rfl
        clear hW56
        exact k_vret C hW57 rfl ⟨rfl, _, rfl, (by have h8 := hink; simp only [plug, ink_plug, ink_nd, ink_leaf, ctxL_allL hcy3, ctxL_allL hal2, List.map_nil, List.nil_append, List.cons_append, hx9] at h8 ⊢; exact (List.cons.inj h8).2)⟩ (Nat.le_refl _) (Nat.le_refl _) dJ6_deleteEntry_245

def Q_ctJ6_remove_0 (G : GT) (t q1 i n : Nat) (md : Int32) (T0 : TT) : Option Value → List va_W → Prop := fun v S1 => v = some .null ∧ S1 = [[(t, .inr (13, [.null, .null, .null, vr (tad T0), .int (nI n), .int md, .null, .null, .null]))], (tw none T0)]
set_option maxHeartbeats 4000000 in
set_option maxRecDepth 100000 in
theorem ctJ6_remove_0 (l : Launch) (G : GT) (t q1 i n : Nat) (md : Int32) (T0 : TT) (hi : i < 2 ^ 31) (hk : ∀ x ∈ inord T0, x.2.2.1 < 2 ^ 31) (hf : tfind T0 i = none) : Ct l G yJ6_remove cJ6_remove 4 (some (.object "java/lang/Object")) 4 87 0 0 [.ref t, .ref q1] ([[(t, .inr (13, [.null, .null, .null, vr (tad T0), .int (nI n), .int md, .null, .null, .null]))], (tw none T0)]) ((fun z => z = .inl (q1, .inr (16, [.int (nI i)])) ∨ ∃ x ∈ inord T0, z = .inl (x.2.1, .inr (16, [.int (nI x.2.2.1)])))) (Q_ctJ6_remove_0 G t q1 i n md T0) := by
  refine Ct.of (by decide +kernel) (Nat.le_of_ble_eq_true rfl) ?_
  intro p e s m below meth c A ls C hW hRo hl
  have hl : lv_has ls 4 [(0, .ref t), (1, .ref q1)] := hl
  refine lv_aload_n C.hx C.hb dJ6_remove_0 rfl (lv_at hl 0 rfl) ?_
  refine lv_aload_n C.hx C.hb dJ6_remove_1 rfl (lv_at hl 1 rfl) ?_
  refine k_callV (Sc := []) (Sr := [[(t, .inr (13, [.null, .null, .null, vr (tad T0), .int (nI n), .int md, .null, .null, .null]))], (tw none T0)]) (As := [.ref q1]) (rest := []) C (ctJ6_getEntry l G t q1 i n md T0 hi hk) hW clJ6 (hW.get 0 0 rfl rfl) q1312 q1313 q1314 q79 q1315 rfl rfl ⟨by decide, by decide, Eq.trans (b := some 1) (by decide +kernel) rfl⟩ (Nat.le_of_ble_eq_true rfl) (Nat.le_of_ble_eq_true rfl) (Nat.le_refl _) (Nat.le_refl _) hl.1 rfl (Nat.le_of_ble_eq_true rfl) dJ6_remove_2 (k_permR _) (fun z => (fun hz => hz.elim (fun e => by cases e; exact Or.inl ⟨_, rfl, seg_mem (i := 0) (j := 0) rfl rfl⟩) (fun hz => hz.elim (fun e => by cases e; exact Or.inr (Or.inr (hRo _ (Or.inl rfl)))) (fun hz => hz.elim (fun h => by obtain ⟨y9, hy, e⟩ := h; cases e; exact Or.inl ⟨_, rfl, seg_memP (i := 1) rfl hy⟩) (fun h => Or.inr (Or.inr (hRo _ (Or.inr h)))))))) (fun v H1 locs1 S1 hQ hz1 hW1 => ?_)
  unfold Q_ctJ6_getEntry at hQ
  rw [show tfind T0 i = none from hf] at hQ
  obtain ⟨rfl, rfl⟩ := hQ
  have hW1 : Ws G A s ([[(t, .inr (13, [.null, .null, .null, vr (tad T0), .int (nI n), .int md, .null, .null, .null]))], (tw none T0)]) H1 locs1 := hW1
  clear hW
  refine W.eq (g2 := F0 m 5 ls [.null]) rfl ?_
  refine lv_astore_nN (lv' := [(2, .null), (0, .ref t), (1, .ref q1)]) C.hx C.hb dJ6_remove_5 rfl hl (Nat.le_of_ble_eq_true rfl) rfl (fun ls2 hl2 => ?_)
  clear hl
  refine lv_aload_nN C.hx C.hb dJ6_remove_6 rfl (lv_at hl2 0 rfl) ?_
  refine lv_ifnonnullN C.hx C.hb dJ6_remove_7 ?_
  refine lv_null C.hx C.hb dJ6_remove_10 ?_
  exact k_aret C hW1 rfl (Or.inl ⟨_, rfl⟩) (Or.inl rfl) ⟨rfl, rfl⟩ (Nat.le_refl _) (Nat.le_refl _) dJ6_remove_11

def Q_ctJ6_remove_1 (G : GT) (t q1 i n : Nat) (md : Int32) (T0 : TT) (x1 : TN) (B : List TN) : Option Value → List va_W → Prop := fun v S1 => v = some (.ref x1.2.2.2.1) ∧ ∃ T : TT, S1 = [[(t, .inr (13, [.null, .null, .null, vr (tad T), .int (nI (n - 1)), .int (md + 1), .null, .null, .null]))], (tw none T)] ∧ ink T = B.map nk
set_option maxHeartbeats 4000000 in
set_option maxRecDepth 100000 in
theorem ctJ6_remove_1 (l : Launch) (G : GT) (t q1 i n : Nat) (md : Int32) (T0 : TT) (x1 : TN) (B : List TN) (hi : i < 2 ^ 31) (hk : ∀ x ∈ inord T0, x.2.2.1 < 2 ^ 31) (hf : tfind T0 i = some x1) (hfst : inord T0 = x1 :: B) (hn : 0 < n) : Ct l G yJ6_remove cJ6_remove 4 (some (.object "java/lang/Object")) 4 87 0 0 [.ref t, .ref q1] ([[(t, .inr (13, [.null, .null, .null, vr (tad T0), .int (nI n), .int md, .null, .null, .null]))], (tw none T0)]) ((fun z => z = .inl (q1, .inr (16, [.int (nI i)])) ∨ ∃ x ∈ inord T0, z = .inl (x.2.1, .inr (16, [.int (nI x.2.2.1)])))) (Q_ctJ6_remove_1 G t q1 i n md T0 x1 B) := by
  refine Ct.of (by decide +kernel) (Nat.le_of_ble_eq_true rfl) ?_
  intro p e s m below meth c A ls C hW hRo hl
  have hl : lv_has ls 4 [(0, .ref t), (1, .ref q1)] := hl
  refine lv_aload_n C.hx C.hb dJ6_remove_0 rfl (lv_at hl 0 rfl) ?_
  refine lv_aload_n C.hx C.hb dJ6_remove_1 rfl (lv_at hl 1 rfl) ?_
  refine k_callV (Sc := []) (Sr := [[(t, .inr (13, [.null, .null, .null, vr (tad T0), .int (nI n), .int md, .null, .null, .null]))], (tw none T0)]) (As := [.ref q1]) (rest := []) C (ctJ6_getEntry l G t q1 i n md T0 hi hk) hW clJ6 (hW.get 0 0 rfl rfl) q1312 q1313 q1314 q79 q1315 rfl rfl ⟨by decide, by decide, Eq.trans (b := some 1) (by decide +kernel) rfl⟩ (Nat.le_of_ble_eq_true rfl) (Nat.le_of_ble_eq_true rfl) (Nat.le_refl _) (Nat.le_refl _) hl.1 rfl (Nat.le_of_ble_eq_true rfl) dJ6_remove_2 (k_permR _) (fun z => (fun hz => hz.elim (fun e => by cases e; exact Or.inl ⟨_, rfl, seg_mem (i := 0) (j := 0) rfl rfl⟩) (fun hz => hz.elim (fun e => by cases e; exact Or.inr (Or.inr (hRo _ (Or.inl rfl)))) (fun hz => hz.elim (fun h => by obtain ⟨y9, hy, e⟩ := h; cases e; exact Or.inl ⟨_, rfl, seg_memP (i := 1) rfl hy⟩) (fun h => Or.inr (Or.inr (hRo _ (Or.inr h)))))))) (fun v H1 locs1 S1 hQ hz1 hW1 => ?_)
  unfold Q_ctJ6_getEntry at hQ
  rw [show tfind T0 i = some x1 from hf] at hQ
  obtain ⟨rfl, rfl⟩ := hQ
  have hW1 : Ws G A s ([[(t, .inr (13, [.null, .null, .null, vr (tad T0), .int (nI n), .int md, .null, .null, .null]))], (tw none T0)]) H1 locs1 := hW1
  clear hW
  refine W.eq (g2 := F0 m 5 ls [.ref x1.1]) rfl ?_
  refine lv_astore_n (lv' := [(2, .ref x1.1), (0, .ref t), (1, .ref q1)]) C.hx C.hb dJ6_remove_5 rfl hl (Nat.le_of_ble_eq_true rfl) rfl (fun ls2 hl2 => ?_)
  clear hl
  refine lv_aload_n C.hx C.hb dJ6_remove_6 rfl (lv_at hl2 0 rfl) ?_
  refine lv_ifnonnull (tgt := 12) C.hx C.hb dJ6_remove_7 (by decide) ?_
  obtain ⟨cx, z, r, hal, hT⟩ := first_spine T0 hfst
  have hW3 : Ws G A s [[(t, .inr (13, [.null, .null, .null, vr (rootA cx (some x1.1)), .int (nI n), .int md, .null, .null, .null]))], (tw none (plug cx (.inner z x1 () .leaf r)))] H1 locs1 := by
    have h9 := hW1
    rw [hT, plug_ad] at h9
    exact h9
  clear hW1
  refine lv_aload_n C.hx C.hb dJ6_remove_12 rfl (lv_at hl2 0 rfl) ?_
  refine k_get (v := .ref x1.2.2.2.1) C clJ31 (hW3.mem (seg_memP (i := 1) rfl (cell_plug cx z x1 () .leaf r))) 1 (Nat.le_of_ble_eq_true rfl) rfl q1819 rfl rfl dJ6_remove_13 ?_
  refine lv_astore_n (lv' := [(3, .ref x1.2.2.2.1), (2, .ref x1.1), (0, .ref t), (1, .ref q1)]) C.hx C.hb dJ6_remove_16 rfl hl2 (Nat.le_of_ble_eq_true rfl) rfl (fun ls4 hl4 => ?_)
  clear hl2
  refine lv_aload_n C.hx C.hb dJ6_remove_17 rfl (lv_at hl4 2 rfl) ?_
  refine lv_aload_n C.hx C.hb dJ6_remove_18 rfl (lv_at hl4 1 rfl) ?_
  refine k_callV (Sc := [[(t, .inr (13, [.null, .null, .null, vr (rootA cx (some x1.1)), .int (nI n), .int md, .null, .null, .null]))], (tw none (plug cx (.inner z x1 () .leaf r)))]) (Sr := []) (As := [.ref x1.1]) (rest := []) C (ctJ6_deleteEntry l G t n z md cx x1 r hal hn) hW3 clJ6 (hW3.get 0 0 rfl rfl) q1523 q1525 qs16 q79 q1526 rfl rfl ⟨by decide, by decide, Eq.trans (b := some 1) (by decide +kernel) rfl⟩ (Nat.le_of_ble_eq_true rfl) (Nat.le_of_ble_eq_true rfl) (Nat.le_refl _) (Nat.le_refl _) hl4.1 rfl (Nat.le_of_ble_eq_true rfl) dJ6_remove_19 ((pick_perm [[(t, .inr (13, [.null, .null, .null, vr (rootA cx (some x1.1)), .int (nI n), .int md, .null, .null, .null]))], (tw none (plug cx (.inner z x1 () .leaf r)))] 2 rfl (is := [0, 1]) (by decide)).flatten.symm) (fun _ h => h.elim) (fun v H5 locs5 S1 hQ hz5 hW5 => ?_)
  obtain ⟨rfl, T, rfl, hink⟩ := hQ
  have hW5 : Ws G A s ([[(t, .inr (13, [.null, .null, .null, vr (tad T), .int (nI (n - 1)), .int (md + 1), .null, .null, .null]))], (tw none T)]) H5 locs5 := hW5
  clear hW3
  refine W.eq (g2 := F0 m 22 ls4 []) rfl ?_
  refine lv_aload_n C.hx C.hb dJ6_remove_22 rfl (lv_at hl4 0 rfl) ?_
  exact k_aret C hW5 rfl (Or.inl ⟨_, rfl⟩) (Or.inr ⟨_, rfl⟩) ⟨rfl, T, rfl, (by have h8 := hfst; rw [hT, inord_plug, ctxL_allL hal] at h8; rw [hink, ink_plug, ctxL_allL hal]; have h7 : inord r ++ ctxR cx = B := (List.cons.inj h8).2; rw [← h7]; simp [ink])⟩ (Nat.le_refl _) (Nat.le_refl _) dJ6_remove_23

