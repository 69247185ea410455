theorem ctJ4_sub (l : Launch) (G : GT) (h n cp : Nat) (hC : cp < 2 ^ 26) (hn : n < cp) (hh : h < cp) : Ct l G yJ4_sub cJ4_sub 3 (some .int) 0 0 0 0 [.int (nI ((h + n) % cp)), .int (nI h), .int (nI cp)] [] noR (fun v S1 => v = some (.int (nI n)) ∧ S1 = []) := by
  rcases Nat.lt_or_ge (h + n) cp with q | q
  · rw [Nat.mod_eq_of_lt q]; exact ctJ4_sub_a l G h n cp hC q
  · rw [Nat.mod_eq_sub_mod q, Nat.mod_eq_of_lt (by omega)]; exact ctJ4_sub_b l G h n cp hC hn hh q
def Q_ctJ4_size (G : GT) (q es cp h n : Nat) (f : Nat → Option Nat) : Option Value → List va_W → Prop := fun v S1 => v = some (.int (nI n)) ∧ S1 = []
set_option maxHeartbeats 4000000 in
set_option maxRecDepth 100000 in
theorem ctJ4_size (l : Launch) (G : GT) (q es cp h n : Nat) (f : Nat → Option Nat) (hh : h < cp) (hC : cp < 2 ^ 26) (hr : n < cp) : Ct l G yJ4_size cJ4_size 1 (some .int) 1 22 0 0 [.ref q] ([]) ((fun z => z = .inl (q, .inr (12, [.ref es, .int (nI h), .int (nI ((h + n) % cp))])) ∨ z = .inl (es, .inl (G.2.2.1 4, cp, .inr (.inr (.inr (.inr f))))))) (Q_ctJ4_size G q es cp h n f) := by
  refine Ct.of (by decide +kernel) (Nat.le_of_ble_eq_true rfl) ?_
  intro p e s m below meth c A ls C hW hRo hl
  have hl : lv_has ls 1 [(0, .ref q)] := hl
  refine lv_aload_n C.hx C.hb dJ4_size_0 rfl (lv_at hl 0 rfl) ?_
  refine k_get (v := .int (nI ((h + n) % cp))) C clJ4 ((hRo _ (Or.inl rfl)).at hW) 2 (Nat.le_of_ble_eq_true rfl) rfl q206 rfl rfl dJ4_size_1 ?_
  refine lv_aload_n C.hx C.hb dJ4_size_4 rfl (lv_at hl 0 rfl) ?_
  refine k_get (v := .int (nI h)) C clJ4 ((hRo _ (Or.inl rfl)).at hW) 1 (Nat.le_of_ble_eq_true rfl) rfl q205 rfl rfl dJ4_size_5 ?_
  refine lv_aload_n C.hx C.hb dJ4_size_8 rfl (lv_at hl 0 rfl) ?_
  refine k_get (v := .ref es) C clJ4 ((hRo _ (Or.inl rfl)).at hW) 0 (Nat.le_of_ble_eq_true rfl) rfl q202 rfl rfl dJ4_size_9 ?_
  refine k_alen C 4 rfl ((hRo _ (Or.inr rfl)).at hW) dJ4_size_12 ?_
  refine k_callS (Sc := []) (Sr := []) (As := [.int (nI ((h + n) % cp)), .int (nI h), .int (nI cp)]) (rest := []) C (ctJ4_sub l G h n cp hC hr hh) hW q1567 q1568 q77 q1569 rfl ⟨by decide, by decide, Eq.trans (b := some 3) (by decide +kernel) rfl⟩ (Nat.le_of_ble_eq_true rfl) (Nat.le_of_ble_eq_true rfl) (Nat.le_refl _) (Nat.le_refl _) hl.1 rfl (Nat.le_of_ble_eq_true rfl) dJ4_size_13 (k_permR _) (fun _ h => h.elim) (fun v H1 locs1 S1 hQ hz1 hW1 => ?_)
  obtain ⟨rfl, rfl⟩ := hQ
  have hW1 : Ws G A s ([]) H1 locs1 := hW1
  clear hW
  refine W.eq (g2 := F0 m 16 ls [.int (nI n)]) rfl ?_
  exact k_iret C hW1 rfl ⟨rfl, rfl⟩ (Nat.le_refl _) (Nat.le_refl _) dJ4_size_16

def Q_ctJ38_init (G : GT) (it q es cp h n : Nat) (f : Nat → Option Nat) : Option Value → List va_W → Prop := fun v S1 => v = none ∧ S1 = [[(it, .inr (23, [.int (nI h), .int (nI n), .int (nI NONE), .ref q]))]]
set_option maxHeartbeats 4000000 in
set_option maxRecDepth 100000 in
theorem ctJ38_init (l : Launch) (G : GT) (it q es cp h n : Nat) (f : Nat → Option Nat) (hh : h < cp) (hC : cp < 2 ^ 26) (hr : n < cp) : Ct l G yJ38_init cJ38_init 2 none 2 42 0 0 [.ref it, .ref q] ([[(it, .inr (23, [.int 0, .int 0, .int 0, .null]))]]) ((fun z => z = .inl (q, .inr (12, [.ref es, .int (nI h), .int (nI ((h + n) % cp))])) ∨ z = .inl (es, .inl (G.2.2.1 4, cp, .inr (.inr (.inr (.inr f))))))) (Q_ctJ38_init G it q es cp h n f) := by
  refine Ct.of (by decide +kernel) (Nat.le_of_ble_eq_true rfl) ?_
  intro p e s m below meth c A ls C hW hRo hl
  have hl : lv_has ls 2 [(0, .ref it), (1, .ref q)] := hl
  refine lv_aload_n C.hx C.hb dJ38_init_0 rfl (lv_at hl 0 rfl) ?_
  refine lv_aload_n C.hx C.hb dJ38_init_1 rfl (lv_at hl 1 rfl) ?_
  refine k_put (S' := [[(it, .inr (23, [.int 0, .int 0, .int 0, .ref q]))]]) C clJ38 hW 0 0 rfl rfl 3 (Nat.le_of_ble_eq_true rfl) rfl q2141 rfl (fun _ h => h) (Or.inr ⟨rfl, rfl⟩) (fty := (.object "java/util/ArrayDeque")) (v := .ref q) (by decide +kernel) rfl rfl (Nat.le_of_ble_eq_true rfl) dJ38_init_2 rfl (fun H1 locs1 hW1 => ?_)
  clear hW
  refine lv_aload_n C.hx C.hb dJ38_init_5 rfl (lv_at hl 0 rfl) ?_
  refine W.objInit C.hx C.hb C.hown (C.hts _ q2136) (C.hts _ q133) (C.hts _ q134) rfl (by rw [C.hml]; exact hl.1) rfl dJ38_init_6 (Nat.le_of_ble_eq_true rfl) (Nat.le_of_ble_eq_true rfl) ?_
  refine W.eq (g2 := F0 m 9 ls []) rfl ?_
  refine lv_aload_n C.hx C.hb dJ38_init_9 rfl (lv_at hl 0 rfl) ?_
  refine lv_aload_n C.hx C.hb dJ38_init_10 rfl (lv_at hl 0 rfl) ?_
  refine k_get (v := .ref q) C clJ38 (hW1.get 0 0 rfl rfl) 3 (Nat.le_of_ble_eq_true rfl) rfl q2141 rfl rfl dJ38_init_11 ?_
  refine k_callV (Sc := []) (Sr := [[(it, .inr (23, [.int 0, .int 0, .int 0, .ref q]))]]) (As := []) (rest := [.ref it]) C (ctJ4_size l G q es cp h n f hh hC hr) hW1 clJ4 ((hRo _ (Or.inl rfl)).at hW1) q2137 q1565 q2673 q77 q1566 rfl rfl ⟨by decide, by decide, Eq.trans (b := some 0) (by decide +kernel) rfl⟩ (Nat.le_of_ble_eq_true rfl) (Nat.le_of_ble_eq_true rfl) (Nat.le_refl _) (Nat.le_refl _) hl.1 rfl (Nat.le_of_ble_eq_true rfl) dJ38_init_14 (k_permR _) (fun z => (fun hz => hz.elim (fun e => by cases e; exact Or.inr (Or.inr (hRo _ (Or.inl rfl)))) (fun e => by cases e; exact Or.inr (Or.inr (hRo _ (Or.inr rfl)))))) (fun v H2 locs2 S1 hQ hz2 hW2 => ?_)
  obtain ⟨rfl, rfl⟩ := hQ
  have hW2 : Ws G A s ([[(it, .inr (23, [.int 0, .int 0, .int 0, .ref q]))]]) H2 locs2 := hW2
  clear hW1
  refine W.eq (g2 := F0 m 17 ls [.int (nI n), .ref it]) rfl ?_
  refine k_put (S' := [[(it, .inr (23, [.int 0, .int (nI n), .int 0, .ref q]))]]) C clJ38 hW2 0 0 rfl rfl 1 (Nat.le_of_ble_eq_true rfl) rfl q2139 rfl (fun _ h => h) (Or.inr ⟨rfl, rfl⟩) (fty := .int) (v := .int (nI n)) (by decide +kernel) rfl rfl (Nat.le_of_ble_eq_true rfl) dJ38_init_17 rfl (fun H3 locs3 hW3 => ?_)
  clear hW2
  refine lv_aload_n C.hx C.hb dJ38_init_20 rfl (lv_at hl 0 rfl) ?_
  refine lv_iconst (v := nI NONE) C.hx C.hb dJ38_init_21 (by decide) ?_
  refine k_put (S' := [[(it, .inr (23, [.int 0, .int (nI n), .int (nI NONE), .ref q]))]]) C clJ38 hW3 0 0 rfl rfl 2 (Nat.le_of_ble_eq_true rfl) rfl q2140 rfl (fun _ h => h) (Or.inr ⟨rfl, rfl⟩) (fty := .int) (v := .int (nI NONE)) (by decide +kernel) rfl rfl (Nat.le_of_ble_eq_true rfl) dJ38_init_22 rfl (fun H4 locs4 hW4 => ?_)
  clear hW3
  refine lv_aload_n C.hx C.hb dJ38_init_25 rfl (lv_at hl 0 rfl) ?_
  refine lv_aload_n C.hx C.hb dJ38_init_26 rfl (lv_at hl 1 rfl) ?_
  refine k_get (v := .int (nI h)) C clJ4 ((hRo _ (Or.inl rfl)).at hW4) 1 (Nat.le_of_ble_eq_true rfl) rfl q204 rfl rfl dJ38_init_27 ?_
  refine k_put (S' := [[(it, .inr (23, [.int (nI h), .int (nI n), .int (nI NONE), .ref q]))]]) C clJ38 hW4 0 0 rfl rfl 0 (Nat.le_of_ble_eq_true rfl) rfl q2138 rfl (fun _ h => h) (Or.inr ⟨rfl, rfl⟩) (fty := .int) (v := .int (nI h)) (by decide +kernel) rfl rfl (Nat.le_of_ble_eq_true rfl) dJ38_init_30 rfl (fun H5 locs5 hW5 => ?_)
  clear hW4
  exact k_vret C hW5 rfl ⟨rfl, rfl⟩ (Nat.le_refl _) (Nat.le_refl _) dJ38_init_33

def Q_ctJ4_iterator (G : GT) (q es cp h n : Nat) (f : Nat → Option Nat) : Option Value → List va_W → Prop := fun v S1 => ∃ it, v = some (.ref it) ∧ S1 = [[(it, .inr (23, [.int (nI h), .int (nI n), .int (nI NONE), .ref q]))]]
set_option maxHeartbeats 4000000 in
set_option maxRecDepth 100000 in
theorem ctJ4_iterator (l : Launch) (G : GT) (q es cp h n : Nat) (f : Nat → Option Nat) (hh : h < cp) (hC : cp < 2 ^ 26) (hr : n < cp) : Ct l G yJ4_iterator cJ4_iterator 1 (some (.object "java/util/Iterator")) 3 63 1 4 [.ref q] ([]) ((fun z => z = .inl (q, .inr (12, [.ref es, .int (nI h), .int (nI ((h + n) % cp))])) ∨ z = .inl (es, .inl (G.2.2.1 4, cp, .inr (.inr (.inr (.inr f))))))) (Q_ctJ4_iterator G q es cp h n f) := by
  refine Ct.of (by decide +kernel) (Nat.le_of_ble_eq_true rfl) ?_
  intro p e s m below meth c A ls C hW hRo hl
  have hl : lv_has ls 1 [(0, .ref q)] := hl
  refine k_new (fs := [.int 0, .int 0, .int 0, .null]) C clJ38 hW q2131 rfl q2132 q124 (fun j hj => (by have := co_dec (P := fun j => defaultValue (tyJ38 j) = vp_V [.int 0, .int 0, .int 0, .null] j) (N := 4) (by decide +kernel) hj; exact this)) (show 0 + 1 ≤ 1 by omega) (show 0 + 4 ≤ 4 by omega) dJ4_iterator_0 (fun q1 H1 hW1 => ?_)
  have hW1 : Ws G A s [[(q1, .inr (23, [.int 0, .int 0, .int 0, .null]))]] H1 [] := hW1
  clear hW
  refine lv_dup C.hx C.hb dJ4_iterator_3 rfl ?_
  refine lv_aload_n C.hx C.hb dJ4_iterator_4 rfl (lv_at hl 0 rfl) ?_
  refine k_callI (Sc := [[(q1, .inr (23, [.int 0, .int 0, .int 0, .null]))]]) (Sr := []) (As := [.ref q]) (rest := [.ref q1]) C (ctJ38_init l G q1 q es cp h n f hh hC hr) hW1 q2133 q2134 q124 q2135 rfl rfl ⟨by decide, by decide, Eq.trans (b := some 1) (by decide +kernel) rfl⟩ (Nat.le_of_ble_eq_true rfl) (Nat.le_of_ble_eq_true rfl) (show 1 + 0 ≤ 1 by omega) (show 4 + 0 ≤ 4 by omega) hl.1 rfl (Nat.le_of_ble_eq_true rfl) dJ4_iterator_5 ((pick_perm [[(q1, .inr (23, [.int 0, .int 0, .int 0, .null]))]] 1 rfl (is := [0]) (by decide)).flatten.symm) (fun z => (fun hz => hz.elim (fun e => by cases e; exact Or.inr (Or.inr (hRo _ (Or.inl rfl)))) (fun e => by cases e; exact Or.inr (Or.inr (hRo _ (Or.inr rfl)))))) (fun v H2 locs2 S1 hQ hz2 hW2 => ?_)
  obtain ⟨rfl, rfl⟩ := hQ
  have hW2 : Ws G A s ([[(q1, .inr (23, [.int (nI h), .int (nI n), .int (nI NONE), .ref q]))]]) H2 locs2 := hW2
  clear hW1
  refine W.eq (g2 := F0 m 8 ls [.ref q1]) rfl ?_
  exact k_aret C hW2 rfl (Or.inl ⟨_, rfl⟩) (Or.inr ⟨_, rfl⟩) ⟨_, rfl, rfl⟩ (by omega) (by omega) dJ4_iterator_8

def Q_ctJ38_hasNext (G : GT) (it q cur rem lr : Nat) : Option Value → List va_W → Prop := fun v S1 => v = some (.int (b01 (0 < rem))) ∧ S1 = [[(it, .inr (23, [.int (nI cur), .int (nI rem), .int (nI lr), .ref q]))]]
set_option maxHeartbeats 4000000 in
set_option maxRecDepth 100000 in
theorem ctJ38_hasNext (l : Launch) (G : GT) (it q cur rem lr : Nat) (hm : rem < 2 ^ 26) : Ct l G yJ38_hasNext cJ38_hasNext 1 (some .boolean) 0 0 0 0 [.ref it] ([[(it, .inr (23, [.int (nI cur), .int (nI rem), .int (nI lr), .ref q]))]]) noR (Q_ctJ38_hasNext G it q cur rem lr) := by
  refine Ct.of (by decide +kernel) (Nat.le_of_ble_eq_true rfl) ?_
  intro p e s m below meth c A ls C hW hRo hl
  have hl : lv_has ls 1 [(0, .ref it)] := hl
  refine lv_aload_n C.hx C.hb dJ38_hasNext_0 rfl (lv_at hl 0 rfl) ?_
  refine k_get (v := .int (nI rem)) C clJ38 (hW.get 0 0 rfl rfl) 1 (Nat.le_of_ble_eq_true rfl) rfl q2139 rfl rfl dJ38_hasNext_1 ?_
  refine kn_if_le (tgt := 11) C (by omega) dJ38_hasNext_4 (by decide) (fun c4 => ?_) (fun c4 => ?_)
  · refine kn_iconst (a := 0) C (by decide) dJ38_hasNext_11 ?_
    exact k_zret C hW rfl (by decide) ⟨by simp [b01, c4]; rfl, rfl⟩ (Nat.le_refl _) (Nat.le_refl _) dJ38_hasNext_12
  · refine kn_iconst (a := 1) C (by decide) dJ38_hasNext_7 ?_
    refine lv_goto (tgt := 12) C.hx C.hb dJ38_hasNext_8 (by decide) ?_
    exact k_zret C hW rfl (by decide) ⟨by simp [b01, c4]; rfl, rfl⟩ (Nat.le_refl _) (Nat.le_refl _) dJ38_hasNext_12

def Q_ctJ38_next (G : GT) (it q es cp h t cur rem lr x : Nat) (f : Nat → Option Nat) : Option Value → List va_W → Prop := fun v S1 => v = some (.ref x) ∧ S1 = [[(it, .inr (23, [.int (nI ((cur + 1) % cp)), .int (nI rem), .int (nI cur), .ref q]))]]
set_option maxHeartbeats 4000000 in
set_option maxRecDepth 100000 in
theorem ctJ38_next (l : Launch) (G : GT) (it q es cp h t cur rem lr x : Nat) (f : Nat → Option Nat) (hm : rem < 2 ^ 25) (hh : cur < cp) (hC : cp < 2 ^ 26) (hx : f cur = some x) : Ct l G yJ38_next cJ38_next 3 (some (.object "java/lang/Object")) 1 22 0 0 [.ref it] ([[(it, .inr (23, [.int (nI cur), .int (nI (rem + 1)), .int (nI lr), .ref q]))]]) ((fun z => z = .inl (q, .inr (12, [.ref es, .int (nI h), .int (nI t)])) ∨ z = .inl (es, .inl (G.2.2.1 4, cp, .inr (.inr (.inr (.inr f))))))) (Q_ctJ38_next G it q es cp h t cur rem lr x f) := by
  refine Ct.of (by decide +kernel) (Nat.le_of_ble_eq_true rfl) ?_
  intro p e s m below meth c A ls C hW hRo hl
  have hl : lv_has ls 3 [(0, .ref it)] := hl
  refine lv_aload_n C.hx C.hb dJ38_next_0 rfl (lv_at hl 0 rfl) ?_
  refine k_get (v := .int (nI (rem + 1))) C clJ38 (hW.get 0 0 rfl rfl) 1 (Nat.le_of_ble_eq_true rfl) rfl q2139 rfl rfl dJ38_next_1 ?_
  refine kn_if_gt (tgt := 15) C (by omega) dJ38_next_4 (by decide) (fun c4 => ?_) (fun c4 => (absurd c4 (by omega)))
  refine lv_aload_n C.hx C.hb dJ38_next_15 rfl (lv_at hl 0 rfl) ?_
  refine k_get (v := .ref q) C clJ38 (hW.get 0 0 rfl rfl) 3 (Nat.le_of_ble_eq_true rfl) rfl q2141 rfl rfl dJ38_next_16 ?_
  refine k_get (v := .ref es) C clJ4 ((hRo _ (Or.inl rfl)).at hW) 0 (Nat.le_of_ble_eq_true rfl) rfl q203 rfl rfl dJ38_next_19 ?_
  refine lv_astore_n (lv' := [(1, .ref es), (0, .ref it)]) C.hx C.hb dJ38_next_22 rfl hl (Nat.le_of_ble_eq_true rfl) rfl (fun ls1 hl1 => ?_)
  clear hl
  refine lv_aload_n C.hx C.hb dJ38_next_23 rfl (lv_at hl1 0 rfl) ?_
  refine lv_aload_n C.hx C.hb dJ38_next_24 rfl (lv_at hl1 1 rfl) ?_
  refine k_get (v := .int (nI cur)) C clJ38 (hW.get 0 0 rfl rfl) 0 (Nat.le_of_ble_eq_true rfl) rfl q2138 rfl rfl dJ38_next_25 ?_
  refine k_callS (Sc := []) (Sr := [[(it, .inr (23, [.int (nI cur), .int (nI (rem + 1)), .int (nI lr), .ref q]))]]) (As := [.ref es, .int (nI cur)]) (rest := []) C (ctJ4_nonNullElementAt l G es cp cur x f hh hC hx) hW q1011 q1012 q77 q1013 rfl ⟨by decide, by decide, Eq.trans (b := some 2) (by decide +kernel) rfl⟩ (Nat.le_of_ble_eq_true rfl) (Nat.le_of_ble_eq_true rfl) (Nat.le_refl _) (Nat.le_refl _) hl1.1 rfl (Nat.le_of_ble_eq_true rfl) dJ38_next_28 (k_permR _) (fun z hz => by cases hz; exact Or.inr (Or.inr (hRo _ (Or.inr rfl)))) (fun v H2 locs2 S1 hQ hz2 hW2 => ?_)
  obtain ⟨rfl, rfl⟩ := hQ
  have hW2 : Ws G A s ([[(it, .inr (23, [.int (nI cur), .int (nI (rem + 1)), .int (nI lr), .ref q]))]]) H2 locs2 := hW2
  clear hW
  refine W.eq (g2 := F0 m 31 ls1 [.ref x]) rfl ?_
  refine lv_astore_n (lv' := [(2, .ref x), (1, .ref es), (0, .ref it)]) C.hx C.hb dJ38_next_31 rfl hl1 (Nat.le_of_ble_eq_true rfl) rfl (fun ls3 hl3 => ?_)
  clear hl1
  refine lv_aload_n C.hx C.hb dJ38_next_32 rfl (lv_at hl3 2 rfl) ?_
  refine lv_aload_n C.hx C.hb dJ38_next_33 rfl (lv_at hl3 2 rfl) ?_
  refine lv_aload_n C.hx C.hb dJ38_next_34 rfl (lv_at hl3 2 rfl) ?_
  refine k_get (v := .int (nI cur)) C clJ38 (hW2.get 0 0 rfl rfl) 0 (Nat.le_of_ble_eq_true rfl) rfl q2138 rfl rfl dJ38_next_35 ?_
  refine lv_dup_x1 C.hx C.hb dJ38_next_38 rfl rfl ?_
  refine k_put (S' := [[(it, .inr (23, [.int (nI cur), .int (nI (rem + 1)), .int (nI cur), .ref q]))]]) C clJ38 hW2 0 0 rfl rfl 2 (Nat.le_of_ble_eq_true rfl) rfl q2140 rfl (fun _ h => h) (Or.inl rfl) (fty := .int) (v := .int (nI cur)) (by decide +kernel) rfl rfl (Nat.le_of_ble_eq_true rfl) dJ38_next_39 rfl (fun H4 locs4 hW4 => ?_)
  clear hW2
  refine lv_aload_n C.hx C.hb dJ38_next_42 rfl (lv_at hl3 1 rfl) ?_
  refine k_alen C 4 rfl ((hRo _ (Or.inr rfl)).at hW4) dJ38_next_43 ?_
  refine k_callS (Sc := []) (Sr := [[(it, .inr (23, [.int (nI cur), .int (nI (rem + 1)), .int (nI cur), .ref q]))]]) (As := [.int (nI cur), .int (nI cp)]) (rest := [.ref it]) C (ctJ4_inc l G cur cp hh hC) hW4 q1014 q1015 q77 q1016 rfl ⟨by decide, by decide, Eq.trans (b := some 2) (by decide +kernel) rfl⟩ (Nat.le_of_ble_eq_true rfl) (Nat.le_of_ble_eq_true rfl) (Nat.le_refl _) (Nat.le_refl _) hl3.1 rfl (Nat.le_of_ble_eq_true rfl) dJ38_next_44 (k_permR _) (fun _ h => h.elim) (fun v H5 locs5 S1 hQ hz5 hW5 => ?_)
  obtain ⟨rfl, rfl⟩ := hQ
  have hW5 : Ws G A s ([[(it, .inr (23, [.int (nI cur), .int (nI (rem + 1)), .int (nI cur), .ref q]))]]) H5 locs5 := hW5
  clear hW4
  refine W.eq (g2 := F0 m 47 ls3 [.int (nI ((cur + 1) % cp)), .ref it]) rfl ?_
  refine k_put (S' := [[(it, .inr (23, [.int (nI ((cur + 1) % cp)), .int (nI (rem + 1)), .int (nI cur), .ref q]))]]) C clJ38 hW5 0 0 rfl rfl 0 (Nat.le_of_ble_eq_true rfl) rfl q2138 rfl (fun _ h => h) (Or.inl rfl) (fty := .int) (v := .int (nI ((cur + 1) % cp))) (by decide +kernel) rfl rfl (Nat.le_of_ble_eq_true rfl) dJ38_next_47 rfl (fun H6 locs6 hW6 => ?_)
  clear hW5
  refine lv_aload_n C.hx C.hb dJ38_next_50 rfl (lv_at hl3 2 rfl) ?_
  refine lv_dup C.hx C.hb dJ38_next_51 rfl ?_
  refine k_get (v := .int (nI (rem + 1))) C clJ38 (hW6.get 0 0 rfl rfl) 1 (Nat.le_of_ble_eq_true rfl) rfl q2139 rfl rfl dJ38_next_52 ?_
  refine kn_iconst (a := 1) C (by decide) dJ38_next_55 ?_
  refine kn_isub C (by omega) dJ38_next_56 ?_
  refine k_put (S' := [[(it, .inr (23, [.int (nI ((cur + 1) % cp)), .int (nI ((rem + 1) - 1)), .int (nI cur), .ref q]))]]) C clJ38 hW6 0 0 rfl rfl 1 (Nat.le_of_ble_eq_true rfl) rfl q2139 rfl (fun _ h => h) (Or.inl rfl) (fty := .int) (v := .int (nI ((rem + 1) - 1))) (by decide +kernel) rfl rfl (Nat.le_of_ble_eq_true rfl) dJ38_next_57 rfl (fun H7 locs7 hW7 => ?_)
  clear hW6
  refine lv_aload_n C.hx C.hb dJ38_next_60 rfl (lv_at hl3 0 rfl) ?_
  exact k_aret C hW7 rfl (Or.inl ⟨_, rfl⟩) (Or.inr ⟨_, rfl⟩) ⟨rfl, by rw [show rem + 1 - 1 = rem by omega]⟩ (Nat.le_refl _) (Nat.le_refl _) dJ38_next_61
