def Q_ctJ15_init (G : GT) (q : Nat) : Option Value → List va_W → Prop := fun v S1 => v = none ∧ S1 = []
set_option maxHeartbeats 4000000 in
set_option maxRecDepth 100000 in
theorem ctJ15_init (l : Launch) (G : GT) (q : Nat)  : Ct l G yJ15_init cJ15_init 1 none 1 20 0 0 [.ref q] ([]) noR (Q_ctJ15_init G q) := by
  refine Ct.of (by decide +kernel) (Nat.le_of_ble_eq_true rfl) ?_
  intro p e s m below meth c A ls C hW hRo hl
  have hl : lv_has ls 1 [(0, .ref q)] := hl
  refine lv_aload_n C.hx C.hb dJ15_init_0 rfl (lv_at hl 0 rfl) ?_
  refine W.objInit C.hx C.hb C.hown (C.hts _ q1303) (C.hts _ q133) (C.hts _ q134) rfl (by rw [C.hml]; exact hl.1) rfl dJ15_init_1 (Nat.le_of_ble_eq_true rfl) (Nat.le_of_ble_eq_true rfl) ?_
  refine W.eq (g2 := F0 m 4 ls []) rfl ?_
  exact k_vret C hW rfl ⟨rfl, rfl⟩ (Nat.le_refl _) (Nat.le_refl _) dJ15_init_4

def Q_ctJ16_init (G : GT) (q i : Nat) : Option Value → List va_W → Prop := fun v S1 => v = none ∧ S1 = [[(q, .inr (16, [.int (nI i)]))]]
set_option maxHeartbeats 4000000 in
set_option maxRecDepth 100000 in
theorem ctJ16_init (l : Launch) (G : GT) (q i : Nat)  : Ct l G yJ16_init cJ16_init 2 none 2 40 0 0 [.ref q, .int (nI i)] ([[(q, .inr (16, [.int 0]))]]) noR (Q_ctJ16_init G q i) := by
  refine Ct.of (by decide +kernel) (Nat.le_of_ble_eq_true rfl) ?_
  intro p e s m below meth c A ls C hW hRo hl
  have hl : lv_has ls 2 [(0, .ref q), (1, .int (nI i))] := hl
  refine lv_aload_n C.hx C.hb dJ16_init_0 rfl (lv_at hl 0 rfl) ?_
  refine k_callI (Sc := []) (Sr := [[(q, .inr (16, [.int 0]))]]) (As := []) (rest := []) C (ctJ15_init l G q) hW q1300 q1301 q91 q1302 rfl rfl ⟨by decide, by decide, Eq.trans (b := some 0) (by decide +kernel) rfl⟩ (Nat.le_of_ble_eq_true rfl) (Nat.le_of_ble_eq_true rfl) (Nat.le_refl _) (Nat.le_refl _) hl.1 rfl (Nat.le_of_ble_eq_true rfl) dJ16_init_1 (k_permR _) (fun _ h => h.elim) (fun v H1 locs1 S1 hQ hz1 hW1 => ?_)
  obtain ⟨rfl, rfl⟩ := hQ
  have hW1 : Ws G A s ([[(q, .inr (16, [.int 0]))]]) H1 locs1 := hW1
  clear hW
  refine W.eq (g2 := F0 m 4 ls []) rfl ?_
  refine lv_aload_n C.hx C.hb dJ16_init_4 rfl (lv_at hl 0 rfl) ?_
  refine lv_iload_n C.hx C.hb dJ16_init_5 rfl (lv_at hl 1 rfl) ?_
  refine k_put (S' := [[(q, .inr (16, [.int (nI i)]))]]) C clJ16 hW1 0 0 rfl rfl 0 (Nat.le_of_ble_eq_true rfl) rfl q1304 rfl (fun _ h => h) (Or.inr ⟨rfl, rfl⟩) (fty := .int) (v := .int (nI i)) (by decide +kernel) rfl rfl (Nat.le_of_ble_eq_true rfl) dJ16_init_6 rfl (fun H2 locs2 hW2 => ?_)
  clear hW1
  exact k_vret C hW2 rfl ⟨rfl, rfl⟩ (Nat.le_refl _) (Nat.le_refl _) dJ16_init_9

def Q_ctJ16_intValue (G : GT) (q i : Nat) : Option Value → List va_W → Prop := fun v S1 => v = some (.int (nI i)) ∧ S1 = []
set_option maxHeartbeats 4000000 in
set_option maxRecDepth 100000 in
theorem ctJ16_intValue (l : Launch) (G : GT) (q i : Nat)  : Ct l G yJ16_intValue cJ16_intValue 1 (some .int) 0 0 0 0 [.ref q] ([]) ((fun z => z = .inl (q, .inr (16, [.int (nI i)])))) (Q_ctJ16_intValue G q i) := by
  refine Ct.of (by decide +kernel) (Nat.le_of_ble_eq_true rfl) ?_
  intro p e s m below meth c A ls C hW hRo hl
  have hl : lv_has ls 1 [(0, .ref q)] := hl
  refine lv_aload_n C.hx C.hb dJ16_intValue_0 rfl (lv_at hl 0 rfl) ?_
  refine k_get (v := .int (nI i)) C clJ16 ((hRo _ rfl).at hW) 0 (Nat.le_of_ble_eq_true rfl) rfl q1304 rfl rfl dJ16_intValue_1 ?_
  exact k_iret C hW rfl ⟨rfl, rfl⟩ (Nat.le_refl _) (Nat.le_refl _) dJ16_intValue_4

def Q_ctJ16_valueOf (G : GT) (i : Nat) : Option Value → List va_W → Prop := fun v S1 => ∃ q, v = some (.ref q) ∧ ((i ≤ 127 ∧ q = G.2.2.2 (1000 + (i + 128)) ∧ S1 = []) ∨ (127 < i ∧ S1 = [[(q, .inr (16, [.int (nI i)]))]]))
set_option maxHeartbeats 4000000 in
set_option maxRecDepth 100000 in
theorem ctJ16_valueOf (l : Launch) (G : GT) (i : Nat) (hi : i < 2 ^ 31) : Ct l G yJ16_valueOf cJ16_valueOf 1 (some (.object "java/lang/Integer")) 3 61 1 1 [.int (nI i)] ([]) noR (Q_ctJ16_valueOf G i) := by
  refine Ct.of (by decide +kernel) (Nat.le_of_ble_eq_true rfl) ?_
  intro p e s m below meth c A ls C hW hRo hl
  have hl : lv_has ls 1 [(0, .int (nI i))] := hl
  refine lv_iload_n C.hx C.hb dJ16_valueOf_0 rfl (lv_at hl 0 rfl) ?_
  refine lv_bipush (v := (-128)) C.hx C.hb dJ16_valueOf_1 (by decide) ?_
  refine lv_icmp_lt (tgt := 23) C.hx C.hb dJ16_valueOf_3 (by decide) (fun c3 => (absurd c3 (nI_m128 hi))) (fun c3 => ?_)
  refine lv_iload_n C.hx C.hb dJ16_valueOf_6 rfl (lv_at hl 0 rfl) ?_
  refine k_gets C hW (List.mem_of_getElem? (i := 2) rfl) q1291 rfl dJ16_valueOf_7 ?_
  refine kn_icmp_gt (tgt := 23) C (by omega) (by decide) dJ16_valueOf_10 (by decide) (fun c10 => ?_) (fun c10 => ?_)
  · have c10 : 127 < i := c10
    refine k_new (fs := [.int 0]) C clJ16 hW q1295 rfl q1296 q92 (fun j hj => (by have := co_dec (P := fun j => defaultValue (tyJ16 j) = vp_V [.int 0] j) (N := 1) (by decide +kernel) hj; exact this)) (show 0 + 1 ≤ 1 by omega) (show 0 + 1 ≤ 1 by omega) dJ16_valueOf_23 (fun q1 H1 hW1 => ?_)
    have hW1 : Ws G A s [[(q1, .inr (16, [.int 0]))]] H1 [] := hW1
    clear hW
    refine lv_dup C.hx C.hb dJ16_valueOf_26 rfl ?_
    refine lv_iload_n C.hx C.hb dJ16_valueOf_27 rfl (lv_at hl 0 rfl) ?_
    refine k_callI (Sc := [[(q1, .inr (16, [.int 0]))]]) (Sr := []) (As := [.int (nI i)]) (rest := [.ref q1]) C (ctJ16_init l G q1 i) hW1 q1297 q1298 q92 q1299 rfl rfl ⟨by decide, by decide, Eq.trans (b := some 1) (by decide +kernel) rfl⟩ (Nat.le_of_ble_eq_true rfl) (Nat.le_of_ble_eq_true rfl) (show 1 + 0 ≤ 1 by omega) (show 1 + 0 ≤ 1 by omega) hl.1 rfl (Nat.le_of_ble_eq_true rfl) dJ16_valueOf_28 ((pick_perm [[(q1, .inr (16, [.int 0]))]] 1 rfl (is := [0]) (by decide)).flatten.symm) (fun _ h => h.elim) (fun v H2 locs2 S1 hQ hz2 hW2 => ?_)
    obtain ⟨rfl, rfl⟩ := hQ
    have hW2 : Ws G A s ([[(q1, .inr (16, [.int (nI i)]))]]) H2 locs2 := hW2
    clear hW1
    refine W.eq (g2 := F0 m 31 ls [.ref q1]) rfl ?_
    exact k_aret C hW2 rfl (Or.inl ⟨_, rfl⟩) (Or.inr ⟨_, rfl⟩) ⟨_, rfl, Or.inr ⟨by omega, rfl⟩⟩ (by omega) (by omega) dJ16_valueOf_31
  · have c10 : ¬ 127 < i := c10
    refine k_gets C hW (List.mem_of_getElem? (i := 3) rfl) q1293 rfl dJ16_valueOf_13 ?_
    refine lv_iload_n C.hx C.hb dJ16_valueOf_16 rfl (lv_at hl 0 rfl) ?_
    refine kn_sipush (a := 128) C (by decide) dJ16_valueOf_17 ?_
    refine kn_iadd C  dJ16_valueOf_20 ?_
    refine k_cacheI C hW (k := i + 128) (by omega) dJ16_valueOf_21 ?_
    exact k_aret C hW rfl (Or.inl ⟨_, rfl⟩) (Or.inr ⟨_, rfl⟩) ⟨_, rfl, Or.inl ⟨by omega, rfl, rfl⟩⟩ (by omega) (by omega) dJ16_valueOf_22

def Q_ctJ9_empty (G : GT)  : Option Value → List va_W → Prop := fun v S1 => v = some (.ref (G.2.2.2 1)) ∧ S1 = []
set_option maxHeartbeats 4000000 in
set_option maxRecDepth 100000 in
theorem ctJ9_empty (l : Launch) (G : GT)   : Ct l G yJ9_empty cJ9_empty 1 (some (.object "java/util/Optional")) 0 0 0 0 [] ([]) noR (Q_ctJ9_empty G ) := by
  refine Ct.of (by decide +kernel) (Nat.le_of_ble_eq_true rfl) ?_
  intro p e s m below meth c A ls C hW hRo hl
  have hl : lv_has ls 1 [] := hl
  refine k_gets C hW (List.mem_of_getElem? (i := 0) rfl) q280 rfl dJ9_empty_0 ?_
  refine lv_astore_n (lv' := [(0, .ref (G.2.2.2 1))]) C.hx C.hb dJ9_empty_3 rfl hl (Nat.le_of_ble_eq_true rfl) rfl (fun ls1 hl1 => ?_)
  clear hl
  refine lv_aload_n C.hx C.hb dJ9_empty_4 rfl (lv_at hl1 0 rfl) ?_
  exact k_aret C hW rfl (Or.inl ⟨_, rfl⟩) (Or.inr ⟨_, rfl⟩) ⟨rfl, rfl⟩ (Nat.le_refl _) (Nat.le_refl _) dJ9_empty_5

def Q_ctJ17_requireNonNull (G : GT) (x : Nat) : Option Value → List va_W → Prop := fun v S1 => v = some (.ref x) ∧ S1 = []
set_option maxHeartbeats 4000000 in
set_option maxRecDepth 100000 in
theorem ctJ17_requireNonNull (l : Launch) (G : GT) (x : Nat)  : Ct l G yJ17_requireNonNull cJ17_requireNonNull 1 (some (.object "java/lang/Object")) 0 0 0 0 [.ref x] ([]) noR (Q_ctJ17_requireNonNull G x) := by
  refine Ct.of (by decide +kernel) (Nat.le_of_ble_eq_true rfl) ?_
  intro p e s m below meth c A ls C hW hRo hl
  have hl : lv_has ls 1 [(0, .ref x)] := hl
  refine lv_aload_n C.hx C.hb dJ17_requireNonNull_0 rfl (lv_at hl 0 rfl) ?_
  refine lv_ifnonnull (tgt := 12) C.hx C.hb dJ17_requireNonNull_1 (by decide) ?_
  refine lv_aload_n C.hx C.hb dJ17_requireNonNull_12 rfl (lv_at hl 0 rfl) ?_
  exact k_aret C hW rfl (Or.inl ⟨_, rfl⟩) (Or.inr ⟨_, rfl⟩) ⟨rfl, rfl⟩ (Nat.le_refl _) (Nat.le_refl _) dJ17_requireNonNull_13

def Q_ctJ9_init (G : GT) (q x : Nat) : Option Value → List va_W → Prop := fun v S1 => v = none ∧ S1 = [[(q, .inr (15, [.ref x]))]]
set_option maxHeartbeats 4000000 in
set_option maxRecDepth 100000 in
theorem ctJ9_init (l : Launch) (G : GT) (q x : Nat)  : Ct l G yJ9_init cJ9_init 2 none 1 20 0 0 [.ref q, .ref x] ([[(q, .inr (15, [.null]))]]) noR (Q_ctJ9_init G q x) := by
  refine Ct.of (by decide +kernel) (Nat.le_of_ble_eq_true rfl) ?_
  intro p e s m below meth c A ls C hW hRo hl
  have hl : lv_has ls 2 [(0, .ref q), (1, .ref x)] := hl
  refine lv_aload_n C.hx C.hb dJ9_init_0 rfl (lv_at hl 0 rfl) ?_
  refine W.objInit C.hx C.hb C.hown (C.hts _ q1917) (C.hts _ q133) (C.hts _ q134) rfl (by rw [C.hml]; exact hl.1) rfl dJ9_init_1 (Nat.le_of_ble_eq_true rfl) (Nat.le_of_ble_eq_true rfl) ?_
  refine W.eq (g2 := F0 m 4 ls []) rfl ?_
  refine lv_aload_n C.hx C.hb dJ9_init_4 rfl (lv_at hl 0 rfl) ?_
  refine lv_aload_n C.hx C.hb dJ9_init_5 rfl (lv_at hl 1 rfl) ?_
  refine k_put (S' := [[(q, .inr (15, [.ref x]))]]) C clJ9 hW 0 0 rfl rfl 0 (Nat.le_of_ble_eq_true rfl) rfl q1918 rfl (fun _ h => h) (Or.inr ⟨rfl, rfl⟩) (fty := (.object "java/lang/Object")) (v := .ref x) (by decide +kernel) rfl rfl (Nat.le_of_ble_eq_true rfl) dJ9_init_6 rfl (fun H1 locs1 hW1 => ?_)
  clear hW
  exact k_vret C hW1 rfl ⟨rfl, rfl⟩ (Nat.le_refl _) (Nat.le_refl _) dJ9_init_9

def Q_ctJ9_of (G : GT) (x : Nat) : Option Value → List va_W → Prop := fun v S1 => ∃ q, v = some (.ref q) ∧ S1 = [[(q, .inr (15, [.ref x]))]]
set_option maxHeartbeats 4000000 in
set_option maxRecDepth 100000 in
theorem ctJ9_of (l : Launch) (G : GT) (x : Nat)  : Ct l G yJ9_of cJ9_of 1 (some (.object "java/util/Optional")) 2 41 1 1 [.ref x] ([]) noR (Q_ctJ9_of G x) := by
  refine Ct.of (by decide +kernel) (Nat.le_of_ble_eq_true rfl) ?_
  intro p e s m below meth c A ls C hW hRo hl
  have hl : lv_has ls 1 [(0, .ref x)] := hl
  refine k_new (fs := [.null]) C clJ9 hW q1911 rfl q1912 q83 (fun j hj => (by have := co_dec (P := fun j => defaultValue (tyJ9 j) = vp_V [.null] j) (N := 1) (by decide +kernel) hj; exact this)) (show 0 + 1 ≤ 1 by omega) (show 0 + 1 ≤ 1 by omega) dJ9_of_0 (fun q1 H1 hW1 => ?_)
  have hW1 : Ws G A s [[(q1, .inr (15, [.null]))]] H1 [] := hW1
  clear hW
  refine lv_dup C.hx C.hb dJ9_of_3 rfl ?_
  refine lv_aload_n C.hx C.hb dJ9_of_4 rfl (lv_at hl 0 rfl) ?_
  refine k_callS (Sc := []) (Sr := [[(q1, .inr (15, [.null]))]]) (As := [.ref x]) (rest := [.ref q1, .ref q1]) C (ctJ17_requireNonNull l G x) hW1 q1913 q1325 q94 q1326 rfl ⟨by decide, by decide, Eq.trans (b := some 1) (by decide +kernel) rfl⟩ (Nat.le_of_ble_eq_true rfl) (Nat.le_of_ble_eq_true rfl) (show 1 + 0 ≤ 1 by omega) (show 1 + 0 ≤ 1 by omega) hl.1 rfl (Nat.le_of_ble_eq_true rfl) dJ9_of_5 (k_permR _) (fun _ h => h.elim) (fun v H2 locs2 S1 hQ hz2 hW2 => ?_)
  obtain ⟨rfl, rfl⟩ := hQ
  have hW2 : Ws G A s ([[(q1, .inr (15, [.null]))]]) H2 locs2 := hW2
  clear hW1
  refine W.eq (g2 := F0 m 8 ls [.ref x, .ref q1, .ref q1]) rfl ?_
  refine k_callI (Sc := [[(q1, .inr (15, [.null]))]]) (Sr := []) (As := [.ref x]) (rest := [.ref q1]) C (ctJ9_init l G q1 x) hW2 q1914 q1915 q83 q1916 rfl rfl ⟨by decide, by decide, Eq.trans (b := some 1) (by decide +kernel) rfl⟩ (Nat.le_of_ble_eq_true rfl) (Nat.le_of_ble_eq_true rfl) (show 1 + 0 ≤ 1 by omega) (show 1 + 0 ≤ 1 by omega) hl.1 rfl (Nat.le_of_ble_eq_true rfl) dJ9_of_8 ((pick_perm [[(q1, .inr (15, [.null]))]] 1 rfl (is := [0]) (by decide)).flatten.symm) (fun _ h => h.elim) (fun v H3 locs3 S1 hQ hz3 hW3 => ?_)
  obtain ⟨rfl, rfl⟩ := hQ
  have hW3 : Ws G A s ([[(q1, .inr (15, [.ref x]))]]) H3 locs3 := hW3
  clear hW2
  refine W.eq (g2 := F0 m 11 ls [.ref q1]) rfl ?_
  exact k_aret C hW3 rfl (Or.inl ⟨_, rfl⟩) (Or.inr ⟨_, rfl⟩) ⟨_, rfl, rfl⟩ (by omega) (by omega) dJ9_of_11

def Q_ctJ9_isPresent_1 (G : GT) (q x : Nat) : Option Value → List va_W → Prop := fun v S1 => v = some (.int (nI 1)) ∧ S1 = []
set_option maxHeartbeats 4000000 in
set_option maxRecDepth 100000 in
theorem ctJ9_isPresent_1 (l : Launch) (G : GT) (q x : Nat)  : Ct l G yJ9_isPresent cJ9_isPresent 1 (some .boolean) 0 0 0 0 [.ref q] ([]) ((fun z => z = .inl (q, .inr (15, [.ref x])))) (Q_ctJ9_isPresent_1 G q x) := by
  refine Ct.of (by decide +kernel) (Nat.le_of_ble_eq_true rfl) ?_
  intro p e s m below meth c A ls C hW hRo hl
  have hl : lv_has ls 1 [(0, .ref q)] := hl
  refine lv_aload_n C.hx C.hb dJ9_isPresent_0 rfl (lv_at hl 0 rfl) ?_
  refine k_get (v := .ref x) C clJ9 ((hRo _ rfl).at hW) 0 (Nat.le_of_ble_eq_true rfl) rfl q1918 rfl rfl dJ9_isPresent_1 ?_
  refine lv_ifnull C.hx C.hb dJ9_isPresent_4 ?_
  refine kn_iconst (a := 1) C (by decide) dJ9_isPresent_7 ?_
  refine lv_goto (tgt := 12) C.hx C.hb dJ9_isPresent_8 (by decide) ?_
  exact k_zret C hW rfl (by decide) ⟨rfl, rfl⟩ (Nat.le_refl _) (Nat.le_refl _) dJ9_isPresent_12

def Q_ctJ9_isPresent_0 (G : GT) (q : Nat) : Option Value → List va_W → Prop := fun v S1 => v = some (.int (nI 0)) ∧ S1 = []
set_option maxHeartbeats 4000000 in
set_option maxRecDepth 100000 in
theorem ctJ9_isPresent_0 (l : Launch) (G : GT) (q : Nat)  : Ct l G yJ9_isPresent cJ9_isPresent 1 (some .boolean) 0 0 0 0 [.ref q] ([]) ((fun z => z = .inl (q, .inr (15, [.null])))) (Q_ctJ9_isPresent_0 G q) := by
  refine Ct.of (by decide +kernel) (Nat.le_of_ble_eq_true rfl) ?_
  intro p e s m below meth c A ls C hW hRo hl
  have hl : lv_has ls 1 [(0, .ref q)] := hl
  refine lv_aload_n C.hx C.hb dJ9_isPresent_0 rfl (lv_at hl 0 rfl) ?_
  refine k_get (v := .null) C clJ9 ((hRo _ rfl).at hW) 0 (Nat.le_of_ble_eq_true rfl) rfl q1918 rfl rfl dJ9_isPresent_1 ?_
  refine lv_ifnullN (tgt := 11) C.hx C.hb dJ9_isPresent_4 (by decide) ?_
  refine kn_iconst (a := 0) C (by decide) dJ9_isPresent_11 ?_
  exact k_zret C hW rfl (by decide) ⟨rfl, rfl⟩ (Nat.le_refl _) (Nat.le_refl _) dJ9_isPresent_12

def Q_ctJ9_get (G : GT) (q x : Nat) : Option Value → List va_W → Prop := fun v S1 => v = some (.ref x) ∧ S1 = []
set_option maxHeartbeats 4000000 in
set_option maxRecDepth 100000 in
theorem ctJ9_get (l : Launch) (G : GT) (q x : Nat)  : Ct l G yJ9_get cJ9_get 1 (some (.object "java/lang/Object")) 0 0 0 0 [.ref q] ([]) ((fun z => z = .inl (q, .inr (15, [.ref x])))) (Q_ctJ9_get G q x) := by
  refine Ct.of (by decide +kernel) (Nat.le_of_ble_eq_true rfl) ?_
  intro p e s m below meth c A ls C hW hRo hl
  have hl : lv_has ls 1 [(0, .ref q)] := hl
  refine lv_aload_n C.hx C.hb dJ9_get_0 rfl (lv_at hl 0 rfl) ?_
  refine k_get (v := .ref x) C clJ9 ((hRo _ rfl).at hW) 0 (Nat.le_of_ble_eq_true rfl) rfl q1918 rfl rfl dJ9_get_1 ?_
  refine lv_ifnonnull (tgt := 17) C.hx C.hb dJ9_get_4 (by decide) ?_
  refine lv_aload_n C.hx C.hb dJ9_get_17 rfl (lv_at hl 0 rfl) ?_
  refine k_get (v := .ref x) C clJ9 ((hRo _ rfl).at hW) 0 (Nat.le_of_ble_eq_true rfl) rfl q1918 rfl rfl dJ9_get_18 ?_
  exact k_aret C hW rfl (Or.inl ⟨_, rfl⟩) (Or.inr ⟨_, rfl⟩) ⟨rfl, rfl⟩ (Nat.le_refl _) (Nat.le_refl _) dJ9_get_21
