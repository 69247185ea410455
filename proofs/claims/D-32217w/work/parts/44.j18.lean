def Q_ctJ18_coder (G : GT) (a b : Nat) (h zz : Int32) : Option Value → List va_W → Prop := fun v S1 => v = some (.int (nI 0)) ∧ S1 = []
set_option maxHeartbeats 4000000 in
set_option maxRecDepth 100000 in
theorem ctJ18_coder (l : Launch) (G : GT) (a b : Nat) (h zz : Int32)  : Ct l G yJ18_coder cJ18_coder 1 (some .byte) 0 0 0 0 [.ref a] ([]) ((fun z => z = .inl (a, .inr (17, [.ref b, .int (nI 0), .int h, .int zz])))) (Q_ctJ18_coder G a b h zz) := by
  refine Ct.of (by decide +kernel) (Nat.le_of_ble_eq_true rfl) ?_
  intro p e s m below meth c A ls C hW hRo hl
  have hl : lv_has ls 1 [(0, .ref a)] := hl
  refine k_gets C hW (List.mem_of_getElem? (i := 4) rfl) q587 rfl dJ18_coder_0 ?_
  refine lv_if_eq (tgt := 13) C.hx C.hb dJ18_coder_3 (by decide) (fun cq => absurd cq (by decide)) (fun cq => ?_)
  refine lv_aload_n C.hx C.hb dJ18_coder_6 rfl (lv_at hl 0 rfl) ?_
  refine k_get (v := .int (nI 0)) C clJ18 ((hRo _ rfl).at hW) 1 (Nat.le_of_ble_eq_true rfl) rfl q738 rfl rfl dJ18_coder_7 ?_
  refine lv_goto (tgt := 14) C.hx C.hb dJ18_coder_10 (by decide) ?_
  exact k_zret C hW rfl (by decide) ⟨rfl, rfl⟩ (Nat.le_refl _) (Nat.le_refl _) dJ18_coder_14

def Q_ctJ18_isLatin1 (G : GT) (a b : Nat) (h zz : Int32) : Option Value → List va_W → Prop := fun v S1 => v = some (.int (nI 1)) ∧ S1 = []
set_option maxHeartbeats 4000000 in
set_option maxRecDepth 100000 in
theorem ctJ18_isLatin1 (l : Launch) (G : GT) (a b : Nat) (h zz : Int32)  : Ct l G yJ18_isLatin1 cJ18_isLatin1 1 (some .boolean) 0 0 0 0 [.ref a] ([]) ((fun z => z = .inl (a, .inr (17, [.ref b, .int (nI 0), .int h, .int zz])))) (Q_ctJ18_isLatin1 G a b h zz) := by
  refine Ct.of (by decide +kernel) (Nat.le_of_ble_eq_true rfl) ?_
  intro p e s m below meth c A ls C hW hRo hl
  have hl : lv_has ls 1 [(0, .ref a)] := hl
  refine k_gets C hW (List.mem_of_getElem? (i := 4) rfl) q587 rfl dJ18_isLatin1_0 ?_
  refine lv_if_eq (tgt := 17) C.hx C.hb dJ18_isLatin1_3 (by decide) (fun cq => absurd cq (by decide)) (fun cq => ?_)
  refine lv_aload_n C.hx C.hb dJ18_isLatin1_6 rfl (lv_at hl 0 rfl) ?_
  refine k_get (v := .int (nI 0)) C clJ18 ((hRo _ rfl).at hW) 1 (Nat.le_of_ble_eq_true rfl) rfl q738 rfl rfl dJ18_isLatin1_7 ?_
  refine kn_if_ne (tgt := 17) C (by decide) dJ18_isLatin1_10 (by decide) (fun cq => absurd cq (by decide)) (fun cq => ?_)
  refine kn_iconst (a := 1) C (by decide) dJ18_isLatin1_13 ?_
  refine lv_goto (tgt := 18) C.hx C.hb dJ18_isLatin1_14 (by decide) ?_
  exact k_zret C hW rfl (by decide) ⟨rfl, rfl⟩ (Nat.le_refl _) (Nat.le_refl _) dJ18_isLatin1_18

def Q_ctJ18_length (G : GT) (a b n : Nat) (h zz : Int32) (t : Nat → Nat) : Option Value → List va_W → Prop := fun v S1 => v = some (.int (nI n)) ∧ S1 = []
set_option maxHeartbeats 4000000 in
set_option maxRecDepth 100000 in
theorem ctJ18_length (l : Launch) (G : GT) (a b n : Nat) (h zz : Int32) (t : Nat → Nat)  : Ct l G yJ18_length cJ18_length 1 (some .int) 1 20 0 0 [.ref a] ([]) ((fun z => z = .inl (a, .inr (17, [.ref b, .int (nI 0), .int h, .int zz])) ∨ z = .inl (b, .inl (G.2.2.1 3, n, .inl (fun j => nI (t j)))))) (Q_ctJ18_length G a b n h zz t) := by
  refine Ct.of (by decide +kernel) (Nat.le_of_ble_eq_true rfl) ?_
  intro p e s m below meth c A ls C hW hRo hl
  have hl : lv_has ls 1 [(0, .ref a)] := hl
  refine lv_aload_n C.hx C.hb dJ18_length_0 rfl (lv_at hl 0 rfl) ?_
  refine k_get (v := .ref b) C clJ18 ((hRo _ (Or.inl rfl)).at hW) 0 (Nat.le_of_ble_eq_true rfl) rfl q737 rfl rfl dJ18_length_1 ?_
  refine k_alen C 3 rfl ((hRo _ (Or.inr rfl)).at hW) dJ18_length_4 ?_
  refine lv_aload_n C.hx C.hb dJ18_length_5 rfl (lv_at hl 0 rfl) ?_
  refine k_callV (Sc := []) (Sr := []) (As := []) (rest := [.int (nI n)]) C (ctJ18_coder l G a b h zz) hW clJ18 ((hRo _ (Or.inl rfl)).at hW) q583 q584 q585 q95 q586 rfl rfl ⟨by decide, by decide, Eq.trans (b := some 0) (by decide +kernel) rfl⟩ (Nat.le_of_ble_eq_true rfl) (Nat.le_of_ble_eq_true rfl) (Nat.le_refl _) (Nat.le_refl _) hl.1 rfl (Nat.le_of_ble_eq_true rfl) dJ18_length_6 (k_permR _) (fun z hz => by cases hz; exact Or.inr (Or.inr (hRo _ (Or.inl rfl)))) (fun v H1 locs1 S1 hQ hz1 hW1 => ?_)
  obtain ⟨rfl, rfl⟩ := hQ
  have hW1 : Ws G A s ([]) H1 locs1 := hW1
  clear hW
  refine W.eq (g2 := F0 m 9 ls [.int (nI 0), .int (nI n)]) rfl ?_
  refine kn_ishr0 C dJ18_length_9 ?_
  exact k_iret C hW1 rfl ⟨rfl, rfl⟩ (Nat.le_refl _) (Nat.le_refl _) dJ18_length_10

def Q_ctJ25_checkIndex_r (G : GT) (i n k : Nat) : Option Value → List va_W → Prop := fun v S1 => v = some (.int (nI i)) ∧ S1 = []
set_option maxHeartbeats 4000000 in
set_option maxRecDepth 100000 in
theorem ctJ25_checkIndex_r (l : Launch) (G : GT) (i n k : Nat) (hi : i < n) (hn : n < 2 ^ 31) : Ct l G yJ25_checkIndex cJ25_checkIndex 3 (some .int) 0 0 0 0 [.int (nI i), .int (nI n), .ref k] ([]) noR (Q_ctJ25_checkIndex_r G i n k) := by
  refine Ct.of (by decide +kernel) (Nat.le_of_ble_eq_true rfl) ?_
  intro p e s m below meth c A ls C hW hRo hl
  have hl : lv_has ls 3 [(0, .int (nI i)), (1, .int (nI n)), (2, .ref k)] := hl
  refine lv_iload_n C.hx C.hb dJ25_checkIndex_0 rfl (lv_at hl 0 rfl) ?_
  refine kn_if_lt (tgt := 9) C (by omega) dJ25_checkIndex_1 (by decide) ?_
  refine lv_iload_n C.hx C.hb dJ25_checkIndex_4 rfl (lv_at hl 0 rfl) ?_
  refine lv_iload_n C.hx C.hb dJ25_checkIndex_5 rfl (lv_at hl 1 rfl) ?_
  refine kn_icmp_lt (tgt := 16) C (by omega) (by omega) dJ25_checkIndex_6 (by decide) (fun c6 => ?_) (fun c6 => (absurd hi c6))
  refine lv_iload_n C.hx C.hb dJ25_checkIndex_16 rfl (lv_at hl 0 rfl) ?_
  exact k_iret C hW rfl ⟨rfl, rfl⟩ (Nat.le_refl _) (Nat.le_refl _) dJ25_checkIndex_17

def Q_ctJ18_checkIndex (G : GT) (i n : Nat) : Option Value → List va_W → Prop := fun v S1 => v = none ∧ S1 = []
set_option maxHeartbeats 4000000 in
set_option maxRecDepth 100000 in
theorem ctJ18_checkIndex (l : Launch) (G : GT) (i n : Nat) (hi : i < n) (hn : n < 2 ^ 31) : Ct l G yJ18_checkIndex cJ18_checkIndex 2 none 1 22 0 0 [.int (nI i), .int (nI n)] ([]) noR (Q_ctJ18_checkIndex G i n) := by
  refine Ct.of (by decide +kernel) (Nat.le_of_ble_eq_true rfl) ?_
  intro p e s m below meth c A ls C hW hRo hl
  have hl : lv_has ls 2 [(0, .int (nI i)), (1, .int (nI n))] := hl
  refine lv_iload_n C.hx C.hb dJ18_checkIndex_0 rfl (lv_at hl 0 rfl) ?_
  refine lv_iload_n C.hx C.hb dJ18_checkIndex_1 rfl (lv_at hl 1 rfl) ?_
  refine k_gets C hW (List.mem_of_getElem? (i := 6) rfl) q565 rfl dJ18_checkIndex_2 ?_
  refine k_callS (Sc := []) (Sr := []) (As := [.int (nI i), .int (nI n), .ref (G.2.2.2 7)]) (rest := []) C (ctJ25_checkIndex_r l G i n (G.2.2.2 7) hi hn) hW q1904 q885 q103 q886 rfl ⟨by decide, by decide, Eq.trans (b := some 3) (by decide +kernel) rfl⟩ (Nat.le_of_ble_eq_true rfl) (Nat.le_of_ble_eq_true rfl) (Nat.le_refl _) (Nat.le_refl _) hl.1 rfl (Nat.le_of_ble_eq_true rfl) dJ18_checkIndex_5 (k_permR _) (fun _ h => h.elim) (fun v H1 locs1 S1 hQ hz1 hW1 => ?_)
  obtain ⟨rfl, rfl⟩ := hQ
  have hW1 : Ws G A s ([]) H1 locs1 := hW1
  clear hW
  refine W.eq (g2 := F0 m 8 ls [.int (nI i)]) rfl ?_
  refine lv_pop C.hx C.hb dJ18_checkIndex_8 rfl ?_
  exact k_vret C hW1 rfl ⟨rfl, rfl⟩ (Nat.le_refl _) (Nat.le_refl _) dJ18_checkIndex_9

def Q_ctJ19_charAt (G : GT) (b n i : Nat) (t : Nat → Nat) : Option Value → List va_W → Prop := fun v S1 => v = some (.int (nI (t i))) ∧ S1 = []
set_option maxHeartbeats 4000000 in
set_option maxRecDepth 100000 in
theorem ctJ19_charAt (l : Launch) (G : GT) (b n i : Nat) (t : Nat → Nat) (hi : i < n) (hn : n < 2 ^ 31) (ht : ∀ j, j < n → t j < 128) : Ct l G yJ19_charAt cJ19_charAt 2 (some .char) 2 43 0 0 [.ref b, .int (nI i)] ([]) ((fun z => z = .inl (b, .inl (G.2.2.1 3, n, .inl (fun j => nI (t j)))))) (Q_ctJ19_charAt G b n i t) := by
  refine Ct.of (by decide +kernel) (Nat.le_of_ble_eq_true rfl) ?_
  intro p e s m below meth c A ls C hW hRo hl
  have hl : lv_has ls 2 [(0, .ref b), (1, .int (nI i))] := hl
  refine lv_iload_n C.hx C.hb dJ19_charAt_0 rfl (lv_at hl 1 rfl) ?_
  refine lv_aload_n C.hx C.hb dJ19_charAt_1 rfl (lv_at hl 0 rfl) ?_
  refine k_alen C 3 rfl ((hRo _ rfl).at hW) dJ19_charAt_2 ?_
  refine k_callS (Sc := []) (Sr := []) (As := [.int (nI i), .int (nI n)]) (rest := []) C (ctJ18_checkIndex l G i n hi hn) hW q2251 q1902 q95 q1903 rfl ⟨by decide, by decide, Eq.trans (b := some 2) (by decide +kernel) rfl⟩ (Nat.le_of_ble_eq_true rfl) (Nat.le_of_ble_eq_true rfl) (Nat.le_refl _) (Nat.le_refl _) hl.1 rfl (Nat.le_of_ble_eq_true rfl) dJ19_charAt_3 (k_permR _) (fun _ h => h.elim) (fun v H1 locs1 S1 hQ hz1 hW1 => ?_)
  obtain ⟨rfl, rfl⟩ := hQ
  have hW1 : Ws G A s ([]) H1 locs1 := hW1
  clear hW
  refine W.eq (g2 := F0 m 6 ls []) rfl ?_
  refine lv_aload_n C.hx C.hb dJ19_charAt_6 rfl (lv_at hl 0 rfl) ?_
  refine lv_iload_n C.hx C.hb dJ19_charAt_7 rfl (lv_at hl 1 rfl) ?_
  refine k_bald C (f := (fun j => nI (t j))) rfl ((hRo _ rfl).at hW1) (by omega) (by omega) dJ19_charAt_8 ?_
  refine kn_sipush (a := 255) C (by decide) dJ19_charAt_9 ?_
  refine kn_iand C dJ19_charAt_12 ?_
  refine lv_i2c C.hx C.hb dJ19_charAt_13 (i2c_b _ (ht _ hi)) ?_
  exact k_zret C hW1 rfl (nar_c _ (ht _ hi)) ⟨rfl, rfl⟩ (Nat.le_refl _) (Nat.le_refl _) dJ19_charAt_14

def Q_ctJ18_charAt (G : GT) (a b n i : Nat) (h zz : Int32) (t : Nat → Nat) : Option Value → List va_W → Prop := fun v S1 => v = some (.int (nI (t i))) ∧ S1 = []
set_option maxHeartbeats 4000000 in
set_option maxRecDepth 100000 in
theorem ctJ18_charAt (l : Launch) (G : GT) (a b n i : Nat) (h zz : Int32) (t : Nat → Nat) (hi : i < n) (hn : n < 2 ^ 31) (ht : ∀ j, j < n → t j < 128) : Ct l G yJ18_charAt cJ18_charAt 2 (some .char) 3 64 0 0 [.ref a, .int (nI i)] ([]) ((fun z => z = .inl (a, .inr (17, [.ref b, .int (nI 0), .int h, .int zz])) ∨ z = .inl (b, .inl (G.2.2.1 3, n, .inl (fun j => nI (t j)))))) (Q_ctJ18_charAt G a b n i h zz t) := by
  refine Ct.of (by decide +kernel) (Nat.le_of_ble_eq_true rfl) ?_
  intro p e s m below meth c A ls C hW hRo hl
  have hl : lv_has ls 2 [(0, .ref a), (1, .int (nI i))] := hl
  refine lv_aload_n C.hx C.hb dJ18_charAt_0 rfl (lv_at hl 0 rfl) ?_
  refine k_callV (Sc := []) (Sr := []) (As := []) (rest := []) C (ctJ18_isLatin1 l G a b h zz) hW clJ18 ((hRo _ (Or.inl rfl)).at hW) q1148 q1149 q1150 q95 q1151 rfl rfl ⟨by decide, by decide, Eq.trans (b := some 0) (by decide +kernel) rfl⟩ (Nat.le_of_ble_eq_true rfl) (Nat.le_of_ble_eq_true rfl) (Nat.le_refl _) (Nat.le_refl _) hl.1 rfl (Nat.le_of_ble_eq_true rfl) dJ18_charAt_1 (k_permR _) (fun z hz => by cases hz; exact Or.inr (Or.inr (hRo _ (Or.inl rfl)))) (fun v H1 locs1 S1 hQ hz1 hW1 => ?_)
  obtain ⟨rfl, rfl⟩ := hQ
  have hW1 : Ws G A s ([]) H1 locs1 := hW1
  clear hW
  refine W.eq (g2 := F0 m 4 ls [.int (nI 1)]) rfl ?_
  refine kn_if_eq (tgt := 16) C (by decide) dJ18_charAt_4 (by decide) (fun cq => absurd cq (by decide)) (fun cq => ?_)
  refine lv_aload_n C.hx C.hb dJ18_charAt_7 rfl (lv_at hl 0 rfl) ?_
  refine k_get (v := .ref b) C clJ18 ((hRo _ (Or.inl rfl)).at hW1) 0 (Nat.le_of_ble_eq_true rfl) rfl q737 rfl rfl dJ18_charAt_8 ?_
  refine lv_iload_n C.hx C.hb dJ18_charAt_11 rfl (lv_at hl 1 rfl) ?_
  refine k_callS (Sc := []) (Sr := []) (As := [.ref b, .int (nI i)]) (rest := []) C (ctJ19_charAt l G b n i t hi hn ht) hW1 q2248 q2249 q96 q2250 rfl ⟨by decide, by decide, Eq.trans (b := some 2) (by decide +kernel) rfl⟩ (Nat.le_of_ble_eq_true rfl) (Nat.le_of_ble_eq_true rfl) (Nat.le_refl _) (Nat.le_refl _) hl.1 rfl (Nat.le_of_ble_eq_true rfl) dJ18_charAt_12 (k_permR _) (fun z hz => by cases hz; exact Or.inr (Or.inr (hRo _ (Or.inr rfl)))) (fun v H2 locs2 S1 hQ hz2 hW2 => ?_)
  obtain ⟨rfl, rfl⟩ := hQ
  have hW2 : Ws G A s ([]) H2 locs2 := hW2
  clear hW1
  refine W.eq (g2 := F0 m 15 ls [.int (nI (t i))]) rfl ?_
  exact k_zret C hW2 rfl (nar_c _ (ht _ hi)) ⟨rfl, rfl⟩ (Nat.le_refl _) (Nat.le_refl _) dJ18_charAt_15

def Q_ctJ25_checkFromToIndex (G : GT) (i k n q : Nat) : Option Value → List va_W → Prop := fun v S1 => v = some (.int (nI i)) ∧ S1 = []
set_option maxHeartbeats 4000000 in
set_option maxRecDepth 100000 in
theorem ctJ25_checkFromToIndex (l : Launch) (G : GT) (i k n q : Nat) (hi : i ≤ k) (hk : k ≤ n) (hn : n < 2 ^ 31) : Ct l G yJ25_checkFromToIndex cJ25_checkFromToIndex 4 (some .int) 0 0 0 0 [.int (nI i), .int (nI k), .int (nI n), .ref q] ([]) noR (Q_ctJ25_checkFromToIndex G i k n q) := by
  refine Ct.of (by decide +kernel) (Nat.le_of_ble_eq_true rfl) ?_
  intro p e s m below meth c A ls C hW hRo hl
  have hl : lv_has ls 4 [(0, .int (nI i)), (1, .int (nI k)), (2, .int (nI n)), (3, .ref q)] := hl
  refine lv_iload_n C.hx C.hb dJ25_checkFromToIndex_0 rfl (lv_at hl 0 rfl) ?_
  refine kn_if_lt (tgt := 14) C (by omega) dJ25_checkFromToIndex_1 (by decide) ?_
  refine lv_iload_n C.hx C.hb dJ25_checkFromToIndex_4 rfl (lv_at hl 0 rfl) ?_
  refine lv_iload_n C.hx C.hb dJ25_checkFromToIndex_5 rfl (lv_at hl 1 rfl) ?_
  refine kn_icmp_gt (tgt := 14) C (by omega) (by omega) dJ25_checkFromToIndex_6 (by decide) (fun c6 => (absurd c6 (by omega))) (fun c6 => ?_)
  refine lv_iload_n C.hx C.hb dJ25_checkFromToIndex_9 rfl (lv_at hl 1 rfl) ?_
  refine lv_iload_n C.hx C.hb dJ25_checkFromToIndex_10 rfl (lv_at hl 2 rfl) ?_
  refine kn_icmp_le (tgt := 22) C (by omega) (by omega) dJ25_checkFromToIndex_11 (by decide) (fun c11 => ?_) (fun c11 => (absurd hk c11))
  refine lv_iload_n C.hx C.hb dJ25_checkFromToIndex_22 rfl (lv_at hl 0 rfl) ?_
  exact k_iret C hW rfl ⟨rfl, rfl⟩ (Nat.le_refl _) (Nat.le_refl _) dJ25_checkFromToIndex_23

def Q_ctJ18_checkBoundsBeginEnd (G : GT) (i k n : Nat) : Option Value → List va_W → Prop := fun v S1 => v = none ∧ S1 = []
set_option maxHeartbeats 4000000 in
set_option maxRecDepth 100000 in
theorem ctJ18_checkBoundsBeginEnd (l : Launch) (G : GT) (i k n : Nat) (hi : i ≤ k) (hk : k ≤ n) (hn : n < 2 ^ 31) : Ct l G yJ18_checkBoundsBeginEnd cJ18_checkBoundsBeginEnd 3 none 1 23 0 0 [.int (nI i), .int (nI k), .int (nI n)] ([]) noR (Q_ctJ18_checkBoundsBeginEnd G i k n) := by
  refine Ct.of (by decide +kernel) (Nat.le_of_ble_eq_true rfl) ?_
  intro p e s m below meth c A ls C hW hRo hl
  have hl : lv_has ls 3 [(0, .int (nI i)), (1, .int (nI k)), (2, .int (nI n))] := hl
  refine lv_iload_n C.hx C.hb dJ18_checkBoundsBeginEnd_0 rfl (lv_at hl 0 rfl) ?_
  refine lv_iload_n C.hx C.hb dJ18_checkBoundsBeginEnd_1 rfl (lv_at hl 1 rfl) ?_
  refine lv_iload_n C.hx C.hb dJ18_checkBoundsBeginEnd_2 rfl (lv_at hl 2 rfl) ?_
  refine k_gets C hW (List.mem_of_getElem? (i := 6) rfl) q565 rfl dJ18_checkBoundsBeginEnd_3 ?_
  refine k_callS (Sc := []) (Sr := []) (As := [.int (nI i), .int (nI k), .int (nI n), .ref (G.2.2.2 7)]) (rest := []) C (ctJ25_checkFromToIndex l G i k n (G.2.2.2 7) hi hk hn) hW q567 q568 q103 q569 rfl ⟨by decide, by decide, Eq.trans (b := some 4) (by decide +kernel) rfl⟩ (Nat.le_of_ble_eq_true rfl) (Nat.le_of_ble_eq_true rfl) (Nat.le_refl _) (Nat.le_refl _) hl.1 rfl (Nat.le_of_ble_eq_true rfl) dJ18_checkBoundsBeginEnd_6 (k_permR _) (fun _ h => h.elim) (fun v H1 locs1 S1 hQ hz1 hW1 => ?_)
  obtain ⟨rfl, rfl⟩ := hQ
  have hW1 : Ws G A s ([]) H1 locs1 := hW1
  clear hW
  refine W.eq (g2 := F0 m 9 ls [.int (nI i)]) rfl ?_
  refine lv_pop C.hx C.hb dJ18_checkBoundsBeginEnd_9 rfl ?_
  exact k_vret C hW1 rfl ⟨rfl, rfl⟩ (Nat.le_refl _) (Nat.le_refl _) dJ18_checkBoundsBeginEnd_10

def Q_ctJ29_checkLength (G : GT) (i k : Nat) : Option Value → List va_W → Prop := fun v S1 => v = none ∧ S1 = []
set_option maxHeartbeats 4000000 in
set_option maxRecDepth 100000 in
theorem ctJ29_checkLength (l : Launch) (G : GT) (i k : Nat) (hi : i ≤ k) (hk : k < 2 ^ 31) : Ct l G yJ29_checkLength cJ29_checkLength 2 none 0 0 0 0 [.int (nI i), .int (nI k)] ([]) noR (Q_ctJ29_checkLength G i k) := by
  refine Ct.of (by decide +kernel) (Nat.le_of_ble_eq_true rfl) ?_
  intro p e s m below meth c A ls C hW hRo hl
  have hl : lv_has ls 2 [(0, .int (nI i)), (1, .int (nI k))] := hl
  refine lv_iload_n C.hx C.hb dJ29_checkLength_0 rfl (lv_at hl 1 rfl) ?_
  refine lv_iload_n C.hx C.hb dJ29_checkLength_1 rfl (lv_at hl 0 rfl) ?_
  refine kn_icmp_ge (tgt := 37) C (by omega) (by omega) dJ29_checkLength_2 (by decide) (fun c2 => ?_) (fun c2 => (absurd hi c2))
  exact k_vret C hW rfl ⟨rfl, rfl⟩ (Nat.le_refl _) (Nat.le_refl _) dJ29_checkLength_37

def Q_ctJ29_copyOfRangeByte (G : GT) (b n i mm : Nat) (t : Nat → Nat) : Option Value → List va_W → Prop := fun v S1 => ∃ q2, v = some (.ref q2) ∧ S1 = [[(q2, .inl (G.2.2.1 3, mm, .inl (fun j => nI ((cpN t (fun _ => 0) i 0 mm) j))))]]
set_option maxHeartbeats 4000000 in
set_option maxRecDepth 100000 in
theorem ctJ29_copyOfRangeByte (l : Launch) (G : GT) (b n i mm : Nat) (t : Nat → Nat) (him : i + mm ≤ n) (hn : n < 2 ^ 26) (ht : ∀ j, j < n → t j < 128) : Ct l G yJ29_copyOfRangeByte cJ29_copyOfRangeByte 5 (some (.array .byte)) 1 29 1 mm [.ref b, .int (nI i), .int (nI (i + mm))] ([]) ((fun z => z = .inl (b, .inl (G.2.2.1 3, n, .inl (fun j => nI (t j)))))) (Q_ctJ29_copyOfRangeByte G b n i mm t) := by
  refine Ct.of (by decide +kernel) (Nat.le_of_ble_eq_true rfl) ?_
  intro p e s m below meth c A ls C hW hRo hl
  have hl : lv_has ls 5 [(0, .ref b), (1, .int (nI i)), (2, .int (nI (i + mm)))] := hl
  refine lv_iload_n C.hx C.hb dJ29_copyOfRangeByte_0 rfl (lv_at hl 1 rfl) ?_
  refine lv_iload_n C.hx C.hb dJ29_copyOfRangeByte_1 rfl (lv_at hl 2 rfl) ?_
  refine k_callS (Sc := []) (Sr := []) (As := [.int (nI i), .int (nI (i + mm))]) (rest := []) C (ctJ29_checkLength l G i (i + mm) (by omega) (by omega)) hW q681 q682 q107 q683 rfl ⟨by decide, by decide, Eq.trans (b := some 2) (by decide +kernel) rfl⟩ (Nat.le_of_ble_eq_true rfl) (Nat.le_of_ble_eq_true rfl) (show 0 + 0 ≤ 1 by omega) (show 0 + 0 ≤ mm by omega) hl.1 rfl (Nat.le_of_ble_eq_true rfl) dJ29_copyOfRangeByte_2 (k_permR _) (fun _ h => h.elim) (fun v H1 locs1 S1 hQ hz1 hW1 => ?_)
  obtain ⟨rfl, rfl⟩ := hQ
  have hW1 : Ws G A s ([]) H1 locs1 := hW1
  clear hW
  refine W.eq (g2 := F0 m 5 ls []) rfl ?_
  refine lv_iload_n C.hx C.hb dJ29_copyOfRangeByte_5 rfl (lv_at hl 2 rfl) ?_
  refine lv_iload_n C.hx C.hb dJ29_copyOfRangeByte_6 rfl (lv_at hl 1 rfl) ?_
  refine kn_isub C (by omega) dJ29_copyOfRangeByte_7 ?_
  refine k_op (y := .int (nI mm)) (by rw [Nat.add_sub_cancel_left]) ?_
  refine lv_istore_n (lv' := [(3, .int (nI mm)), (0, .ref b), (1, .int (nI i)), (2, .int (nI (i + mm)))]) C.hx C.hb dJ29_copyOfRangeByte_8 rfl hl (Nat.le_of_ble_eq_true rfl) rfl (fun ls2 hl2 => ?_)
  clear hl
  refine lv_iload_n C.hx C.hb dJ29_copyOfRangeByte_9 rfl (lv_at hl2 0 rfl) ?_
  refine k_newa C hW1 (atype := .byte) (ty := .byte) 3 rfl q500 rfl (fun _ h => (nomatch h)) (N := mm) (a0 := (mm, .inl (fun _ => 0))) (fun _ => rfl) (by omega) (by decide) (show 0 + 1 ≤ 1 by omega) (show 0 + mm ≤ mm by omega) dJ29_copyOfRangeByte_10 (fun q3 H3 hW3 => ?_)
  have hW3 : Ws G A s [[(q3, .inl (G.2.2.1 3, mm, .inl (fun _ => 0)))]] H3 locs1 := hW3
  clear hW1
  have hW4 : Ws G A s [[(q3, .inl (G.2.2.1 3, mm, .inl (fun j => nI ((fun _ => 0) j))))]] H3 locs1 := hW3
  clear hW3
  refine lv_astore (lv' := [(4, .ref q3), (3, .int (nI mm)), (0, .ref b), (1, .int (nI i)), (2, .int (nI (i + mm)))]) C.hx C.hb dJ29_copyOfRangeByte_12 hl2 (Nat.le_of_ble_eq_true rfl) rfl (fun ls5 hl5 => ?_)
  clear hl2
  refine lv_aload_n C.hx C.hb dJ29_copyOfRangeByte_14 rfl (lv_at hl5 2 rfl) ?_
  refine lv_iload_n C.hx C.hb dJ29_copyOfRangeByte_15 rfl (lv_at hl5 3 rfl) ?_
  refine lv_aload C.hx C.hb dJ29_copyOfRangeByte_16 (lv_at hl5 0 rfl) ?_
  refine kn_iconst (a := 0) C (by decide) dJ29_copyOfRangeByte_18 ?_
  refine lv_aload_n C.hx C.hb dJ29_copyOfRangeByte_19 rfl (lv_at hl5 2 rfl) ?_
  refine k_alen C 3 rfl ((hRo _ rfl).at hW4) dJ29_copyOfRangeByte_20 ?_
  refine lv_iload_n C.hx C.hb dJ29_copyOfRangeByte_21 rfl (lv_at hl5 3 rfl) ?_
  refine kn_isub C (by omega) dJ29_copyOfRangeByte_22 ?_
  refine lv_iload_n C.hx C.hb dJ29_copyOfRangeByte_23 rfl (lv_at hl5 1 rfl) ?_
  refine k_callS (Sc := []) (Sr := [[(q3, .inl (G.2.2.1 3, mm, .inl (fun j => nI ((fun _ => 0) j))))]]) (As := [.int (nI (n - i)), .int (nI mm)]) (rest := [.int (nI 0), .ref q3, .int (nI i), .ref b]) C (ctJ20_min l G (n - i) mm (by omega) (by omega)) hW4 q542 q543 q97 q544 rfl ⟨by decide, by decide, Eq.trans (b := some 2) (by decide +kernel) rfl⟩ (Nat.le_of_ble_eq_true rfl) (Nat.le_of_ble_eq_true rfl) (show 1 + 0 ≤ 1 by omega) (show (0 + mm) + 0 ≤ mm by omega) hl5.1 rfl (Nat.le_of_ble_eq_true rfl) dJ29_copyOfRangeByte_24 (k_permR _) (fun _ h => h.elim) (fun v H6 locs6 S1 hQ hz6 hW6 => ?_)
  obtain ⟨rfl, rfl⟩ := hQ
  have hW6 : Ws G A s ([[(q3, .inl (G.2.2.1 3, mm, .inl (fun j => nI ((fun _ => 0) j))))]]) H6 locs6 := hW6
  clear hW4
  refine W.eq (g2 := F0 m 27 ls5 [.int (nI (min (n - i) mm)), .int (nI 0), .ref q3, .int (nI i), .ref b]) rfl ?_
  refine k_op (y := .int (nI mm)) (by rw [show min (n - i) mm = mm from by omega]) ?_
  refine k_copyB (S' := [[(q3, .inl (G.2.2.1 3, mm, .inl (fun j => nI (cpN t (fun _ => 0) i 0 mm j))))]]) (k := mm) (sp := i) (dp := 0) C hW6 0 0 ((hRo _ rfl).at hW6) (fun j hj => fit_b _ (ht j hj)) rfl rfl q545 rfl (by omega) (by omega) (by omega) (by omega) (Nat.le_of_ble_eq_true rfl) (Nat.le_of_ble_eq_true rfl) hl5.1 (Nat.le_of_ble_eq_true rfl) dJ29_copyOfRangeByte_27 (by rw [cpN_eq]; rfl) (fun H7 locs7 hW7 => ?_)
  clear hW6
  refine W.eq (g2 := F0 m 30 ls5 []) rfl ?_
  refine lv_aload C.hx C.hb dJ29_copyOfRangeByte_30 (lv_at hl5 0 rfl) ?_
  exact k_aret C hW7 rfl (Or.inr ⟨_, rfl⟩) (Or.inr ⟨_, rfl⟩) ⟨_, rfl, rfl⟩ (by omega) (by omega) dJ29_copyOfRangeByte_32

def Q_ctJ29_copyOfRange (G : GT) (b n i mm : Nat) (t : Nat → Nat) : Option Value → List va_W → Prop := fun v S1 => ∃ q2, v = some (.ref q2) ∧ S1 = [[(q2, .inl (G.2.2.1 3, mm, .inl (fun j => nI ((cpN t (fun _ => 0) i 0 mm) j))))]]
set_option maxHeartbeats 4000000 in
set_option maxRecDepth 100000 in
theorem ctJ29_copyOfRange (l : Launch) (G : GT) (b n i mm : Nat) (t : Nat → Nat) (him : i + mm ≤ n) (hn : n < 2 ^ 26) (ht : ∀ j, j < n → t j < 128) (hne : mm ≠ n) : Ct l G yJ29_copyOfRange cJ29_copyOfRange 3 (some (.array .byte)) 2 53 1 mm [.ref b, .int (nI i), .int (nI (i + mm))] ([]) ((fun z => z = .inl (b, .inl (G.2.2.1 3, n, .inl (fun j => nI (t j)))))) (Q_ctJ29_copyOfRange G b n i mm t) := by
  refine Ct.of (by decide +kernel) (Nat.le_of_ble_eq_true rfl) ?_
  intro p e s m below meth c A ls C hW hRo hl
  have hl : lv_has ls 3 [(0, .ref b), (1, .int (nI i)), (2, .int (nI (i + mm)))] := hl
  refine lv_iload_n C.hx C.hb dJ29_copyOfRange_0 rfl (lv_at hl 1 rfl) ?_
  refine kn_if_ne (tgt := 10) C (by omega) dJ29_copyOfRange_1 (by decide) (fun c1 => ?_) (fun c1 => ?_)
  · refine lv_aload_n C.hx C.hb dJ29_copyOfRange_10 rfl (lv_at hl 0 rfl) ?_
    refine lv_iload_n C.hx C.hb dJ29_copyOfRange_11 rfl (lv_at hl 1 rfl) ?_
    refine lv_iload_n C.hx C.hb dJ29_copyOfRange_12 rfl (lv_at hl 2 rfl) ?_
    refine k_callS (Sc := []) (Sr := []) (As := [.ref b, .int (nI i), .int (nI (i + mm))]) (rest := []) C (ctJ29_copyOfRangeByte l G b n i mm t him hn ht) hW q678 q679 q107 q680 rfl ⟨by decide, by decide, Eq.trans (b := some 3) (by decide +kernel) rfl⟩ (Nat.le_of_ble_eq_true rfl) (Nat.le_of_ble_eq_true rfl) (show 0 + 1 ≤ 1 by omega) (show 0 + mm ≤ mm by omega) hl.1 rfl (Nat.le_of_ble_eq_true rfl) dJ29_copyOfRange_13 (k_permR _) (fun z hz => by cases hz; exact Or.inr (Or.inr (hRo _ rfl))) (fun v H1 locs1 S1 hQ hz1 hW1 => ?_)
    obtain ⟨q2, rfl, rfl⟩ := hQ
    have hW1 : Ws G A s ([[(q2, .inl (G.2.2.1 3, mm, .inl (fun j => nI ((cpN t (fun _ => 0) i 0 mm) j))))]]) H1 locs1 := hW1
    clear hW
    refine W.eq (g2 := F0 m 16 ls [.ref q2]) rfl ?_
    exact k_aret C hW1 rfl (Or.inr ⟨_, rfl⟩) (Or.inr ⟨_, rfl⟩) ⟨_, rfl, rfl⟩ (by omega) (by omega) dJ29_copyOfRange_16
  · refine lv_iload_n C.hx C.hb dJ29_copyOfRange_4 rfl (lv_at hl 2 rfl) ?_
    refine lv_aload_n C.hx C.hb dJ29_copyOfRange_5 rfl (lv_at hl 0 rfl) ?_
    refine k_alen C 3 rfl ((hRo _ rfl).at hW) dJ29_copyOfRange_6 ?_
    refine kn_icmp_eq (tgt := 17) C (by omega) (by omega) dJ29_copyOfRange_7 (by decide) (fun c7 => (absurd c7 (by omega))) (fun c7 => ?_)
    refine lv_aload_n C.hx C.hb dJ29_copyOfRange_10 rfl (lv_at hl 0 rfl) ?_
    refine lv_iload_n C.hx C.hb dJ29_copyOfRange_11 rfl (lv_at hl 1 rfl) ?_
    refine lv_iload_n C.hx C.hb dJ29_copyOfRange_12 rfl (lv_at hl 2 rfl) ?_
    refine k_callS (Sc := []) (Sr := []) (As := [.ref b, .int (nI i), .int (nI (i + mm))]) (rest := []) C (ctJ29_copyOfRangeByte l G b n i mm t him hn ht) hW q678 q679 q107 q680 rfl ⟨by decide, by decide, Eq.trans (b := some 3) (by decide +kernel) rfl⟩ (Nat.le_of_ble_eq_true rfl) (Nat.le_of_ble_eq_true rfl) (show 0 + 1 ≤ 1 by omega) (show 0 + mm ≤ mm by omega) hl.1 rfl (Nat.le_of_ble_eq_true rfl) dJ29_copyOfRange_13 (k_permR _) (fun z hz => by cases hz; exact Or.inr (Or.inr (hRo _ rfl))) (fun v H2 locs2 S1 hQ hz2 hW2 => ?_)
    obtain ⟨q2, rfl, rfl⟩ := hQ
    have hW2 : Ws G A s ([[(q2, .inl (G.2.2.1 3, mm, .inl (fun j => nI ((cpN t (fun _ => 0) i 0 mm) j))))]]) H2 locs2 := hW2
    clear hW
    refine W.eq (g2 := F0 m 16 ls [.ref q2]) rfl ?_
    exact k_aret C hW2 rfl (Or.inr ⟨_, rfl⟩) (Or.inr ⟨_, rfl⟩) ⟨_, rfl, rfl⟩ (by omega) (by omega) dJ29_copyOfRange_16

def Q_ctJ18_init_3 (G : GT) (a b : Nat) : Option Value → List va_W → Prop := fun v S1 => v = none ∧ S1 = [[(a, .inr (17, [.ref b, .int (nI 0), .int 0, .int 0]))]]
set_option maxHeartbeats 4000000 in
set_option maxRecDepth 100000 in
theorem ctJ18_init_3 (l : Launch) (G : GT) (a b : Nat)  : Ct l G yJ18_init_3 cJ18_init_3 3 none 1 20 0 0 [.ref a, .ref b, .int (nI 0)] ([[(a, .inr (17, [.null, .int 0, .int 0, .int 0]))]]) noR (Q_ctJ18_init_3 G a b) := by
  refine Ct.of (by decide +kernel) (Nat.le_of_ble_eq_true rfl) ?_
  intro p e s m below meth c A ls C hW hRo hl
  have hl : lv_has ls 3 [(0, .ref a), (1, .ref b), (2, .int (nI 0))] := hl
  refine lv_aload_n C.hx C.hb dJ18_init_3_0 rfl (lv_at hl 0 rfl) ?_
  refine W.objInit C.hx C.hb C.hown (C.hts _ q660) (C.hts _ q133) (C.hts _ q134) rfl (by rw [C.hml]; exact hl.1) rfl dJ18_init_3_1 (Nat.le_of_ble_eq_true rfl) (Nat.le_of_ble_eq_true rfl) ?_
  refine W.eq (g2 := F0 m 4 ls []) rfl ?_
  refine lv_aload_n C.hx C.hb dJ18_init_3_4 rfl (lv_at hl 0 rfl) ?_
  refine lv_aload_n C.hx C.hb dJ18_init_3_5 rfl (lv_at hl 1 rfl) ?_
  refine k_put (S' := [[(a, .inr (17, [.ref b, .int 0, .int 0, .int 0]))]]) C clJ18 hW 0 0 rfl rfl 0 (Nat.le_of_ble_eq_true rfl) rfl q737 rfl (fun _ h => h) (Or.inr ⟨rfl, rfl⟩) (fty := (.array .byte)) (v := .ref b) (by decide +kernel) rfl rfl (Nat.le_of_ble_eq_true rfl) dJ18_init_3_6 rfl (fun H1 locs1 hW1 => ?_)
  clear hW
  refine lv_aload_n C.hx C.hb dJ18_init_3_9 rfl (lv_at hl 0 rfl) ?_
  refine lv_iload_n C.hx C.hb dJ18_init_3_10 rfl (lv_at hl 2 rfl) ?_
  refine k_put (S' := [[(a, .inr (17, [.ref b, .int (nI 0), .int 0, .int 0]))]]) C clJ18 hW1 0 0 rfl rfl 1 (Nat.le_of_ble_eq_true rfl) rfl q738 rfl (fun _ h => h) (Or.inr ⟨rfl, rfl⟩) (fty := .byte) (v := .int (nI 0)) (by decide +kernel) (by decide) (by decide) (Nat.le_of_ble_eq_true rfl) dJ18_init_3_11 rfl (fun H2 locs2 hW2 => ?_)
  clear hW1
  exact k_vret C hW2 rfl ⟨rfl, rfl⟩ (Nat.le_refl _) (Nat.le_refl _) dJ18_init_3_14

def Q_ctJ19_newString (G : GT) (b n i mm : Nat) (t : Nat → Nat) : Option Value → List va_W → Prop := fun v S1 => ∃ q q2, v = some (.ref q) ∧ S1 = [[(q, .inr (17, [.ref q2, .int (nI 0), .int 0, .int 0]))], [(q2, .inl (G.2.2.1 3, mm, .inl (fun j => nI ((cpN t (fun _ => 0) i 0 mm) j))))]]
set_option maxHeartbeats 4000000 in
set_option maxRecDepth 100000 in
theorem ctJ19_newString (l : Launch) (G : GT) (b n i mm : Nat) (t : Nat → Nat) (him : i + mm ≤ n) (hn : n < 2 ^ 26) (ht : ∀ j, j < n → t j < 128) (hne : mm ≠ n) (h0 : 0 < mm) : Ct l G yJ19_newString cJ19_newString 3 (some (.object "java/lang/String")) 3 75 2 ((mm + 4)) [.ref b, .int (nI i), .int (nI mm)] ([]) ((fun z => z = .inl (b, .inl (G.2.2.1 3, n, .inl (fun j => nI (t j)))))) (Q_ctJ19_newString G b n i mm t) := by
  refine Ct.of (by decide +kernel) (Nat.le_of_ble_eq_true rfl) ?_
  intro p e s m below meth c A ls C hW hRo hl
  have hl : lv_has ls 3 [(0, .ref b), (1, .int (nI i)), (2, .int (nI mm))] := hl
  refine lv_iload_n C.hx C.hb dJ19_newString_0 rfl (lv_at hl 2 rfl) ?_
  refine kn_if_ne (tgt := 7) C (by omega) dJ19_newString_1 (by decide) (fun c1 => ?_) (fun c1 => (absurd c1 (by omega)))
  refine k_new (fs := [.null, .int 0, .int 0, .int 0]) C clJ18 hW q1156 rfl q653 q95 (fun j hj => (by have := co_dec (P := fun j => defaultValue (tyJ18 j) = vp_V [.null, .int 0, .int 0, .int 0] j) (N := 4) (by decide +kernel) hj; exact this)) (show 0 + 1 ≤ 2 by omega) (show 0 + 4 ≤ (mm + 4) by omega) dJ19_newString_7 (fun q1 H1 hW1 => ?_)
  have hW1 : Ws G A s [[(q1, .inr (17, [.null, .int 0, .int 0, .int 0]))]] H1 [] := hW1
  clear hW
  refine lv_dup C.hx C.hb dJ19_newString_10 rfl ?_
  refine lv_aload_n C.hx C.hb dJ19_newString_11 rfl (lv_at hl 0 rfl) ?_
  refine lv_iload_n C.hx C.hb dJ19_newString_12 rfl (lv_at hl 1 rfl) ?_
  refine lv_iload_n C.hx C.hb dJ19_newString_13 rfl (lv_at hl 1 rfl) ?_
  refine lv_iload_n C.hx C.hb dJ19_newString_14 rfl (lv_at hl 2 rfl) ?_
  refine kn_iadd C  dJ19_newString_15 ?_
  refine k_callS (Sc := []) (Sr := [[(q1, .inr (17, [.null, .int 0, .int 0, .int 0]))]]) (As := [.ref b, .int (nI i), .int (nI (i + mm))]) (rest := [.ref q1, .ref q1]) C (ctJ29_copyOfRange l G b n i mm t him hn ht hne) hW1 q1157 q676 q107 q677 rfl ⟨by decide, by decide, Eq.trans (b := some 3) (by decide +kernel) rfl⟩ (Nat.le_of_ble_eq_true rfl) (Nat.le_of_ble_eq_true rfl) (show 1 + 1 ≤ 2 by omega) (show 4 + mm ≤ (mm + 4) by omega) hl.1 rfl (Nat.le_of_ble_eq_true rfl) dJ19_newString_16 (k_permR _) (fun z hz => by cases hz; exact Or.inr (Or.inr (hRo _ rfl))) (fun v H2 locs2 S1 hQ hz2 hW2 => ?_)
  obtain ⟨q2, rfl, rfl⟩ := hQ
  have hW2 : Ws G A s ([[(q1, .inr (17, [.null, .int 0, .int 0, .int 0]))], [(q2, .inl (G.2.2.1 3, mm, .inl (fun j => nI ((cpN t (fun _ => 0) i 0 mm) j))))]]) H2 locs2 := hW2
  clear hW1
  refine W.eq (g2 := F0 m 19 ls [.ref q2, .ref q1, .ref q1]) rfl ?_
  refine kn_iconst (a := 0) C (by decide) dJ19_newString_19 ?_
  refine k_callI (Sc := [[(q1, .inr (17, [.null, .int 0, .int 0, .int 0]))]]) (Sr := [[(q2, .inl (G.2.2.1 3, mm, .inl (fun j => nI ((cpN t (fun _ => 0) i 0 mm) j))))]]) (As := [.ref q2, .int (nI 0)]) (rest := [.ref q1]) C (ctJ18_init_3 l G q1 q2) hW2 q1158 q1159 q95 q1160 rfl rfl ⟨by decide, by decide, Eq.trans (b := some 2) (by decide +kernel) rfl⟩ (Nat.le_of_ble_eq_true rfl) (Nat.le_of_ble_eq_true rfl) (show 2 + 0 ≤ 2 by omega) (show (4 + mm) + 0 ≤ (mm + 4) by omega) hl.1 rfl (Nat.le_of_ble_eq_true rfl) dJ19_newString_20 ((pick_perm [[(q1, .inr (17, [.null, .int 0, .int 0, .int 0]))], [(q2, .inl (G.2.2.1 3, mm, .inl (fun j => nI ((cpN t (fun _ => 0) i 0 mm) j))))]] 2 rfl (is := [1, 0]) (by decide)).flatten.symm) (fun _ h => h.elim) (fun v H3 locs3 S1 hQ hz3 hW3 => ?_)
  obtain ⟨rfl, rfl⟩ := hQ
  have hW3 : Ws G A s ([[(q2, .inl (G.2.2.1 3, mm, .inl (fun j => nI ((cpN t (fun _ => 0) i 0 mm) j))))], [(q1, .inr (17, [.ref q2, .int (nI 0), .int 0, .int 0]))]]) H3 locs3 := hW3
  clear hW2
  refine W.eq (g2 := F0 m 23 ls [.ref q1]) rfl ?_
  have hW4 : Ws G A s [[(q1, .inr (17, [.ref q2, .int (nI 0), .int 0, .int 0]))], [(q2, .inl (G.2.2.1 3, mm, .inl (fun j => nI ((cpN t (fun _ => 0) i 0 mm) j))))]] H3 locs3 := hW3.pick 2 rfl [1, 0] (by decide) rfl
  clear hW3
  exact k_aret C hW4 rfl (Or.inl ⟨_, rfl⟩) (Or.inr ⟨_, rfl⟩) ⟨_, _, rfl, rfl⟩ (by omega) (by omega) dJ19_newString_23

def Q_ctJ18_substring (G : GT) (a b n i mm : Nat) (h zz : Int32) (t : Nat → Nat) : Option Value → List va_W → Prop := fun v S1 => ∃ q q2, v = some (.ref q) ∧ S1 = [[(q, .inr (17, [.ref q2, .int (nI 0), .int 0, .int 0]))], [(q2, .inl (G.2.2.1 3, mm, .inl (fun j => nI ((cpN t (fun _ => 0) i 0 mm) j))))]]
set_option maxHeartbeats 4000000 in
set_option maxRecDepth 100000 in
theorem ctJ18_substring (l : Launch) (G : GT) (a b n i mm : Nat) (h zz : Int32) (t : Nat → Nat) (him : i + mm ≤ n) (hn : n < 2 ^ 26) (ht : ∀ j, j < n → t j < 128) (hne : mm ≠ n) (h0 : 0 < mm) : Ct l G yJ18_substring cJ18_substring 5 (some (.object "java/lang/String")) 4 97 2 ((mm + 4)) [.ref a, .int (nI i), .int (nI (i + mm))] ([]) ((fun z => z = .inl (a, .inr (17, [.ref b, .int (nI 0), .int h, .int zz])) ∨ z = .inl (b, .inl (G.2.2.1 3, n, .inl (fun j => nI (t j)))))) (Q_ctJ18_substring G a b n i mm h zz t) := by
  refine Ct.of (by decide +kernel) (Nat.le_of_ble_eq_true rfl) ?_
  intro p e s m below meth c A ls C hW hRo hl
  have hl : lv_has ls 5 [(0, .ref a), (1, .int (nI i)), (2, .int (nI (i + mm)))] := hl
  refine lv_aload_n C.hx C.hb dJ18_substring_0 rfl (lv_at hl 0 rfl) ?_
  refine k_callV (Sc := []) (Sr := []) (As := []) (rest := []) C (ctJ18_length l G a b n h zz t) hW clJ18 ((hRo _ (Or.inl rfl)).at hW) q1146 q580 q581 q95 q582 rfl rfl ⟨by decide, by decide, Eq.trans (b := some 0) (by decide +kernel) rfl⟩ (Nat.le_of_ble_eq_true rfl) (Nat.le_of_ble_eq_true rfl) (show 0 + 0 ≤ 2 by omega) (show 0 + 0 ≤ (mm + 4) by omega) hl.1 rfl (Nat.le_of_ble_eq_true rfl) dJ18_substring_1 (k_permR _) (fun z => (fun hz => hz.elim (fun e => by cases e; exact Or.inr (Or.inr (hRo _ (Or.inl rfl)))) (fun e => by cases e; exact Or.inr (Or.inr (hRo _ (Or.inr rfl)))))) (fun v H1 locs1 S1 hQ hz1 hW1 => ?_)
  obtain ⟨rfl, rfl⟩ := hQ
  have hW1 : Ws G A s ([]) H1 locs1 := hW1
  clear hW
  refine W.eq (g2 := F0 m 4 ls [.int (nI n)]) rfl ?_
  refine lv_istore_n (lv' := [(3, .int (nI n)), (0, .ref a), (1, .int (nI i)), (2, .int (nI (i + mm)))]) C.hx C.hb dJ18_substring_4 rfl hl (Nat.le_of_ble_eq_true rfl) rfl (fun ls2 hl2 => ?_)
  clear hl
  refine lv_iload_n C.hx C.hb dJ18_substring_5 rfl (lv_at hl2 2 rfl) ?_
  refine lv_iload_n C.hx C.hb dJ18_substring_6 rfl (lv_at hl2 3 rfl) ?_
  refine lv_iload_n C.hx C.hb dJ18_substring_7 rfl (lv_at hl2 0 rfl) ?_
  refine k_callS (Sc := []) (Sr := []) (As := [.int (nI i), .int (nI (i + mm)), .int (nI n)]) (rest := []) C (ctJ18_checkBoundsBeginEnd l G i (i + mm) n (by omega) (by omega) (by omega)) hW1 q1147 q563 q95 q564 rfl ⟨by decide, by decide, Eq.trans (b := some 3) (by decide +kernel) rfl⟩ (Nat.le_of_ble_eq_true rfl) (Nat.le_of_ble_eq_true rfl) (show 0 + 0 ≤ 2 by omega) (show 0 + 0 ≤ (mm + 4) by omega) hl2.1 rfl (Nat.le_of_ble_eq_true rfl) dJ18_substring_8 (k_permR _) (fun _ h => h.elim) (fun v H3 locs3 S1 hQ hz3 hW3 => ?_)
  obtain ⟨rfl, rfl⟩ := hQ
  have hW3 : Ws G A s ([]) H3 locs3 := hW3
  clear hW1
  refine W.eq (g2 := F0 m 11 ls2 []) rfl ?_
  refine lv_iload_n C.hx C.hb dJ18_substring_11 rfl (lv_at hl2 2 rfl) ?_
  refine kn_if_ne (tgt := 22) C (by omega) dJ18_substring_12 (by decide) (fun c12 => ?_) (fun c12 => ?_)
  · refine lv_iload_n C.hx C.hb dJ18_substring_22 rfl (lv_at hl2 3 rfl) ?_
    refine lv_iload_n C.hx C.hb dJ18_substring_23 rfl (lv_at hl2 2 rfl) ?_
    refine kn_isub C (by omega) dJ18_substring_24 ?_
    refine k_op (y := .int (nI mm)) (by rw [Nat.add_sub_cancel_left]) ?_
    refine lv_istore (lv' := [(4, .int (nI mm)), (3, .int (nI n)), (0, .ref a), (1, .int (nI i)), (2, .int (nI (i + mm)))]) C.hx C.hb dJ18_substring_25 hl2 (Nat.le_of_ble_eq_true rfl) rfl (fun ls4 hl4 => ?_)
    clear hl2
    refine lv_aload_n C.hx C.hb dJ18_substring_27 rfl (lv_at hl4 2 rfl) ?_
    refine k_callV (Sc := []) (Sr := []) (As := []) (rest := []) C (ctJ18_isLatin1 l G a b h zz) hW3 clJ18 ((hRo _ (Or.inl rfl)).at hW3) q1148 q1149 q1150 q95 q1151 rfl rfl ⟨by decide, by decide, Eq.trans (b := some 0) (by decide +kernel) rfl⟩ (Nat.le_of_ble_eq_true rfl) (Nat.le_of_ble_eq_true rfl) (show 0 + 0 ≤ 2 by omega) (show 0 + 0 ≤ (mm + 4) by omega) hl4.1 rfl (Nat.le_of_ble_eq_true rfl) dJ18_substring_28 (k_permR _) (fun z hz => by cases hz; exact Or.inr (Or.inr (hRo _ (Or.inl rfl)))) (fun v H5 locs5 S1 hQ hz5 hW5 => ?_)
    obtain ⟨rfl, rfl⟩ := hQ
    have hW5 : Ws G A s ([]) H5 locs5 := hW5
    clear hW3
    refine W.eq (g2 := F0 m 31 ls4 [.int (nI 1)]) rfl ?_
    refine kn_if_eq (tgt := 47) C (by decide) dJ18_substring_31 (by decide) (fun cq => absurd cq (by decide)) (fun cq => ?_)
    refine lv_aload_n C.hx C.hb dJ18_substring_34 rfl (lv_at hl4 2 rfl) ?_
    refine k_get (v := .ref b) C clJ18 ((hRo _ (Or.inl rfl)).at hW5) 0 (Nat.le_of_ble_eq_true rfl) rfl q737 rfl rfl dJ18_substring_35 ?_
    refine lv_iload_n C.hx C.hb dJ18_substring_38 rfl (lv_at hl4 3 rfl) ?_
    refine lv_iload C.hx C.hb dJ18_substring_39 (lv_at hl4 0 rfl) ?_
    refine k_callS (Sc := []) (Sr := []) (As := [.ref b, .int (nI i), .int (nI mm)]) (rest := []) C (ctJ19_newString l G b n i mm t him hn ht hne h0) hW5 q1152 q1153 q96 q1154 rfl ⟨by decide, by decide, Eq.trans (b := some 3) (by decide +kernel) rfl⟩ (Nat.le_of_ble_eq_true rfl) (Nat.le_of_ble_eq_true rfl) (show 0 + 2 ≤ 2 by omega) (show 0 + (mm + 4) ≤ (mm + 4) by omega) hl4.1 rfl (Nat.le_of_ble_eq_true rfl) dJ18_substring_41 (k_permR _) (fun z hz => by cases hz; exact Or.inr (Or.inr (hRo _ (Or.inr rfl)))) (fun v H6 locs6 S1 hQ hz6 hW6 => ?_)
    obtain ⟨q, q2, rfl, rfl⟩ := hQ
    have hW6 : Ws G A s ([[(q, .inr (17, [.ref q2, .int (nI 0), .int 0, .int 0]))], [(q2, .inl (G.2.2.1 3, mm, .inl (fun j => nI ((cpN t (fun _ => 0) i 0 mm) j))))]]) H6 locs6 := hW6
    clear hW5
    refine W.eq (g2 := F0 m 44 ls4 [.ref q]) rfl ?_
    refine lv_goto (tgt := 57) C.hx C.hb dJ18_substring_44 (by decide) ?_
    exact k_aret C hW6 rfl (Or.inl ⟨_, rfl⟩) (Or.inr ⟨_, rfl⟩) ⟨_, _, rfl, rfl⟩ (by omega) (by omega) dJ18_substring_57
  · refine lv_iload_n C.hx C.hb dJ18_substring_15 rfl (lv_at hl2 3 rfl) ?_
    refine lv_iload_n C.hx C.hb dJ18_substring_16 rfl (lv_at hl2 0 rfl) ?_
    refine kn_icmp_ne (tgt := 22) C (by omega) (by omega) dJ18_substring_17 (by decide) (fun c17 => ?_) (fun c17 => (absurd c17 (by omega)))
    refine lv_iload_n C.hx C.hb dJ18_substring_22 rfl (lv_at hl2 3 rfl) ?_
    refine lv_iload_n C.hx C.hb dJ18_substring_23 rfl (lv_at hl2 2 rfl) ?_
    refine kn_isub C (by omega) dJ18_substring_24 ?_
    refine k_op (y := .int (nI mm)) (by rw [Nat.add_sub_cancel_left]) ?_
    refine lv_istore (lv' := [(4, .int (nI mm)), (3, .int (nI n)), (0, .ref a), (1, .int (nI i)), (2, .int (nI (i + mm)))]) C.hx C.hb dJ18_substring_25 hl2 (Nat.le_of_ble_eq_true rfl) rfl (fun ls7 hl7 => ?_)
    clear hl2
    refine lv_aload_n C.hx C.hb dJ18_substring_27 rfl (lv_at hl7 2 rfl) ?_
    refine k_callV (Sc := []) (Sr := []) (As := []) (rest := []) C (ctJ18_isLatin1 l G a b h zz) hW3 clJ18 ((hRo _ (Or.inl rfl)).at hW3) q1148 q1149 q1150 q95 q1151 rfl rfl ⟨by decide, by decide, Eq.trans (b := some 0) (by decide +kernel) rfl⟩ (Nat.le_of_ble_eq_true rfl) (Nat.le_of_ble_eq_true rfl) (show 0 + 0 ≤ 2 by omega) (show 0 + 0 ≤ (mm + 4) by omega) hl7.1 rfl (Nat.le_of_ble_eq_true rfl) dJ18_substring_28 (k_permR _) (fun z hz => by cases hz; exact Or.inr (Or.inr (hRo _ (Or.inl rfl)))) (fun v H8 locs8 S1 hQ hz8 hW8 => ?_)
    obtain ⟨rfl, rfl⟩ := hQ
    have hW8 : Ws G A s ([]) H8 locs8 := hW8
    clear hW3
    refine W.eq (g2 := F0 m 31 ls7 [.int (nI 1)]) rfl ?_
    refine kn_if_eq (tgt := 47) C (by decide) dJ18_substring_31 (by decide) (fun cq => absurd cq (by decide)) (fun cq => ?_)
    refine lv_aload_n C.hx C.hb dJ18_substring_34 rfl (lv_at hl7 2 rfl) ?_
    refine k_get (v := .ref b) C clJ18 ((hRo _ (Or.inl rfl)).at hW8) 0 (Nat.le_of_ble_eq_true rfl) rfl q737 rfl rfl dJ18_substring_35 ?_
    refine lv_iload_n C.hx C.hb dJ18_substring_38 rfl (lv_at hl7 3 rfl) ?_
    refine lv_iload C.hx C.hb dJ18_substring_39 (lv_at hl7 0 rfl) ?_
    refine k_callS (Sc := []) (Sr := []) (As := [.ref b, .int (nI i), .int (nI mm)]) (rest := []) C (ctJ19_newString l G b n i mm t him hn ht hne h0) hW8 q1152 q1153 q96 q1154 rfl ⟨by decide, by decide, Eq.trans (b := some 3) (by decide +kernel) rfl⟩ (Nat.le_of_ble_eq_true rfl) (Nat.le_of_ble_eq_true rfl) (show 0 + 2 ≤ 2 by omega) (show 0 + (mm + 4) ≤ (mm + 4) by omega) hl7.1 rfl (Nat.le_of_ble_eq_true rfl) dJ18_substring_41 (k_permR _) (fun z hz => by cases hz; exact Or.inr (Or.inr (hRo _ (Or.inr rfl)))) (fun v H9 locs9 S1 hQ hz9 hW9 => ?_)
    obtain ⟨q, q2, rfl, rfl⟩ := hQ
    have hW9 : Ws G A s ([[(q, .inr (17, [.ref q2, .int (nI 0), .int 0, .int 0]))], [(q2, .inl (G.2.2.1 3, mm, .inl (fun j => nI ((cpN t (fun _ => 0) i 0 mm) j))))]]) H9 locs9 := hW9
    clear hW8
    refine W.eq (g2 := F0 m 44 ls7 [.ref q]) rfl ?_
    refine lv_goto (tgt := 57) C.hx C.hb dJ18_substring_44 (by decide) ?_
    exact k_aret C hW9 rfl (Or.inl ⟨_, rfl⟩) (Or.inr ⟨_, rfl⟩) ⟨_, _, rfl, rfl⟩ (by omega) (by omega) dJ18_substring_57

def Q_ctX8_text (G : GT) (w : Nat) : Option Value → List va_W → Prop := fun v S1 => ∃ q q2, v = some (.ref q) ∧ S1 = [[(q, .inr (17, [.ref q2, .int (nI 0), .int 0, .int 0]))], [(q2, .inl (G.2.2.1 3, 4, .inl (fun j => nI ((cpN (txN 0) (fun _ => 0) (5 * w) 0 4) j))))]]
set_option maxHeartbeats 4000000 in
set_option maxRecDepth 100000 in
theorem ctX8_text (l : Launch) (G : GT) (w : Nat) (hw : w < 4) : Ct l G yX8_text cX8_text 1 (some (.object "java/lang/String")) 5 121 2 8 [.int (nI w)] ([]) noR (Q_ctX8_text G w) := by
  refine Ct.of (by decide +kernel) (Nat.le_of_ble_eq_true rfl) ?_
  intro p e s m below meth c A ls C hW hRo hl
  have hl : lv_has ls 1 [(0, .int (nI w))] := hl
  refine k_ldcS C (List.mem_of_getElem? (i := 0) rfl) rfl dX8_text_0 ?_
  refine kn_iconst (a := 5) C (by decide) dX8_text_2 ?_
  refine lv_iload_n C.hx C.hb dX8_text_3 rfl (lv_at hl 0 rfl) ?_
  refine kn_imul C  dX8_text_4 ?_
  refine kn_iconst (a := 5) C (by decide) dX8_text_5 ?_
  refine lv_iload_n C.hx C.hb dX8_text_6 rfl (lv_at hl 0 rfl) ?_
  refine kn_imul C  dX8_text_7 ?_
  refine kn_iconst (a := 4) C (by decide) dX8_text_8 ?_
  refine kn_iadd C  dX8_text_9 ?_
  refine k_callV (Sc := []) (Sr := []) (As := [.int (nI (5 * w)), .int (nI ((5 * w) + 4))]) (rest := []) C (ctJ18_substring l G (G.2.2.2 10) (G.2.2.2 20) 20 (5 * w) 4 (kHs 0) (kHz 0) (txN 0) (by omega) (by decide) (fun j _ => kTx_lt 0 j) (by decide) (by decide)) hW clJ18 ((Ro_str C.hX hW.2.2.2.2 0 (by decide)).at hW) q1142 q1143 q1144 q95 q1145 rfl rfl ⟨by decide, by decide, Eq.trans (b := some 2) (by decide +kernel) rfl⟩ (Nat.le_of_ble_eq_true rfl) (Nat.le_of_ble_eq_true rfl) (show 0 + 2 ≤ 2 by omega) (show 0 + 8 ≤ 8 by omega) hl.1 rfl (Nat.le_of_ble_eq_true rfl) dX8_text_10 (k_permR _) (fun z => (fun hz => hz.elim (fun e => by cases e; exact Or.inr (Or.inr (Ro_str C.hX hW.2.2.2.2 0 (by decide)))) (fun e => by cases e; exact Or.inr (Or.inr (Ro_txt C.hX hW.2.2.2.2 0 (by decide)))))) (fun v H1 locs1 S1 hQ hz1 hW1 => ?_)
  obtain ⟨q, q2, rfl, rfl⟩ := hQ
  have hW1 : Ws G A s ([[(q, .inr (17, [.ref q2, .int (nI 0), .int 0, .int 0]))], [(q2, .inl (G.2.2.1 3, 4, .inl (fun j => nI ((cpN (txN 0) (fun _ => 0) (5 * w) 0 4) j))))]]) H1 locs1 := hW1
  clear hW
  refine W.eq (g2 := F0 m 13 ls [.ref q]) rfl ?_
  exact k_aret C hW1 rfl (Or.inl ⟨_, rfl⟩) (Or.inr ⟨_, rfl⟩) ⟨_, _, rfl, rfl⟩ (by omega) (by omega) dX8_text_13

def Q_ctJ21_signedHashCode (G : GT) (b : Nat) (t : Nat → Nat) : Option Value → List va_W → Prop := fun v S1 => v = some (.int (nI (hsN t))) ∧ S1 = []
set_option maxHeartbeats 4000000 in
set_option maxRecDepth 100000 in
theorem ctJ21_signedHashCode (l : Launch) (G : GT) (b : Nat) (t : Nat → Nat)  : Ct l G yJ21_signedHashCode cJ21_signedHashCode 6 (some .int) 0 0 0 0 [.int (nI 0), .ref b, .int (nI 0), .int (nI 4)] ([]) ((fun z => z = .inl (b, .inl (G.2.2.1 3, 4, .inl (fun j => nI (t j)))))) (Q_ctJ21_signedHashCode G b t) := by
  refine Ct.of (by decide +kernel) (Nat.le_of_ble_eq_true rfl) ?_
  intro p e s m below meth c A ls C hW hRo hl
  have hl : lv_has ls 6 [(0, .int (nI 0)), (1, .ref b), (2, .int (nI 0)), (3, .int (nI 4))] := hl
  refine lv_iload_n C.hx C.hb dJ21_signedHashCode_0 rfl (lv_at hl 2 rfl) ?_
  refine lv_iload_n C.hx C.hb dJ21_signedHashCode_1 rfl (lv_at hl 3 rfl) ?_
  refine kn_iadd C  dJ21_signedHashCode_2 ?_
  refine k_op (y := .int (nI 4)) rfl ?_
  refine lv_istore (lv' := [(4, .int (nI 4)), (0, .int (nI 0)), (1, .ref b), (2, .int (nI 0)), (3, .int (nI 4))]) C.hx C.hb dJ21_signedHashCode_3 hl (Nat.le_of_ble_eq_true rfl) rfl (fun ls1 hl1 => ?_)
  clear hl
  refine lv_iload_n C.hx C.hb dJ21_signedHashCode_5 rfl (lv_at hl1 3 rfl) ?_
  refine lv_istore (lv' := [(5, .int (nI 0)), (4, .int (nI 4)), (0, .int (nI 0)), (1, .ref b), (2, .int (nI 0)), (3, .int (nI 4))]) C.hx C.hb dJ21_signedHashCode_6 hl1 (Nat.le_of_ble_eq_true rfl) rfl (fun ls2 hl2 => ?_)
  clear hl1
  refine lv_iload C.hx C.hb dJ21_signedHashCode_8 (lv_at hl2 0 rfl) ?_
  refine lv_iload C.hx C.hb dJ21_signedHashCode_10 (lv_at hl2 1 rfl) ?_
  refine kn_icmp_ge (tgt := 35) C (by decide) (by decide) dJ21_signedHashCode_12 (by decide) (fun cq => absurd cq (by decide)) (fun cq => ?_)
  refine kn_bipush (a := 31) C (by decide) dJ21_signedHashCode_15 ?_
  refine lv_iload_n C.hx C.hb dJ21_signedHashCode_17 rfl (lv_at hl2 2 rfl) ?_
  refine kn_imul C  dJ21_signedHashCode_18 ?_
  refine lv_aload_n C.hx C.hb dJ21_signedHashCode_19 rfl (lv_at hl2 3 rfl) ?_
  refine lv_iload C.hx C.hb dJ21_signedHashCode_20 (lv_at hl2 0 rfl) ?_
  refine k_bald C (f := (fun j => nI (t j))) rfl ((hRo _ rfl).at hW) (by decide) (by decide) dJ21_signedHashCode_22 ?_
  refine kn_sipush (a := 255) C (by decide) dJ21_signedHashCode_23 ?_
  refine kn_iand C dJ21_signedHashCode_26 ?_
  refine kn_iadd C  dJ21_signedHashCode_27 ?_
  refine lv_istore_n (lv' := [(0, .int (nI ((31 * 0) + ((t 0) &&& 255)))), (5, .int (nI 0)), (4, .int (nI 4)), (1, .ref b), (2, .int (nI 0)), (3, .int (nI 4))]) C.hx C.hb dJ21_signedHashCode_28 rfl hl2 (Nat.le_of_ble_eq_true rfl) rfl (fun ls3 hl3 => ?_)
  clear hl2
  refine kn_iinc (lv' := [(5, .int (nI 1)), (0, .int (nI ((31 * 0) + ((t 0) &&& 255)))), (4, .int (nI 4)), (1, .ref b), (2, .int (nI 0)), (3, .int (nI 4))]) (k := 1) C dJ21_signedHashCode_29 hl3 rfl (Nat.le_of_ble_eq_true rfl) rfl (fun ls4 hl4 => ?_)
  clear hl3
  refine lv_goto (tgt := 8) C.hx C.hb dJ21_signedHashCode_32 (by decide) ?_
  refine lv_iload C.hx C.hb dJ21_signedHashCode_8 (lv_at hl4 0 rfl) ?_
  refine lv_iload C.hx C.hb dJ21_signedHashCode_10 (lv_at hl4 2 rfl) ?_
  refine kn_icmp_ge (tgt := 35) C (by decide) (by decide) dJ21_signedHashCode_12 (by decide) (fun cq => absurd cq (by decide)) (fun cq => ?_)
  refine kn_bipush (a := 31) C (by decide) dJ21_signedHashCode_15 ?_
  refine lv_iload_n C.hx C.hb dJ21_signedHashCode_17 rfl (lv_at hl4 1 rfl) ?_
  refine kn_imul C  dJ21_signedHashCode_18 ?_
  refine lv_aload_n C.hx C.hb dJ21_signedHashCode_19 rfl (lv_at hl4 3 rfl) ?_
  refine lv_iload C.hx C.hb dJ21_signedHashCode_20 (lv_at hl4 0 rfl) ?_
  refine k_bald C (f := (fun j => nI (t j))) rfl ((hRo _ rfl).at hW) (by decide) (by decide) dJ21_signedHashCode_22 ?_
  refine kn_sipush (a := 255) C (by decide) dJ21_signedHashCode_23 ?_
  refine kn_iand C dJ21_signedHashCode_26 ?_
  refine kn_iadd C  dJ21_signedHashCode_27 ?_
  refine lv_istore_n (lv' := [(0, .int (nI ((31 * ((31 * 0) + ((t 0) &&& 255))) + ((t 1) &&& 255)))), (5, .int (nI 1)), (4, .int (nI 4)), (1, .ref b), (2, .int (nI 0)), (3, .int (nI 4))]) C.hx C.hb dJ21_signedHashCode_28 rfl hl4 (Nat.le_of_ble_eq_true rfl) rfl (fun ls5 hl5 => ?_)
  clear hl4
  refine kn_iinc (lv' := [(5, .int (nI 2)), (0, .int (nI ((31 * ((31 * 0) + ((t 0) &&& 255))) + ((t 1) &&& 255)))), (4, .int (nI 4)), (1, .ref b), (2, .int (nI 0)), (3, .int (nI 4))]) (k := 1) C dJ21_signedHashCode_29 hl5 rfl (Nat.le_of_ble_eq_true rfl) rfl (fun ls6 hl6 => ?_)
  clear hl5
  refine lv_goto (tgt := 8) C.hx C.hb dJ21_signedHashCode_32 (by decide) ?_
  refine lv_iload C.hx C.hb dJ21_signedHashCode_8 (lv_at hl6 0 rfl) ?_
  refine lv_iload C.hx C.hb dJ21_signedHashCode_10 (lv_at hl6 2 rfl) ?_
  refine kn_icmp_ge (tgt := 35) C (by decide) (by decide) dJ21_signedHashCode_12 (by decide) (fun cq => absurd cq (by decide)) (fun cq => ?_)
  refine kn_bipush (a := 31) C (by decide) dJ21_signedHashCode_15 ?_
  refine lv_iload_n C.hx C.hb dJ21_signedHashCode_17 rfl (lv_at hl6 1 rfl) ?_
  refine kn_imul C  dJ21_signedHashCode_18 ?_
  refine lv_aload_n C.hx C.hb dJ21_signedHashCode_19 rfl (lv_at hl6 3 rfl) ?_
  refine lv_iload C.hx C.hb dJ21_signedHashCode_20 (lv_at hl6 0 rfl) ?_
  refine k_bald C (f := (fun j => nI (t j))) rfl ((hRo _ rfl).at hW) (by decide) (by decide) dJ21_signedHashCode_22 ?_
  refine kn_sipush (a := 255) C (by decide) dJ21_signedHashCode_23 ?_
  refine kn_iand C dJ21_signedHashCode_26 ?_
  refine kn_iadd C  dJ21_signedHashCode_27 ?_
  refine lv_istore_n (lv' := [(0, .int (nI ((31 * ((31 * ((31 * 0) + ((t 0) &&& 255))) + ((t 1) &&& 255))) + ((t 2) &&& 255)))), (5, .int (nI 2)), (4, .int (nI 4)), (1, .ref b), (2, .int (nI 0)), (3, .int (nI 4))]) C.hx C.hb dJ21_signedHashCode_28 rfl hl6 (Nat.le_of_ble_eq_true rfl) rfl (fun ls7 hl7 => ?_)
  clear hl6
  refine kn_iinc (lv' := [(5, .int (nI 3)), (0, .int (nI ((31 * ((31 * ((31 * 0) + ((t 0) &&& 255))) + ((t 1) &&& 255))) + ((t 2) &&& 255)))), (4, .int (nI 4)), (1, .ref b), (2, .int (nI 0)), (3, .int (nI 4))]) (k := 1) C dJ21_signedHashCode_29 hl7 rfl (Nat.le_of_ble_eq_true rfl) rfl (fun ls8 hl8 => ?_)
  clear hl7
  refine lv_goto (tgt := 8) C.hx C.hb dJ21_signedHashCode_32 (by decide) ?_
  refine lv_iload C.hx C.hb dJ21_signedHashCode_8 (lv_at hl8 0 rfl) ?_
  refine lv_iload C.hx C.hb dJ21_signedHashCode_10 (lv_at hl8 2 rfl) ?_
  refine kn_icmp_ge (tgt := 35) C (by decide) (by decide) dJ21_signedHashCode_12 (by decide) (fun cq => absurd cq (by decide)) (fun cq => ?_)
  refine kn_bipush (a := 31) C (by decide) dJ21_signedHashCode_15 ?_
  refine lv_iload_n C.hx C.hb dJ21_signedHashCode_17 rfl (lv_at hl8 1 rfl) ?_
  refine kn_imul C  dJ21_signedHashCode_18 ?_
  refine lv_aload_n C.hx C.hb dJ21_signedHashCode_19 rfl (lv_at hl8 3 rfl) ?_
  refine lv_iload C.hx C.hb dJ21_signedHashCode_20 (lv_at hl8 0 rfl) ?_
  refine k_bald C (f := (fun j => nI (t j))) rfl ((hRo _ rfl).at hW) (by decide) (by decide) dJ21_signedHashCode_22 ?_
  refine kn_sipush (a := 255) C (by decide) dJ21_signedHashCode_23 ?_
  refine kn_iand C dJ21_signedHashCode_26 ?_
  refine kn_iadd C  dJ21_signedHashCode_27 ?_
  refine lv_istore_n (lv' := [(0, .int (nI ((31 * ((31 * ((31 * ((31 * 0) + ((t 0) &&& 255))) + ((t 1) &&& 255))) + ((t 2) &&& 255))) + ((t 3) &&& 255)))), (5, .int (nI 3)), (4, .int (nI 4)), (1, .ref b), (2, .int (nI 0)), (3, .int (nI 4))]) C.hx C.hb dJ21_signedHashCode_28 rfl hl8 (Nat.le_of_ble_eq_true rfl) rfl (fun ls9 hl9 => ?_)
  clear hl8
  refine kn_iinc (lv' := [(5, .int (nI 4)), (0, .int (nI ((31 * ((31 * ((31 * ((31 * 0) + ((t 0) &&& 255))) + ((t 1) &&& 255))) + ((t 2) &&& 255))) + ((t 3) &&& 255)))), (4, .int (nI 4)), (1, .ref b), (2, .int (nI 0)), (3, .int (nI 4))]) (k := 1) C dJ21_signedHashCode_29 hl9 rfl (Nat.le_of_ble_eq_true rfl) rfl (fun ls10 hl10 => ?_)
  clear hl9
  refine lv_goto (tgt := 8) C.hx C.hb dJ21_signedHashCode_32 (by decide) ?_
  refine lv_iload C.hx C.hb dJ21_signedHashCode_8 (lv_at hl10 0 rfl) ?_
  refine lv_iload C.hx C.hb dJ21_signedHashCode_10 (lv_at hl10 2 rfl) ?_
  refine kn_icmp_ge (tgt := 35) C (by decide) (by decide) dJ21_signedHashCode_12 (by decide) (fun cq => ?_) (fun cq => absurd cq (by decide))
  refine lv_iload_n C.hx C.hb dJ21_signedHashCode_35 rfl (lv_at hl10 1 rfl) ?_
  exact k_iret C hW rfl ⟨rfl, rfl⟩ (Nat.le_refl _) (Nat.le_refl _) dJ21_signedHashCode_36

def Q_ctJ21_vectorizedHashCode (G : GT) (b : Nat) (t : Nat → Nat) : Option Value → List va_W → Prop := fun v S1 => v = some (.int (nI (hsN t))) ∧ S1 = []
set_option maxHeartbeats 4000000 in
set_option maxRecDepth 100000 in
theorem ctJ21_vectorizedHashCode (l : Launch) (G : GT) (b : Nat) (t : Nat → Nat)  : Ct l G yJ21_vectorizedHashCode cJ21_vectorizedHashCode 5 (some .int) 1 25 0 0 [.ref b, .int (nI 0), .int (nI 4), .int (nI 0), .int (nI 4)] ([]) ((fun z => z = .inl (b, .inl (G.2.2.1 3, 4, .inl (fun j => nI (t j)))))) (Q_ctJ21_vectorizedHashCode G b t) := by
  refine Ct.of (by decide +kernel) (Nat.le_of_ble_eq_true rfl) ?_
  intro p e s m below meth c A ls C hW hRo hl
  have hl : lv_has ls 5 [(0, .ref b), (1, .int (nI 0)), (2, .int (nI 4)), (3, .int (nI 0)), (4, .int (nI 4))] := hl
  refine lv_iload C.hx C.hb dJ21_vectorizedHashCode_0 (lv_at hl 4 rfl) ?_
  refine lv_tableIn (x := nI 4) (off := 42) (tgt := 44) C.hx C.hb dJ21_vectorizedHashCode_2 (by decide) (by decide) (by decide) (by decide) ?_
  refine lv_iload_n C.hx C.hb dJ21_vectorizedHashCode_44 rfl (lv_at hl 3 rfl) ?_
  refine lv_aload_n C.hx C.hb dJ21_vectorizedHashCode_45 rfl (lv_at hl 0 rfl) ?_
  refine k_castB C ((hRo _ rfl).at hW) q1183 rfl dJ21_vectorizedHashCode_46 ?_
  refine lv_iload_n C.hx C.hb dJ21_vectorizedHashCode_49 rfl (lv_at hl 1 rfl) ?_
  refine lv_iload_n C.hx C.hb dJ21_vectorizedHashCode_50 rfl (lv_at hl 2 rfl) ?_
  refine k_callS (Sc := []) (Sr := []) (As := [.int (nI 0), .ref b, .int (nI 0), .int (nI 4)]) (rest := []) C (ctJ21_signedHashCode l G b t) hW q1184 q1185 q98 q1186 rfl ⟨by decide, by decide, Eq.trans (b := some 4) (by decide +kernel) rfl⟩ (Nat.le_of_ble_eq_true rfl) (Nat.le_of_ble_eq_true rfl) (Nat.le_refl _) (Nat.le_refl _) hl.1 rfl (Nat.le_of_ble_eq_true rfl) dJ21_vectorizedHashCode_51 (k_permR _) (fun z hz => by cases hz; exact Or.inr (Or.inr (hRo _ rfl))) (fun v H1 locs1 S1 hQ hz1 hW1 => ?_)
  obtain ⟨rfl, rfl⟩ := hQ
  have hW1 : Ws G A s ([]) H1 locs1 := hW1
  clear hW
  refine W.eq (g2 := F0 m 54 ls [.int (nI (hsN t))]) rfl ?_
  refine lv_goto (tgt := 157) C.hx C.hb dJ21_vectorizedHashCode_54 (by decide) ?_
  exact k_iret C hW1 rfl ⟨rfl, rfl⟩ (Nat.le_refl _) (Nat.le_refl _) dJ21_vectorizedHashCode_157

def Q_ctJ19_hashCode (G : GT) (b : Nat) (t : Nat → Nat) : Option Value → List va_W → Prop := fun v S1 => v = some (.int (nI (hsN t))) ∧ S1 = []
set_option maxHeartbeats 4000000 in
set_option maxRecDepth 100000 in
theorem ctJ19_hashCode (l : Launch) (G : GT) (b : Nat) (t : Nat → Nat)  : Ct l G yJ19_hashCode cJ19_hashCode 1 (some .int) 2 49 0 0 [.ref b] ([]) ((fun z => z = .inl (b, .inl (G.2.2.1 3, 4, .inl (fun j => nI (t j)))))) (Q_ctJ19_hashCode G b t) := by
  refine Ct.of (by decide +kernel) (Nat.le_of_ble_eq_true rfl) ?_
  intro p e s m below meth c A ls C hW hRo hl
  have hl : lv_has ls 1 [(0, .ref b)] := hl
  refine lv_aload_n C.hx C.hb dJ19_hashCode_0 rfl (lv_at hl 0 rfl) ?_
  refine k_alen C 3 rfl ((hRo _ rfl).at hW) dJ19_hashCode_1 ?_
  refine lv_lookup (x := nI 4) (off := 40) (tgt := 42) C.hx C.hb dJ19_hashCode_2 (by decide) (by decide) (by decide) ?_
  refine lv_aload_n C.hx C.hb dJ19_hashCode_42 rfl (lv_at hl 0 rfl) ?_
  refine kn_iconst (a := 0) C (by decide) dJ19_hashCode_43 ?_
  refine lv_aload_n C.hx C.hb dJ19_hashCode_44 rfl (lv_at hl 0 rfl) ?_
  refine k_alen C 3 rfl ((hRo _ rfl).at hW) dJ19_hashCode_45 ?_
  refine kn_iconst (a := 0) C (by decide) dJ19_hashCode_46 ?_
  refine kn_iconst (a := 4) C (by decide) dJ19_hashCode_47 ?_
  refine k_callS (Sc := []) (Sr := []) (As := [.ref b, .int (nI 0), .int (nI 4), .int (nI 0), .int (nI 4)]) (rest := []) C (ctJ21_vectorizedHashCode l G b t) hW q1180 q1181 q98 q1182 rfl ⟨by decide, by decide, Eq.trans (b := some 5) (by decide +kernel) rfl⟩ (Nat.le_of_ble_eq_true rfl) (Nat.le_of_ble_eq_true rfl) (Nat.le_refl _) (Nat.le_refl _) hl.1 rfl (Nat.le_of_ble_eq_true rfl) dJ19_hashCode_48 (k_permR _) (fun z hz => by cases hz; exact Or.inr (Or.inr (hRo _ rfl))) (fun v H1 locs1 S1 hQ hz1 hW1 => ?_)
  obtain ⟨rfl, rfl⟩ := hQ
  have hW1 : Ws G A s ([]) H1 locs1 := hW1
  clear hW
  refine W.eq (g2 := F0 m 51 ls [.int (nI (hsN t))]) rfl ?_
  exact k_iret C hW1 rfl ⟨rfl, rfl⟩ (Nat.le_refl _) (Nat.le_refl _) dJ19_hashCode_51

def Q_ctJ18_hashCode (G : GT) (a b k : Nat) (t : Nat → Nat) : Option Value → List va_W → Prop := fun v S1 => v = some (.int (nI k)) ∧ S1 = [[(a, .inr (17, [.ref b, .int (nI 0), .int (nI k), .int 0]))]]
set_option maxHeartbeats 4000000 in
set_option maxRecDepth 100000 in
theorem ctJ18_hashCode (l : Launch) (G : GT) (a b k : Nat) (t : Nat → Nat) (hk : hsN t = k) (h0 : 0 < k) (h1 : k < 2 ^ 31) : Ct l G yJ18_hashCode cJ18_hashCode 2 (some .int) 3 69 0 0 [.ref a] ([[(a, .inr (17, [.ref b, .int (nI 0), .int 0, .int 0]))]]) ((fun z => z = .inl (b, .inl (G.2.2.1 3, 4, .inl (fun j => nI (t j)))))) (Q_ctJ18_hashCode G a b k t) := by
  refine Ct.of (by decide +kernel) (Nat.le_of_ble_eq_true rfl) ?_
  intro p e s m below meth c A ls C hW hRo hl
  have hl : lv_has ls 2 [(0, .ref a)] := hl
  refine lv_aload_n C.hx C.hb dJ18_hashCode_0 rfl (lv_at hl 0 rfl) ?_
  refine k_get (v := .int 0) C clJ18 (hW.get 0 0 rfl rfl) 2 (Nat.le_of_ble_eq_true rfl) rfl q739 rfl rfl dJ18_hashCode_1 ?_
  refine lv_istore_n (lv' := [(1, .int 0), (0, .ref a)]) C.hx C.hb dJ18_hashCode_4 rfl hl (Nat.le_of_ble_eq_true rfl) rfl (fun ls1 hl1 => ?_)
  clear hl
  refine lv_iload_n C.hx C.hb dJ18_hashCode_5 rfl (lv_at hl1 0 rfl) ?_
  refine lv_if_ne (tgt := 58) C.hx C.hb dJ18_hashCode_6 (by decide) (fun cq => absurd rfl cq) (fun cq => ?_)
  refine lv_aload_n C.hx C.hb dJ18_hashCode_9 rfl (lv_at hl1 1 rfl) ?_
  refine k_get (v := .int 0) C clJ18 (hW.get 0 0 rfl rfl) 3 (Nat.le_of_ble_eq_true rfl) rfl q740 rfl rfl dJ18_hashCode_10 ?_
  refine lv_if_ne (tgt := 58) C.hx C.hb dJ18_hashCode_13 (by decide) (fun cq => absurd rfl cq) (fun cq => ?_)
  refine lv_aload_n C.hx C.hb dJ18_hashCode_16 rfl (lv_at hl1 1 rfl) ?_
  refine k_callV (Sc := []) (Sr := [[(a, .inr (17, [.ref b, .int (nI 0), .int 0, .int 0]))]]) (As := []) (rest := []) C (ctJ18_isLatin1 l G a b 0 0) hW clJ18 (hW.get 0 0 rfl rfl) q1148 q1149 q1150 q95 q1151 rfl rfl ⟨by decide, by decide, Eq.trans (b := some 0) (by decide +kernel) rfl⟩ (Nat.le_of_ble_eq_true rfl) (Nat.le_of_ble_eq_true rfl) (Nat.le_refl _) (Nat.le_refl _) hl1.1 rfl (Nat.le_of_ble_eq_true rfl) dJ18_hashCode_17 (k_permR _) (fun z hz => by cases hz; exact Or.inl ⟨_, rfl, seg_mem (i := 0) (j := 0) rfl rfl⟩) (fun v H2 locs2 S1 hQ hz2 hW2 => ?_)
  obtain ⟨rfl, rfl⟩ := hQ
  have hW2 : Ws G A s ([[(a, .inr (17, [.ref b, .int (nI 0), .int 0, .int 0]))]]) H2 locs2 := hW2
  clear hW
  refine W.eq (g2 := F0 m 20 ls1 [.int (nI 1)]) rfl ?_
  refine kn_if_eq (tgt := 33) C (by decide) dJ18_hashCode_20 (by decide) (fun cq => absurd cq (by decide)) (fun cq => ?_)
  refine lv_aload_n C.hx C.hb dJ18_hashCode_23 rfl (lv_at hl1 1 rfl) ?_
  refine k_get (v := .ref b) C clJ18 (hW2.get 0 0 rfl rfl) 0 (Nat.le_of_ble_eq_true rfl) rfl q737 rfl rfl dJ18_hashCode_24 ?_
  refine k_callS (Sc := []) (Sr := [[(a, .inr (17, [.ref b, .int (nI 0), .int 0, .int 0]))]]) (As := [.ref b]) (rest := []) C (ctJ19_hashCode l G b t) hW2 q1177 q1178 q96 q1179 rfl ⟨by decide, by decide, Eq.trans (b := some 1) (by decide +kernel) rfl⟩ (Nat.le_of_ble_eq_true rfl) (Nat.le_of_ble_eq_true rfl) (Nat.le_refl _) (Nat.le_refl _) hl1.1 rfl (Nat.le_of_ble_eq_true rfl) dJ18_hashCode_27 (k_permR _) (fun z hz => by cases hz; exact Or.inr (Or.inr (hRo _ rfl))) (fun v H3 locs3 S1 hQ hz3 hW3 => ?_)
  obtain ⟨rfl, rfl⟩ := hQ
  have hW3 : Ws G A s ([[(a, .inr (17, [.ref b, .int (nI 0), .int 0, .int 0]))]]) H3 locs3 := hW3
  clear hW2
  refine W.eq (g2 := F0 m 30 ls1 [.int (nI (hsN t))]) rfl ?_
  refine k_op (y := .int (nI k)) (by rw [hk]) ?_
  refine lv_goto (tgt := 40) C.hx C.hb dJ18_hashCode_30 (by decide) ?_
  refine lv_istore_n (lv' := [(1, .int (nI k)), (0, .ref a)]) C.hx C.hb dJ18_hashCode_40 rfl hl1 (Nat.le_of_ble_eq_true rfl) rfl (fun ls4 hl4 => ?_)
  clear hl1
  refine lv_iload_n C.hx C.hb dJ18_hashCode_41 rfl (lv_at hl4 0 rfl) ?_
  refine kn_if_ne (tgt := 53) C (by omega) dJ18_hashCode_42 (by decide) (fun c42 => ?_) (fun c42 => (absurd c42 (by omega)))
  refine lv_aload_n C.hx C.hb dJ18_hashCode_53 rfl (lv_at hl4 1 rfl) ?_
  refine lv_iload_n C.hx C.hb dJ18_hashCode_54 rfl (lv_at hl4 0 rfl) ?_
  refine k_put (S' := [[(a, .inr (17, [.ref b, .int (nI 0), .int (nI k), .int 0]))]]) C clJ18 hW3 0 0 rfl rfl 2 (Nat.le_of_ble_eq_true rfl) rfl q739 rfl (fun _ h => h) (Or.inl rfl) (fty := .int) (v := .int (nI k)) (by decide +kernel) rfl rfl (Nat.le_of_ble_eq_true rfl) dJ18_hashCode_55 rfl (fun H5 locs5 hW5 => ?_)
  clear hW3
  refine lv_iload_n C.hx C.hb dJ18_hashCode_58 rfl (lv_at hl4 0 rfl) ?_
  exact k_iret C hW5 rfl ⟨rfl, rfl⟩ (Nat.le_refl _) (Nat.le_refl _) dJ18_hashCode_59

def Q_ctJ19_equals (G : GT) (b b2 : Nat) (t u : Nat → Nat) : Option Value → List va_W → Prop := fun v S1 => v = some (.int (nI 1)) ∧ S1 = []
set_option maxHeartbeats 4000000 in
set_option maxRecDepth 100000 in
theorem ctJ19_equals (l : Launch) (G : GT) (b b2 : Nat) (t u : Nat → Nat) (ht : ∀ j, j < 4 → t j < 128) (hu : ∀ j, j < 4 → u j < 128) (he : ∀ j, j < 4 → t j = u j) : Ct l G yJ19_equals cJ19_equals 3 (some .boolean) 0 0 0 0 [.ref b, .ref b2] ([]) ((fun z => z = .inl (b, .inl (G.2.2.1 3, 4, .inl (fun j => nI (t j)))) ∨ z = .inl (b2, .inl (G.2.2.1 3, 4, .inl (fun j => nI (u j)))))) (Q_ctJ19_equals G b b2 t u) := by
  refine Ct.of (by decide +kernel) (Nat.le_of_ble_eq_true rfl) ?_
  intro p e s m below meth c A ls C hW hRo hl
  have hl : lv_has ls 3 [(0, .ref b), (1, .ref b2)] := hl
  refine lv_aload_n C.hx C.hb dJ19_equals_0 rfl (lv_at hl 0 rfl) ?_
  refine k_alen C 3 rfl ((hRo _ (Or.inl rfl)).at hW) dJ19_equals_1 ?_
  refine lv_aload_n C.hx C.hb dJ19_equals_2 rfl (lv_at hl 1 rfl) ?_
  refine k_alen C 3 rfl ((hRo _ (Or.inr rfl)).at hW) dJ19_equals_3 ?_
  refine kn_icmp_ne (tgt := 34) C (by decide) (by decide) dJ19_equals_4 (by decide) (fun cq => absurd cq (by decide)) (fun cq => ?_)
  refine kn_iconst (a := 0) C (by decide) dJ19_equals_7 ?_
  refine lv_istore_n (lv' := [(2, .int (nI 0)), (0, .ref b), (1, .ref b2)]) C.hx C.hb dJ19_equals_8 rfl hl (Nat.le_of_ble_eq_true rfl) rfl (fun ls1 hl1 => ?_)
  clear hl
  refine lv_iload_n C.hx C.hb dJ19_equals_9 rfl (lv_at hl1 0 rfl) ?_
  refine lv_aload_n C.hx C.hb dJ19_equals_10 rfl (lv_at hl1 1 rfl) ?_
  refine k_alen C 3 rfl ((hRo _ (Or.inl rfl)).at hW) dJ19_equals_11 ?_
  refine kn_icmp_ge (tgt := 32) C (by decide) (by decide) dJ19_equals_12 (by decide) (fun cq => absurd cq (by decide)) (fun cq => ?_)
  refine lv_aload_n C.hx C.hb dJ19_equals_15 rfl (lv_at hl1 1 rfl) ?_
  refine lv_iload_n C.hx C.hb dJ19_equals_16 rfl (lv_at hl1 0 rfl) ?_
  refine k_bald C (f := (fun j => nI (t j))) rfl ((hRo _ (Or.inl rfl)).at hW) (by decide) (by decide) dJ19_equals_17 ?_
  refine lv_aload_n C.hx C.hb dJ19_equals_18 rfl (lv_at hl1 2 rfl) ?_
  refine lv_iload_n C.hx C.hb dJ19_equals_19 rfl (lv_at hl1 0 rfl) ?_
  refine k_bald C (f := (fun j => nI (u j))) rfl ((hRo _ (Or.inr rfl)).at hW) (by decide) (by decide) dJ19_equals_20 ?_
  refine kn_icmp_eq (tgt := 26) C (by have := ht 0 (by decide); omega) (by have := hu 0 (by decide); omega) dJ19_equals_21 (by decide) (fun c21 => ?_) (fun c21 => (absurd (he _ (by decide)) c21))
  refine kn_iinc (lv' := [(2, .int (nI 1)), (0, .ref b), (1, .ref b2)]) (k := 0) C dJ19_equals_26 hl1 rfl (Nat.le_of_ble_eq_true rfl) rfl (fun ls2 hl2 => ?_)
  clear hl1
  refine lv_goto (tgt := 9) C.hx C.hb dJ19_equals_29 (by decide) ?_
  refine lv_iload_n C.hx C.hb dJ19_equals_9 rfl (lv_at hl2 0 rfl) ?_
  refine lv_aload_n C.hx C.hb dJ19_equals_10 rfl (lv_at hl2 1 rfl) ?_
  refine k_alen C 3 rfl ((hRo _ (Or.inl rfl)).at hW) dJ19_equals_11 ?_
  refine kn_icmp_ge (tgt := 32) C (by decide) (by decide) dJ19_equals_12 (by decide) (fun cq => absurd cq (by decide)) (fun cq => ?_)
  refine lv_aload_n C.hx C.hb dJ19_equals_15 rfl (lv_at hl2 1 rfl) ?_
  refine lv_iload_n C.hx C.hb dJ19_equals_16 rfl (lv_at hl2 0 rfl) ?_
  refine k_bald C (f := (fun j => nI (t j))) rfl ((hRo _ (Or.inl rfl)).at hW) (by decide) (by decide) dJ19_equals_17 ?_
  refine lv_aload_n C.hx C.hb dJ19_equals_18 rfl (lv_at hl2 2 rfl) ?_
  refine lv_iload_n C.hx C.hb dJ19_equals_19 rfl (lv_at hl2 0 rfl) ?_
  refine k_bald C (f := (fun j => nI (u j))) rfl ((hRo _ (Or.inr rfl)).at hW) (by decide) (by decide) dJ19_equals_20 ?_
  refine kn_icmp_eq (tgt := 26) C (by have := ht 1 (by decide); omega) (by have := hu 1 (by decide); omega) dJ19_equals_21 (by decide) (fun c21 => ?_) (fun c21 => (absurd (he _ (by decide)) c21))
  refine kn_iinc (lv' := [(2, .int (nI 2)), (0, .ref b), (1, .ref b2)]) (k := 0) C dJ19_equals_26 hl2 rfl (Nat.le_of_ble_eq_true rfl) rfl (fun ls3 hl3 => ?_)
  clear hl2
  refine lv_goto (tgt := 9) C.hx C.hb dJ19_equals_29 (by decide) ?_
  refine lv_iload_n C.hx C.hb dJ19_equals_9 rfl (lv_at hl3 0 rfl) ?_
  refine lv_aload_n C.hx C.hb dJ19_equals_10 rfl (lv_at hl3 1 rfl) ?_
  refine k_alen C 3 rfl ((hRo _ (Or.inl rfl)).at hW) dJ19_equals_11 ?_
  refine kn_icmp_ge (tgt := 32) C (by decide) (by decide) dJ19_equals_12 (by decide) (fun cq => absurd cq (by decide)) (fun cq => ?_)
  refine lv_aload_n C.hx C.hb dJ19_equals_15 rfl (lv_at hl3 1 rfl) ?_
  refine lv_iload_n C.hx C.hb dJ19_equals_16 rfl (lv_at hl3 0 rfl) ?_
  refine k_bald C (f := (fun j => nI (t j))) rfl ((hRo _ (Or.inl rfl)).at hW) (by decide) (by decide) dJ19_equals_17 ?_
  refine lv_aload_n C.hx C.hb dJ19_equals_18 rfl (lv_at hl3 2 rfl) ?_
  refine lv_iload_n C.hx C.hb dJ19_equals_19 rfl (lv_at hl3 0 rfl) ?_
  refine k_bald C (f := (fun j => nI (u j))) rfl ((hRo _ (Or.inr rfl)).at hW) (by decide) (by decide) dJ19_equals_20 ?_
  refine kn_icmp_eq (tgt := 26) C (by have := ht 2 (by decide); omega) (by have := hu 2 (by decide); omega) dJ19_equals_21 (by decide) (fun c21 => ?_) (fun c21 => (absurd (he _ (by decide)) c21))
  refine kn_iinc (lv' := [(2, .int (nI 3)), (0, .ref b), (1, .ref b2)]) (k := 0) C dJ19_equals_26 hl3 rfl (Nat.le_of_ble_eq_true rfl) rfl (fun ls4 hl4 => ?_)
  clear hl3
  refine lv_goto (tgt := 9) C.hx C.hb dJ19_equals_29 (by decide) ?_
  refine lv_iload_n C.hx C.hb dJ19_equals_9 rfl (lv_at hl4 0 rfl) ?_
  refine lv_aload_n C.hx C.hb dJ19_equals_10 rfl (lv_at hl4 1 rfl) ?_
  refine k_alen C 3 rfl ((hRo _ (Or.inl rfl)).at hW) dJ19_equals_11 ?_
  refine kn_icmp_ge (tgt := 32) C (by decide) (by decide) dJ19_equals_12 (by decide) (fun cq => absurd cq (by decide)) (fun cq => ?_)
  refine lv_aload_n C.hx C.hb dJ19_equals_15 rfl (lv_at hl4 1 rfl) ?_
  refine lv_iload_n C.hx C.hb dJ19_equals_16 rfl (lv_at hl4 0 rfl) ?_
  refine k_bald C (f := (fun j => nI (t j))) rfl ((hRo _ (Or.inl rfl)).at hW) (by decide) (by decide) dJ19_equals_17 ?_
  refine lv_aload_n C.hx C.hb dJ19_equals_18 rfl (lv_at hl4 2 rfl) ?_
  refine lv_iload_n C.hx C.hb dJ19_equals_19 rfl (lv_at hl4 0 rfl) ?_
  refine k_bald C (f := (fun j => nI (u j))) rfl ((hRo _ (Or.inr rfl)).at hW) (by decide) (by decide) dJ19_equals_20 ?_
  refine kn_icmp_eq (tgt := 26) C (by have := ht 3 (by decide); omega) (by have := hu 3 (by decide); omega) dJ19_equals_21 (by decide) (fun c21 => ?_) (fun c21 => (absurd (he _ (by decide)) c21))
  refine kn_iinc (lv' := [(2, .int (nI 4)), (0, .ref b), (1, .ref b2)]) (k := 0) C dJ19_equals_26 hl4 rfl (Nat.le_of_ble_eq_true rfl) rfl (fun ls5 hl5 => ?_)
  clear hl4
  refine lv_goto (tgt := 9) C.hx C.hb dJ19_equals_29 (by decide) ?_
  refine lv_iload_n C.hx C.hb dJ19_equals_9 rfl (lv_at hl5 0 rfl) ?_
  refine lv_aload_n C.hx C.hb dJ19_equals_10 rfl (lv_at hl5 1 rfl) ?_
  refine k_alen C 3 rfl ((hRo _ (Or.inl rfl)).at hW) dJ19_equals_11 ?_
  refine kn_icmp_ge (tgt := 32) C (by decide) (by decide) dJ19_equals_12 (by decide) (fun cq => ?_) (fun cq => absurd cq (by decide))
  refine kn_iconst (a := 1) C (by decide) dJ19_equals_32 ?_
  exact k_zret C hW rfl (by decide) ⟨rfl, rfl⟩ (Nat.le_refl _) (Nat.le_refl _) dJ19_equals_33

def Q_ctJ18_equals (G : GT) (a b a2 b2 : Nat) (h zz h2 z2 : Int32) (t u : Nat → Nat) : Option Value → List va_W → Prop := fun v S1 => v = some (.int (nI 1)) ∧ S1 = []
set_option maxHeartbeats 4000000 in
set_option maxRecDepth 100000 in
theorem ctJ18_equals (l : Launch) (G : GT) (a b a2 b2 : Nat) (h zz h2 z2 : Int32) (t u : Nat → Nat) (ht : ∀ j, j < 4 → t j < 128) (hu : ∀ j, j < 4 → u j < 128) (he : ∀ j, j < 4 → t j = u j) : Ct l G yJ18_equals cJ18_equals 3 (some .boolean) 1 22 0 0 [.ref a, .ref a2] ([]) ((fun z => z = .inl (a, .inr (17, [.ref b, .int (nI 0), .int h, .int zz])) ∨ z = .inl (b, .inl (G.2.2.1 3, 4, .inl (fun j => nI (t j)))) ∨ z = .inl (a2, .inr (17, [.ref b2, .int (nI 0), .int h2, .int z2])) ∨ z = .inl (b2, .inl (G.2.2.1 3, 4, .inl (fun j => nI (u j)))))) (Q_ctJ18_equals G a b a2 b2 h zz h2 z2 t u) := by
  refine Ct.of (by decide +kernel) (Nat.le_of_ble_eq_true rfl) ?_
  intro p e s m below meth c A ls C hW hRo hl
  have hl : lv_has ls 3 [(0, .ref a), (1, .ref a2)] := hl
  refine lv_aload_n C.hx C.hb dJ18_equals_0 rfl (lv_at hl 0 rfl) ?_
  refine lv_aload_n C.hx C.hb dJ18_equals_1 rfl (lv_at hl 1 rfl) ?_
  refine kr_acmp_ne (tgt := 7) C dJ18_equals_2 (by decide) (fun c2 => ?_) (fun c2 => ?_)
  · refine lv_aload_n C.hx C.hb dJ18_equals_7 rfl (lv_at hl 1 rfl) ?_
    refine k_instY C clJ18 ((hRo _ (Or.inr (Or.inr (Or.inl rfl)))).at hW) q1235 rfl dJ18_equals_8 ?_
    refine lv_if_eq (tgt := 54) C.hx C.hb dJ18_equals_11 (by decide) (fun cq => absurd cq (by decide)) (fun cq => ?_)
    refine lv_aload_n C.hx C.hb dJ18_equals_14 rfl (lv_at hl 1 rfl) ?_
    refine k_castS C clJ18 ((hRo _ (Or.inr (Or.inr (Or.inl rfl)))).at hW) q1235 rfl dJ18_equals_15 ?_
    refine lv_astore_n (lv' := [(2, .ref a2), (0, .ref a), (1, .ref a2)]) C.hx C.hb dJ18_equals_18 rfl hl (Nat.le_of_ble_eq_true rfl) rfl (fun ls1 hl1 => ?_)
    clear hl
    refine k_gets C hW (List.mem_of_getElem? (i := 4) rfl) q587 rfl dJ18_equals_19 ?_
    refine lv_if_eq (tgt := 36) C.hx C.hb dJ18_equals_22 (by decide) (fun cq => absurd cq (by decide)) (fun cq => ?_)
    refine lv_aload_n C.hx C.hb dJ18_equals_25 rfl (lv_at hl1 1 rfl) ?_
    refine k_get (v := .int (nI 0)) C clJ18 ((hRo _ (Or.inl rfl)).at hW) 1 (Nat.le_of_ble_eq_true rfl) rfl q738 rfl rfl dJ18_equals_26 ?_
    refine lv_aload_n C.hx C.hb dJ18_equals_29 rfl (lv_at hl1 0 rfl) ?_
    refine k_get (v := .int (nI 0)) C clJ18 ((hRo _ (Or.inr (Or.inr (Or.inl rfl)))).at hW) 1 (Nat.le_of_ble_eq_true rfl) rfl q738 rfl rfl dJ18_equals_30 ?_
    refine kn_icmp_ne (tgt := 54) C (by decide) (by decide) dJ18_equals_33 (by decide) (fun cq => absurd cq (by decide)) (fun cq => ?_)
    refine lv_aload_n C.hx C.hb dJ18_equals_36 rfl (lv_at hl1 1 rfl) ?_
    refine k_get (v := .ref b) C clJ18 ((hRo _ (Or.inl rfl)).at hW) 0 (Nat.le_of_ble_eq_true rfl) rfl q737 rfl rfl dJ18_equals_37 ?_
    refine lv_aload_n C.hx C.hb dJ18_equals_40 rfl (lv_at hl1 0 rfl) ?_
    refine k_get (v := .ref b2) C clJ18 ((hRo _ (Or.inr (Or.inr (Or.inl rfl)))).at hW) 0 (Nat.le_of_ble_eq_true rfl) rfl q737 rfl rfl dJ18_equals_41 ?_
    refine k_callS (Sc := []) (Sr := []) (As := [.ref b, .ref b2]) (rest := []) C (ctJ19_equals l G b b2 t u ht hu he) hW q1236 q1237 q96 q1238 rfl ⟨by decide, by decide, Eq.trans (b := some 2) (by decide +kernel) rfl⟩ (Nat.le_of_ble_eq_true rfl) (Nat.le_of_ble_eq_true rfl) (Nat.le_refl _) (Nat.le_refl _) hl1.1 rfl (Nat.le_of_ble_eq_true rfl) dJ18_equals_44 (k_permR _) (fun z => (fun hz => hz.elim (fun e => by cases e; exact Or.inr (Or.inr (hRo _ (Or.inr (Or.inl rfl))))) (fun e => by cases e; exact Or.inr (Or.inr (hRo _ (Or.inr (Or.inr (Or.inr rfl)))))))) (fun v H2 locs2 S1 hQ hz2 hW2 => ?_)
    obtain ⟨rfl, rfl⟩ := hQ
    have hW2 : Ws G A s ([]) H2 locs2 := hW2
    clear hW
    refine W.eq (g2 := F0 m 47 ls1 [.int (nI 1)]) rfl ?_
    refine kn_if_eq (tgt := 54) C (by decide) dJ18_equals_47 (by decide) (fun cq => absurd cq (by decide)) (fun cq => ?_)
    refine kn_iconst (a := 1) C (by decide) dJ18_equals_50 ?_
    refine lv_goto (tgt := 55) C.hx C.hb dJ18_equals_51 (by decide) ?_
    exact k_zret C hW2 rfl (by decide) ⟨rfl, rfl⟩ (Nat.le_refl _) (Nat.le_refl _) dJ18_equals_55
  · refine kn_iconst (a := 1) C (by decide) dJ18_equals_5 ?_
    exact k_zret C hW rfl (by decide) ⟨rfl, rfl⟩ (Nat.le_refl _) (Nat.le_refl _) dJ18_equals_6

