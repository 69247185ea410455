def Q_ctJ20_max (G : GT) (a b : Nat) : Option Value → List va_W → Prop := fun v S1 => v = some (.int (nI (max a b))) ∧ S1 = []
set_option maxHeartbeats 4000000 in
set_option maxRecDepth 100000 in
theorem ctJ20_max (l : Launch) (G : GT) (a b : Nat) (ha : a < 2 ^ 31) (hb : b < 2 ^ 31) : Ct l G yJ20_max cJ20_max 2 (some .int) 0 0 0 0 [.int (nI a), .int (nI b)] ([]) noR (Q_ctJ20_max G a b) := by
  refine Ct.of (by decide +kernel) (Nat.le_of_ble_eq_true rfl) ?_
  intro p e s m below meth c A ls C hW hRo hl
  have hl : lv_has ls 2 [(0, .int (nI a)), (1, .int (nI b))] := hl
  refine lv_iload_n C.hx C.hb dJ20_max_0 rfl (lv_at hl 0 rfl) ?_
  refine lv_iload_n C.hx C.hb dJ20_max_1 rfl (lv_at hl 1 rfl) ?_
  refine kn_icmp_lt (tgt := 9) C (by omega) (by omega) dJ20_max_2 (by decide) (fun c2 => ?_) (fun c2 => ?_)
  · refine lv_iload_n C.hx C.hb dJ20_max_9 rfl (lv_at hl 1 rfl) ?_
    exact k_iret C hW rfl ⟨by rw [show max a b = b by omega], rfl⟩ (Nat.le_refl _) (Nat.le_refl _) dJ20_max_10
  · refine lv_iload_n C.hx C.hb dJ20_max_5 rfl (lv_at hl 0 rfl) ?_
    refine lv_goto (tgt := 10) C.hx C.hb dJ20_max_6 (by decide) ?_
    exact k_iret C hW rfl ⟨by rw [show max a b = a by omega], rfl⟩ (Nat.le_refl _) (Nat.le_refl _) dJ20_max_10

def Q_ctJ20_min (G : GT) (a b : Nat) : Option Value → List va_W → Prop := fun v S1 => v = some (.int (nI (min a b))) ∧ S1 = []
set_option maxHeartbeats 4000000 in
set_option maxRecDepth 100000 in
theorem ctJ20_min (l : Launch) (G : GT) (a b : Nat) (ha : a < 2 ^ 31) (hb : b < 2 ^ 31) : Ct l G yJ20_min cJ20_min 2 (some .int) 0 0 0 0 [.int (nI a), .int (nI b)] ([]) noR (Q_ctJ20_min G a b) := by
  refine Ct.of (by decide +kernel) (Nat.le_of_ble_eq_true rfl) ?_
  intro p e s m below meth c A ls C hW hRo hl
  have hl : lv_has ls 2 [(0, .int (nI a)), (1, .int (nI b))] := hl
  refine lv_iload_n C.hx C.hb dJ20_min_0 rfl (lv_at hl 0 rfl) ?_
  refine lv_iload_n C.hx C.hb dJ20_min_1 rfl (lv_at hl 1 rfl) ?_
  refine kn_icmp_gt (tgt := 9) C (by omega) (by omega) dJ20_min_2 (by decide) (fun c2 => ?_) (fun c2 => ?_)
  · refine lv_iload_n C.hx C.hb dJ20_min_9 rfl (lv_at hl 1 rfl) ?_
    exact k_iret C hW rfl ⟨by rw [show min a b = b by omega], rfl⟩ (Nat.le_refl _) (Nat.le_refl _) dJ20_min_10
  · refine lv_iload_n C.hx C.hb dJ20_min_5 rfl (lv_at hl 0 rfl) ?_
    refine lv_goto (tgt := 10) C.hx C.hb dJ20_min_6 (by decide) ?_
    exact k_iret C hW rfl ⟨by rw [show min a b = a by omega], rfl⟩ (Nat.le_refl _) (Nat.le_refl _) dJ20_min_10

def Q_ctJ21_newLength (G : GT) (k0 d h : Nat) : Option Value → List va_W → Prop := fun v S1 => v = some (.int (nI (k0 + max d h))) ∧ S1 = []
set_option maxHeartbeats 4000000 in
set_option maxRecDepth 100000 in
theorem ctJ21_newLength (l : Launch) (G : GT) (k0 d h : Nat) (hc : k0 < 2 ^ 26) (hd : d < 2 ^ 26) (hh : h < 2 ^ 26) (h0 : 0 < max d h) : Ct l G yJ21_newLength cJ21_newLength 4 (some .int) 1 21 0 0 [.int (nI k0), .int (nI d), .int (nI h)] ([]) noR (Q_ctJ21_newLength G k0 d h) := by
  refine Ct.of (by decide +kernel) (Nat.le_of_ble_eq_true rfl) ?_
  intro p e s m below meth c A ls C hW hRo hl
  have hl : lv_has ls 4 [(0, .int (nI k0)), (1, .int (nI d)), (2, .int (nI h))] := hl
  refine lv_iload_n C.hx C.hb dJ21_newLength_0 rfl (lv_at hl 0 rfl) ?_
  refine lv_iload_n C.hx C.hb dJ21_newLength_1 rfl (lv_at hl 1 rfl) ?_
  refine lv_iload_n C.hx C.hb dJ21_newLength_2 rfl (lv_at hl 2 rfl) ?_
  refine k_callS (Sc := []) (Sr := []) (As := [.int (nI d), .int (nI h)]) (rest := [.int (nI k0)]) C (ctJ20_max l G d h (by omega) (by omega)) hW q524 q525 q97 q526 rfl ⟨by decide, by decide, Eq.trans (b := some 2) (by decide +kernel) rfl⟩ (Nat.le_of_ble_eq_true rfl) (Nat.le_of_ble_eq_true rfl) (Nat.le_refl _) (Nat.le_refl _) hl.1 rfl (Nat.le_of_ble_eq_true rfl) dJ21_newLength_3 (k_permR _) (fun _ h => h.elim) (fun v H1 locs1 S1 hQ hz1 hW1 => ?_)
  obtain ⟨rfl, rfl⟩ := hQ
  have hW1 : Ws G A s ([]) H1 locs1 := hW1
  clear hW
  refine W.eq (g2 := F0 m 6 ls [.int (nI (max d h)), .int (nI k0)]) rfl ?_
  refine kn_iadd C  dJ21_newLength_6 ?_
  refine lv_istore_n (lv' := [(3, .int (nI (k0 + (max d h)))), (0, .int (nI k0)), (1, .int (nI d)), (2, .int (nI h))]) C.hx C.hb dJ21_newLength_7 rfl hl (Nat.le_of_ble_eq_true rfl) rfl (fun ls2 hl2 => ?_)
  clear hl
  refine kn_iconst (a := 0) C (by decide) dJ21_newLength_8 ?_
  refine lv_iload_n C.hx C.hb dJ21_newLength_9 rfl (lv_at hl2 0 rfl) ?_
  refine kn_icmp_ge (tgt := 21) C (by decide) (by omega) dJ21_newLength_10 (by decide) (fun c10 => (absurd c10 (by omega))) (fun c10 => ?_)
  refine lv_iload_n C.hx C.hb dJ21_newLength_13 rfl (lv_at hl2 0 rfl) ?_
  refine lv_ldc (own := "jdk/internal/util/ArraysSupport") (v := (nI 2147483639)) C.hx C.hb C.hown (C.hts _ q527) dJ21_newLength_14 ?_
  refine kn_icmp_gt (tgt := 21) C (by omega) (by decide) dJ21_newLength_16 (by decide) (fun c16 => (absurd c16 (by omega))) (fun c16 => ?_)
  refine lv_iload_n C.hx C.hb dJ21_newLength_19 rfl (lv_at hl2 0 rfl) ?_
  exact k_iret C hW1 rfl ⟨rfl, rfl⟩ (Nat.le_refl _) (Nat.le_refl _) dJ21_newLength_20

def Q_ctJ29_copyOf_4 (G : GT) (q cap c2 : Nat) (xs : List Nat) : Option Value → List va_W → Prop := fun v S1 => ∃ q2, v = some (.ref q2) ∧ S1 = [[(q, .inl (G.2.2.1 4, cap, .inr (.inr (.inr (.inr (fun i => xs[i]?))))))], [(q2, .inl (G.2.2.1 4, c2, .inr (.inr (.inr (.inr (fun i => xs[i]?))))))]]
set_option maxHeartbeats 4000000 in
set_option maxRecDepth 100000 in
theorem ctJ29_copyOf_4 (l : Launch) (G : GT) (q cap c2 : Nat) (xs : List Nat) (hx : xs.length = cap) (h1 : cap ≤ c2) (h2 : c2 < 2 ^ 26) : Ct l G yJ29_copyOf_4 cJ29_copyOf_4 4 (some (.array (.object "java/lang/Object"))) 1 29 1 c2 [.ref q, .int (nI c2), .ref (G.2.2.2 4)] ([[(q, .inl (G.2.2.1 4, cap, .inr (.inr (.inr (.inr (fun i => xs[i]?))))))]]) ((fun z => ∃ x ∈ xs, z = .inr x)) (Q_ctJ29_copyOf_4 G q cap c2 xs) := by
  refine Ct.of (by decide +kernel) (Nat.le_of_ble_eq_true rfl) ?_
  intro p e s m below meth c A ls C hW hRo hl
  have hl : lv_has ls 4 [(0, .ref q), (1, .int (nI c2)), (2, .ref (G.2.2.2 4))] := hl
  refine lv_aload_n C.hx C.hb dJ29_copyOf_4_0 rfl (lv_at hl 2 rfl) ?_
  refine k_ldcM C q1692 rfl dJ29_copyOf_4_1 ?_
  refine kr_acmp_ne (tgt := 13) C dJ29_copyOf_4_3 (by decide) (fun cq => absurd rfl cq) (fun cq => ?_)
  refine lv_iload_n C.hx C.hb dJ29_copyOf_4_6 rfl (lv_at hl 1 rfl) ?_
  refine k_newq C hW 4 rfl q1693 rfl q201 (N := c2) (by omega) (show 0 + 1 ≤ 1 by omega) (show 0 + c2 ≤ c2 by omega) dJ29_copyOf_4_7 (fun q1 H1 hW1 => ?_)
  have hW1 : Ws G A s [[(q, .inl (G.2.2.1 4, cap, .inr (.inr (.inr (.inr (fun i => xs[i]?))))))], [(q1, .inl (G.2.2.1 4, c2, .inr (.inr (.inr (.inr (fun _ => none))))))]] H1 [] := hW1
  clear hW
  refine lv_goto (tgt := 24) C.hx C.hb dJ29_copyOf_4_10 (by decide) ?_
  refine lv_astore_n (lv' := [(3, .ref q1), (0, .ref q), (1, .int (nI c2)), (2, .ref (G.2.2.2 4))]) C.hx C.hb dJ29_copyOf_4_24 rfl hl (Nat.le_of_ble_eq_true rfl) rfl (fun ls2 hl2 => ?_)
  clear hl
  refine lv_aload_n C.hx C.hb dJ29_copyOf_4_25 rfl (lv_at hl2 1 rfl) ?_
  refine kn_iconst (a := 0) C (by decide) dJ29_copyOf_4_26 ?_
  refine lv_aload_n C.hx C.hb dJ29_copyOf_4_27 rfl (lv_at hl2 0 rfl) ?_
  refine kn_iconst (a := 0) C (by decide) dJ29_copyOf_4_28 ?_
  refine lv_aload_n C.hx C.hb dJ29_copyOf_4_29 rfl (lv_at hl2 1 rfl) ?_
  refine k_alen C 4 rfl (hW1.get 0 0 rfl rfl) dJ29_copyOf_4_30 ?_
  refine lv_iload_n C.hx C.hb dJ29_copyOf_4_31 rfl (lv_at hl2 2 rfl) ?_
  refine k_callS (Sc := []) (Sr := [[(q, .inl (G.2.2.1 4, cap, .inr (.inr (.inr (.inr (fun i => xs[i]?))))))], [(q1, .inl (G.2.2.1 4, c2, .inr (.inr (.inr (.inr (fun _ => none))))))]]) (As := [.int (nI cap), .int (nI c2)]) (rest := [.int (nI 0), .ref q1, .int (nI 0), .ref q]) C (ctJ20_min l G cap c2 (by omega) (by omega)) hW1 q542 q543 q97 q544 rfl ⟨by decide, by decide, Eq.trans (b := some 2) (by decide +kernel) rfl⟩ (Nat.le_of_ble_eq_true rfl) (Nat.le_of_ble_eq_true rfl) (show 1 + 0 ≤ 1 by omega) (show (0 + c2) + 0 ≤ c2 by omega) hl2.1 rfl (Nat.le_of_ble_eq_true rfl) dJ29_copyOf_4_32 (k_permR _) (fun _ h => h.elim) (fun v H3 locs3 S1 hQ hz3 hW3 => ?_)
  obtain ⟨rfl, rfl⟩ := hQ
  have hW3 : Ws G A s ([[(q, .inl (G.2.2.1 4, cap, .inr (.inr (.inr (.inr (fun i => xs[i]?))))))], [(q1, .inl (G.2.2.1 4, c2, .inr (.inr (.inr (.inr (fun _ => none))))))]]) H3 locs3 := hW3
  clear hW1
  refine W.eq (g2 := F0 m 35 ls2 [.int (nI (min cap c2)), .int (nI 0), .ref q1, .int (nI 0), .ref q]) rfl ?_
  refine k_op (y := .int (nI cap)) (by rw [Nat.min_eq_left h1]) ?_
  refine k_copyM (S' := [[(q, .inl (G.2.2.1 4, cap, .inr (.inr (.inr (.inr (fun i => xs[i]?))))))], [(q1, .inl (G.2.2.1 4, c2, .inr (.inr (.inr (.inr (fun i => xs[i]?))))))]]) (k := cap) C hW3 0 0 1 0 rfl rfl rfl rfl q545 rfl (Nat.le_refl _) h1 (by omega) (fun i hi z hz => (hRo (.inr z) ⟨z, List.mem_of_getElem? hz, rfl⟩).atI hW3) (Nat.le_of_ble_eq_true rfl) (Nat.le_of_ble_eq_true rfl) hl2.1 (Nat.le_of_ble_eq_true rfl) dJ29_copyOf_4_35 (by rw [cpy_get xs cap hx]; rfl) (fun H4 locs4 hW4 => ?_)
  clear hW3
  refine W.eq (g2 := F0 m 38 ls2 []) rfl ?_
  refine lv_aload_n C.hx C.hb dJ29_copyOf_4_38 rfl (lv_at hl2 0 rfl) ?_
  exact k_aret C hW4 rfl (Or.inr ⟨_, rfl⟩) (Or.inr ⟨_, rfl⟩) ⟨_, rfl, rfl⟩ (by omega) (by omega) dJ29_copyOf_4_39

def Q_ctJ29_copyOf_3 (G : GT) (q cap c2 : Nat) (xs : List Nat) : Option Value → List va_W → Prop := fun v S1 => ∃ q2, v = some (.ref q2) ∧ S1 = [[(q, .inl (G.2.2.1 4, cap, .inr (.inr (.inr (.inr (fun i => xs[i]?))))))], [(q2, .inl (G.2.2.1 4, c2, .inr (.inr (.inr (.inr (fun i => xs[i]?))))))]]
set_option maxHeartbeats 4000000 in
set_option maxRecDepth 100000 in
theorem ctJ29_copyOf_3 (l : Launch) (G : GT) (q cap c2 : Nat) (xs : List Nat) (hx : xs.length = cap) (h1 : cap ≤ c2) (h2 : c2 < 2 ^ 26) : Ct l G yJ29_copyOf_3 cJ29_copyOf_3 2 (some (.array (.object "java/lang/Object"))) 2 52 1 c2 [.ref q, .int (nI c2)] ([[(q, .inl (G.2.2.1 4, cap, .inr (.inr (.inr (.inr (fun i => xs[i]?))))))]]) ((fun z => ∃ x ∈ xs, z = .inr x)) (Q_ctJ29_copyOf_3 G q cap c2 xs) := by
  refine Ct.of (by decide +kernel) (Nat.le_of_ble_eq_true rfl) ?_
  intro p e s m below meth c A ls C hW hRo hl
  have hl : lv_has ls 2 [(0, .ref q), (1, .int (nI c2))] := hl
  refine lv_aload_n C.hx C.hb dJ29_copyOf_3_0 rfl (lv_at hl 0 rfl) ?_
  refine lv_iload_n C.hx C.hb dJ29_copyOf_3_1 rfl (lv_at hl 1 rfl) ?_
  refine lv_aload_n C.hx C.hb dJ29_copyOf_3_2 rfl (lv_at hl 0 rfl) ?_
  refine k_getCo C (hW.get 0 0 rfl rfl) q1688 rfl (Nat.le_of_ble_eq_true rfl) (Nat.le_of_ble_eq_true rfl) hl.1 (Nat.le_of_ble_eq_true rfl) dJ29_copyOf_3_3 ?_
  refine W.eq (g2 := F0 m 6 ls [.ref (G.2.2.2 4), .int (nI c2), .ref q]) rfl ?_
  refine k_callS (Sc := [[(q, .inl (G.2.2.1 4, cap, .inr (.inr (.inr (.inr (fun i => xs[i]?))))))]]) (Sr := []) (As := [.ref q, .int (nI c2), .ref (G.2.2.2 4)]) (rest := []) C (ctJ29_copyOf_4 l G q cap c2 xs hx h1 h2) hW q1689 q1690 q107 q1691 rfl ⟨by decide, by decide, Eq.trans (b := some 3) (by decide +kernel) rfl⟩ (Nat.le_of_ble_eq_true rfl) (Nat.le_of_ble_eq_true rfl) (show 0 + 1 ≤ 1 by omega) (show 0 + c2 ≤ c2 by omega) hl.1 rfl (Nat.le_of_ble_eq_true rfl) dJ29_copyOf_3_6 ((pick_perm [[(q, .inl (G.2.2.1 4, cap, .inr (.inr (.inr (.inr (fun i => xs[i]?))))))]] 1 rfl (is := [0]) (by decide)).flatten.symm) (fun z hz => Or.inr (Or.inr (hRo z hz))) (fun v H1 locs1 S1 hQ hz1 hW1 => ?_)
  obtain ⟨q2, rfl, rfl⟩ := hQ
  have hW1 : Ws G A s ([[(q, .inl (G.2.2.1 4, cap, .inr (.inr (.inr (.inr (fun i => xs[i]?))))))], [(q2, .inl (G.2.2.1 4, c2, .inr (.inr (.inr (.inr (fun i => xs[i]?))))))]]) H1 locs1 := hW1
  clear hW
  refine W.eq (g2 := F0 m 9 ls [.ref q2]) rfl ?_
  exact k_aret C hW1 rfl (Or.inr ⟨_, rfl⟩) (Or.inr ⟨_, rfl⟩) ⟨_, rfl, rfl⟩ (by omega) (by omega) dJ29_copyOf_3_9

def Q_ctJ2_init (G : GT) (a : Nat) : Option Value → List va_W → Prop := fun v S1 => v = none ∧ S1 = [[(a, .inr (10, [.int (nI 0), .ref (G.2.2.2 2), .int (nI 0)]))]]
set_option maxHeartbeats 4000000 in
set_option maxRecDepth 100000 in
theorem ctJ2_init (l : Launch) (G : GT) (a : Nat)  : Ct l G yJ2_init cJ2_init 1 none 3 60 0 0 [.ref a] ([[(a, .inr (10, [.int 0, .null, .int 0]))]]) noR (Q_ctJ2_init G a) := by
  refine Ct.of (by decide +kernel) (Nat.le_of_ble_eq_true rfl) ?_
  intro p e s m below meth c A ls C hW hRo hl
  have hl : lv_has ls 1 [(0, .ref a)] := hl
  refine lv_aload_n C.hx C.hb dJ2_init_0 rfl (lv_at hl 0 rfl) ?_
  refine k_callI (Sc := [[(a, .inr (10, [.int 0, .null, .int 0]))]]) (Sr := []) (As := []) (rest := []) C (ctJ1_init_A l G a 0 0 none none) hW q142 q143 q74 q144 rfl rfl ⟨by decide, by decide, Eq.trans (b := some 0) (by decide +kernel) rfl⟩ (Nat.le_of_ble_eq_true rfl) (Nat.le_of_ble_eq_true rfl) (Nat.le_refl _) (Nat.le_refl _) hl.1 rfl (Nat.le_of_ble_eq_true rfl) dJ2_init_1 ((pick_perm [[(a, .inr (10, [.int 0, .null, .int 0]))]] 1 rfl (is := [0]) (by decide)).flatten.symm) (fun _ h => h.elim) (fun v H1 locs1 S1 hQ hz1 hW1 => ?_)
  obtain ⟨rfl, rfl⟩ := hQ
  have hW1 : Ws G A s ([[(a, .inr (10, [.int (nI 0), .null, .int (nI 0)]))]]) H1 locs1 := hW1
  clear hW
  refine W.eq (g2 := F0 m 4 ls []) rfl ?_
  refine lv_aload_n C.hx C.hb dJ2_init_4 rfl (lv_at hl 0 rfl) ?_
  refine k_gets C hW1 (List.mem_of_getElem? (i := 1) rfl) q149 rfl dJ2_init_5 ?_
  refine k_put (S' := [[(a, .inr (10, [.int (nI 0), .ref (G.2.2.2 2), .int (nI 0)]))]]) C clJ2 hW1 0 0 rfl rfl 1 (Nat.le_of_ble_eq_true rfl) rfl q151 rfl (fun _ h => h) (Or.inr ⟨rfl, rfl⟩) (fty := (.array (.object "java/lang/Object"))) (v := .ref (G.2.2.2 2)) (by decide +kernel) rfl rfl (Nat.le_of_ble_eq_true rfl) dJ2_init_8 rfl (fun H2 locs2 hW2 => ?_)
  clear hW1
  exact k_vret C hW2 rfl ⟨rfl, rfl⟩ (Nat.le_refl _) (Nat.le_refl _) dJ2_init_11

def Q_ctJ2_grow_2e (G : GT) (a : Nat) (md : Int32) : Option Value → List va_W → Prop := fun v S1 => ∃ q, v = some (.ref q) ∧ S1 = [[(a, .inr (10, [.int md, .ref q, .int (nI 0)]))], [(q, .inl (G.2.2.1 4, 10, .inr (.inr (.inr (.inr (fun _ => none))))))]]
set_option maxHeartbeats 4000000 in
set_option maxRecDepth 100000 in
theorem ctJ2_grow_2e (l : Launch) (G : GT) (a : Nat) (md : Int32)  : Ct l G yJ2_grow_2 cJ2_grow_2 4 (some (.array (.object "java/lang/Object"))) 1 21 1 10 [.ref a, .int (nI 1)] ([[(a, .inr (10, [.int md, .ref (G.2.2.2 2), .int (nI 0)]))]]) noR (Q_ctJ2_grow_2e G a md) := by
  refine Ct.of (by decide +kernel) (Nat.le_of_ble_eq_true rfl) ?_
  intro p e s m below meth c A ls C hW hRo hl
  have hl : lv_has ls 4 [(0, .ref a), (1, .int (nI 1))] := hl
  refine lv_aload_n C.hx C.hb dJ2_grow_2_0 rfl (lv_at hl 0 rfl) ?_
  refine k_get (v := .ref (G.2.2.2 2)) C clJ2 (hW.get 0 0 rfl rfl) 1 (Nat.le_of_ble_eq_true rfl) rfl q151 rfl rfl dJ2_grow_2_1 ?_
  refine k_alen C 4 rfl ((Ro.const C.hX hW.2.2.2.2 (List.mem_cons_of_mem _ List.mem_cons_self)).at hW) dJ2_grow_2_4 ?_
  refine lv_istore_n (lv' := [(2, .int (nI 0)), (0, .ref a), (1, .int (nI 1))]) C.hx C.hb dJ2_grow_2_5 rfl hl (Nat.le_of_ble_eq_true rfl) rfl (fun ls1 hl1 => ?_)
  clear hl
  refine lv_iload_n C.hx C.hb dJ2_grow_2_6 rfl (lv_at hl1 0 rfl) ?_
  refine kn_if_gt (tgt := 20) C (by decide) dJ2_grow_2_7 (by decide) (fun cq => absurd cq (by decide)) (fun cq => ?_)
  refine lv_aload_n C.hx C.hb dJ2_grow_2_10 rfl (lv_at hl1 1 rfl) ?_
  refine k_get (v := .ref (G.2.2.2 2)) C clJ2 (hW.get 0 0 rfl rfl) 1 (Nat.le_of_ble_eq_true rfl) rfl q151 rfl rfl dJ2_grow_2_11 ?_
  refine k_gets C hW (List.mem_of_getElem? (i := 1) rfl) q149 rfl dJ2_grow_2_14 ?_
  refine kr_acmp_eq (tgt := 45) C dJ2_grow_2_17 (by decide) (fun cq => ?_) (fun cq => absurd rfl cq)
  refine lv_aload_n C.hx C.hb dJ2_grow_2_45 rfl (lv_at hl1 1 rfl) ?_
  refine kn_bipush (a := 10) C (by decide) dJ2_grow_2_46 ?_
  refine lv_iload_n C.hx C.hb dJ2_grow_2_48 rfl (lv_at hl1 2 rfl) ?_
  refine k_callS (Sc := []) (Sr := [[(a, .inr (10, [.int md, .ref (G.2.2.2 2), .int (nI 0)]))]]) (As := [.int (nI 10), .int (nI 1)]) (rest := [.ref a]) C (ctJ20_max l G 10 1 (by decide) (by decide)) hW q1694 q525 q97 q526 rfl ⟨by decide, by decide, Eq.trans (b := some 2) (by decide +kernel) rfl⟩ (Nat.le_of_ble_eq_true rfl) (Nat.le_of_ble_eq_true rfl) (show 0 + 0 ≤ 1 by omega) (show 0 + 0 ≤ 10 by omega) hl1.1 rfl (Nat.le_of_ble_eq_true rfl) dJ2_grow_2_49 (k_permR _) (fun _ h => h.elim) (fun v H2 locs2 S1 hQ hz2 hW2 => ?_)
  obtain ⟨rfl, rfl⟩ := hQ
  have hW2 : Ws G A s ([[(a, .inr (10, [.int md, .ref (G.2.2.2 2), .int (nI 0)]))]]) H2 locs2 := hW2
  clear hW
  refine W.eq (g2 := F0 m 52 ls1 [.int (nI (max 10 1)), .ref a]) rfl ?_
  refine k_op (y := .int (nI 10)) rfl ?_
  refine k_newq C hW2 4 rfl q1695 rfl q201 (N := 10) (by decide) (show 0 + 1 ≤ 1 by omega) (show 0 + 10 ≤ 10 by omega) dJ2_grow_2_52 (fun q3 H3 hW3 => ?_)
  have hW3 : Ws G A s [[(a, .inr (10, [.int md, .ref (G.2.2.2 2), .int (nI 0)]))], [(q3, .inl (G.2.2.1 4, 10, .inr (.inr (.inr (.inr (fun _ => none))))))]] H3 locs2 := hW3
  clear hW2
  refine lv_dup_x1 C.hx C.hb dJ2_grow_2_55 rfl rfl ?_
  refine k_put (S' := [[(a, .inr (10, [.int md, .ref q3, .int (nI 0)]))], [(q3, .inl (G.2.2.1 4, 10, .inr (.inr (.inr (.inr (fun _ => none))))))]]) C clJ2 hW3 0 0 rfl rfl 1 (Nat.le_of_ble_eq_true rfl) rfl q151 rfl (fun _ h => h) (Or.inl rfl) (fty := (.array (.object "java/lang/Object"))) (v := .ref q3) (by decide +kernel) rfl rfl (Nat.le_of_ble_eq_true rfl) dJ2_grow_2_56 rfl (fun H4 locs4 hW4 => ?_)
  clear hW3
  exact k_aret C hW4 rfl (Or.inr ⟨_, rfl⟩) (Or.inr ⟨_, rfl⟩) ⟨_, rfl, rfl⟩ (by omega) (by omega) dJ2_grow_2_59

def Q_ctJ2_grow_e (G : GT) (a : Nat) (md : Int32) : Option Value → List va_W → Prop := fun v S1 => ∃ q, v = some (.ref q) ∧ S1 = [[(a, .inr (10, [.int md, .ref q, .int (nI 0)]))], [(q, .inl (G.2.2.1 4, 10, .inr (.inr (.inr (.inr (fun _ => none))))))]]
set_option maxHeartbeats 4000000 in
set_option maxRecDepth 100000 in
theorem ctJ2_grow_e (l : Launch) (G : GT) (a : Nat) (md : Int32)  : Ct l G yJ2_grow cJ2_grow 1 (some (.array (.object "java/lang/Object"))) 2 44 1 10 [.ref a] ([[(a, .inr (10, [.int md, .ref (G.2.2.2 2), .int (nI 0)]))]]) noR (Q_ctJ2_grow_e G a md) := by
  refine Ct.of (by decide +kernel) (Nat.le_of_ble_eq_true rfl) ?_
  intro p e s m below meth c A ls C hW hRo hl
  have hl : lv_has ls 1 [(0, .ref a)] := hl
  refine lv_aload_n C.hx C.hb dJ2_grow_0 rfl (lv_at hl 0 rfl) ?_
  refine lv_aload_n C.hx C.hb dJ2_grow_1 rfl (lv_at hl 0 rfl) ?_
  refine k_get (v := .int (nI 0)) C clJ2 (hW.get 0 0 rfl rfl) 2 (Nat.le_of_ble_eq_true rfl) rfl q154 rfl rfl dJ2_grow_2 ?_
  refine kn_iconst (a := 1) C (by decide) dJ2_grow_5 ?_
  refine kn_iadd C  dJ2_grow_6 ?_
  refine k_op (y := .int (nI 1)) rfl ?_
  refine k_callV (Sc := [[(a, .inr (10, [.int md, .ref (G.2.2.2 2), .int (nI 0)]))]]) (Sr := []) (As := [.int (nI 1)]) (rest := []) C (ctJ2_grow_2e l G a md) hW clJ2 (hW.get 0 0 rfl rfl) q1680 q1682 qs28 q75 q1683 rfl rfl ⟨by decide, by decide, Eq.trans (b := some 1) (by decide +kernel) rfl⟩ (Nat.le_of_ble_eq_true rfl) (Nat.le_of_ble_eq_true rfl) (show 0 + 1 ≤ 1 by omega) (show 0 + 10 ≤ 10 by omega) hl.1 rfl (Nat.le_of_ble_eq_true rfl) dJ2_grow_7 ((pick_perm [[(a, .inr (10, [.int md, .ref (G.2.2.2 2), .int (nI 0)]))]] 1 rfl (is := [0]) (by decide)).flatten.symm) (fun _ h => h.elim) (fun v H1 locs1 S1 hQ hz1 hW1 => ?_)
  obtain ⟨q, rfl, rfl⟩ := hQ
  have hW1 : Ws G A s ([[(a, .inr (10, [.int md, .ref q, .int (nI 0)]))], [(q, .inl (G.2.2.1 4, 10, .inr (.inr (.inr (.inr (fun _ => none))))))]]) H1 locs1 := hW1
  clear hW
  refine W.eq (g2 := F0 m 10 ls [.ref q]) rfl ?_
  exact k_aret C hW1 rfl (Or.inr ⟨_, rfl⟩) (Or.inr ⟨_, rfl⟩) ⟨_, rfl, rfl⟩ (by omega) (by omega) dJ2_grow_10

def Q_ctJ2_grow_2g (G : GT) (a q n : Nat) (md : Int32) (xs : List Nat) : Option Value → List va_W → Prop := fun v S1 => ∃ q2, v = some (.ref q2) ∧ S1 = [[(a, .inr (10, [.int md, .ref q2, .int (nI n)]))], [(q2, .inl (G.2.2.1 4, (n + n / 2), .inr (.inr (.inr (.inr (fun i => xs[i]?))))))]]
set_option maxHeartbeats 4000000 in
set_option maxRecDepth 100000 in
theorem ctJ2_grow_2g (l : Launch) (G : GT) (a q n : Nat) (md : Int32) (xs : List Nat) (hx : xs.length = n) (h1 : 10 ≤ n) (h2 : n < 2 ^ 25) : Ct l G yJ2_grow_2 cJ2_grow_2 4 (some (.array (.object "java/lang/Object"))) 3 73 1 ((n + n / 2)) [.ref a, .int (nI (n + 1))] ([[(a, .inr (10, [.int md, .ref q, .int (nI n)]))], [(q, .inl (G.2.2.1 4, n, .inr (.inr (.inr (.inr (fun i => xs[i]?))))))]]) ((fun z => ∃ x ∈ xs, z = .inr x)) (Q_ctJ2_grow_2g G a q n md xs) := by
  refine Ct.of (by decide +kernel) (Nat.le_of_ble_eq_true rfl) ?_
  intro p e s m below meth c A ls C hW hRo hl
  have hl : lv_has ls 4 [(0, .ref a), (1, .int (nI (n + 1)))] := hl
  refine lv_aload_n C.hx C.hb dJ2_grow_2_0 rfl (lv_at hl 0 rfl) ?_
  refine k_get (v := .ref q) C clJ2 (hW.get 0 0 rfl rfl) 1 (Nat.le_of_ble_eq_true rfl) rfl q151 rfl rfl dJ2_grow_2_1 ?_
  refine k_alen C 4 rfl (hW.get 1 0 rfl rfl) dJ2_grow_2_4 ?_
  refine lv_istore_n (lv' := [(2, .int (nI n)), (0, .ref a), (1, .int (nI (n + 1)))]) C.hx C.hb dJ2_grow_2_5 rfl hl (Nat.le_of_ble_eq_true rfl) rfl (fun ls1 hl1 => ?_)
  clear hl
  refine lv_iload_n C.hx C.hb dJ2_grow_2_6 rfl (lv_at hl1 0 rfl) ?_
  refine kn_if_gt (tgt := 20) C (by omega) dJ2_grow_2_7 (by decide) (fun c7 => ?_) (fun c7 => (absurd c7 (by omega)))
  refine lv_iload_n C.hx C.hb dJ2_grow_2_20 rfl (lv_at hl1 0 rfl) ?_
  refine lv_iload_n C.hx C.hb dJ2_grow_2_21 rfl (lv_at hl1 2 rfl) ?_
  refine lv_iload_n C.hx C.hb dJ2_grow_2_22 rfl (lv_at hl1 0 rfl) ?_
  refine kn_isub C (by omega) dJ2_grow_2_23 ?_
  refine lv_iload_n C.hx C.hb dJ2_grow_2_24 rfl (lv_at hl1 0 rfl) ?_
  refine kn_iconst (a := 1) C (by decide) dJ2_grow_2_25 ?_
  refine kn_ishr1 C (by omega) dJ2_grow_2_26 ?_
  refine k_callS (Sc := []) (Sr := [[(a, .inr (10, [.int md, .ref q, .int (nI n)]))], [(q, .inl (G.2.2.1 4, n, .inr (.inr (.inr (.inr (fun i => xs[i]?))))))]]) (As := [.int (nI n), .int (nI ((n + 1) - n)), .int (nI (n / 2))]) (rest := []) C (ctJ21_newLength l G n (n + 1 - n) (n / 2) (by omega) (by omega) (by omega) (by omega)) hW q1684 q522 q98 q523 rfl ⟨by decide, by decide, Eq.trans (b := some 3) (by decide +kernel) rfl⟩ (Nat.le_of_ble_eq_true rfl) (Nat.le_of_ble_eq_true rfl) (show 0 + 0 ≤ 1 by omega) (show 0 + 0 ≤ (n + n / 2) by omega) hl1.1 rfl (Nat.le_of_ble_eq_true rfl) dJ2_grow_2_27 (k_permR _) (fun _ h => h.elim) (fun v H2 locs2 S1 hQ hz2 hW2 => ?_)
  obtain ⟨rfl, rfl⟩ := hQ
  have hW2 : Ws G A s ([[(a, .inr (10, [.int md, .ref q, .int (nI n)]))], [(q, .inl (G.2.2.1 4, n, .inr (.inr (.inr (.inr (fun i => xs[i]?))))))]]) H2 locs2 := hW2
  clear hW
  refine W.eq (g2 := F0 m 30 ls1 [.int (nI (n + max (n + 1 - n) (n / 2)))]) rfl ?_
  refine k_op (y := .int (nI (n + n / 2))) (by rw [show max (n + 1 - n) (n / 2) = n / 2 by omega]) ?_
  refine lv_istore_n (lv' := [(3, .int (nI (n + n / 2))), (2, .int (nI n)), (0, .ref a), (1, .int (nI (n + 1)))]) C.hx C.hb dJ2_grow_2_30 rfl hl1 (Nat.le_of_ble_eq_true rfl) rfl (fun ls3 hl3 => ?_)
  clear hl1
  refine lv_aload_n C.hx C.hb dJ2_grow_2_31 rfl (lv_at hl3 2 rfl) ?_
  refine lv_aload_n C.hx C.hb dJ2_grow_2_32 rfl (lv_at hl3 2 rfl) ?_
  refine k_get (v := .ref q) C clJ2 (hW2.get 0 0 rfl rfl) 1 (Nat.le_of_ble_eq_true rfl) rfl q151 rfl rfl dJ2_grow_2_33 ?_
  refine lv_iload_n C.hx C.hb dJ2_grow_2_36 rfl (lv_at hl3 0 rfl) ?_
  refine k_callS (Sc := [[(q, .inl (G.2.2.1 4, n, .inr (.inr (.inr (.inr (fun i => xs[i]?))))))]]) (Sr := [[(a, .inr (10, [.int md, .ref q, .int (nI n)]))]]) (As := [.ref q, .int (nI (n + n / 2))]) (rest := [.ref a]) C (ctJ29_copyOf_3 l G q n (n + n / 2) xs hx (by omega) (by omega)) hW2 q1685 q1686 q107 q1687 rfl ⟨by decide, by decide, Eq.trans (b := some 2) (by decide +kernel) rfl⟩ (Nat.le_of_ble_eq_true rfl) (Nat.le_of_ble_eq_true rfl) (show 0 + 1 ≤ 1 by omega) (show 0 + (n + n / 2) ≤ (n + n / 2) by omega) hl3.1 rfl (Nat.le_of_ble_eq_true rfl) dJ2_grow_2_37 ((pick_perm [[(a, .inr (10, [.int md, .ref q, .int (nI n)]))], [(q, .inl (G.2.2.1 4, n, .inr (.inr (.inr (.inr (fun i => xs[i]?))))))]] 2 rfl (is := [0, 1]) (by decide)).flatten.symm) (fun z hz => Or.inr (Or.inr (hRo z hz))) (fun v H4 locs4 S1 hQ hz4 hW4 => ?_)
  obtain ⟨q2, rfl, rfl⟩ := hQ
  have hW4 : Ws G A s ([[(a, .inr (10, [.int md, .ref q, .int (nI n)]))], [(q, .inl (G.2.2.1 4, n, .inr (.inr (.inr (.inr (fun i => xs[i]?))))))], [(q2, .inl (G.2.2.1 4, (n + n / 2), .inr (.inr (.inr (.inr (fun i => xs[i]?))))))]]) H4 locs4 := hW4
  clear hW2
  refine W.eq (g2 := F0 m 40 ls3 [.ref q2, .ref a]) rfl ?_
  refine lv_dup_x1 C.hx C.hb dJ2_grow_2_40 rfl rfl ?_
  refine k_put (S' := [[(a, .inr (10, [.int md, .ref q2, .int (nI n)]))], [(q, .inl (G.2.2.1 4, n, .inr (.inr (.inr (.inr (fun i => xs[i]?))))))], [(q2, .inl (G.2.2.1 4, (n + n / 2), .inr (.inr (.inr (.inr (fun i => xs[i]?))))))]]) C clJ2 hW4 0 0 rfl rfl 1 (Nat.le_of_ble_eq_true rfl) rfl q151 rfl (fun _ h => h) (Or.inl rfl) (fty := (.array (.object "java/lang/Object"))) (v := .ref q2) (by decide +kernel) rfl rfl (Nat.le_of_ble_eq_true rfl) dJ2_grow_2_41 rfl (fun H5 locs5 hW5 => ?_)
  clear hW4
  have hW6 : Ws G A s [[(a, .inr (10, [.int md, .ref q2, .int (nI n)]))], [(q2, .inl (G.2.2.1 4, (n + n / 2), .inr (.inr (.inr (.inr (fun i => xs[i]?))))))], [(q, .inl (G.2.2.1 4, n, .inr (.inr (.inr (.inr (fun i => xs[i]?))))))]] H5 locs5 := hW5.pick 3 rfl [0, 2, 1] (by decide) rfl
  clear hW5
  have hW7 : Ws G A s [[(a, .inr (10, [.int md, .ref q2, .int (nI n)]))], [(q2, .inl (G.2.2.1 4, (n + n / 2), .inr (.inr (.inr (.inr (fun i => xs[i]?))))))]] H5 locs5 := hW6.drop (S2 := [[(q, .inl (G.2.2.1 4, n, .inr (.inr (.inr (.inr (fun i => xs[i]?))))))]]) rfl
  clear hW6
  exact k_aret C hW7 rfl (Or.inr ⟨_, rfl⟩) (Or.inr ⟨_, rfl⟩) ⟨_, rfl, rfl⟩ (by omega) (by omega) dJ2_grow_2_44

def Q_ctJ2_grow_g (G : GT) (a q n : Nat) (md : Int32) (xs : List Nat) : Option Value → List va_W → Prop := fun v S1 => ∃ q2, v = some (.ref q2) ∧ S1 = [[(a, .inr (10, [.int md, .ref q2, .int (nI n)]))], [(q2, .inl (G.2.2.1 4, (n + n / 2), .inr (.inr (.inr (.inr (fun i => xs[i]?))))))]]
set_option maxHeartbeats 4000000 in
set_option maxRecDepth 100000 in
theorem ctJ2_grow_g (l : Launch) (G : GT) (a q n : Nat) (md : Int32) (xs : List Nat) (hx : xs.length = n) (h1 : 10 ≤ n) (h2 : n < 2 ^ 25) : Ct l G yJ2_grow cJ2_grow 1 (some (.array (.object "java/lang/Object"))) 4 96 1 ((n + n / 2)) [.ref a] ([[(a, .inr (10, [.int md, .ref q, .int (nI n)]))], [(q, .inl (G.2.2.1 4, n, .inr (.inr (.inr (.inr (fun i => xs[i]?))))))]]) ((fun z => ∃ x ∈ xs, z = .inr x)) (Q_ctJ2_grow_g G a q n md xs) := by
  refine Ct.of (by decide +kernel) (Nat.le_of_ble_eq_true rfl) ?_
  intro p e s m below meth c A ls C hW hRo hl
  have hl : lv_has ls 1 [(0, .ref a)] := hl
  refine lv_aload_n C.hx C.hb dJ2_grow_0 rfl (lv_at hl 0 rfl) ?_
  refine lv_aload_n C.hx C.hb dJ2_grow_1 rfl (lv_at hl 0 rfl) ?_
  refine k_get (v := .int (nI n)) C clJ2 (hW.get 0 0 rfl rfl) 2 (Nat.le_of_ble_eq_true rfl) rfl q154 rfl rfl dJ2_grow_2 ?_
  refine kn_iconst (a := 1) C (by decide) dJ2_grow_5 ?_
  refine kn_iadd C  dJ2_grow_6 ?_
  refine k_callV (Sc := [[(a, .inr (10, [.int md, .ref q, .int (nI n)]))], [(q, .inl (G.2.2.1 4, n, .inr (.inr (.inr (.inr (fun i => xs[i]?))))))]]) (Sr := []) (As := [.int (nI (n + 1))]) (rest := []) C (ctJ2_grow_2g l G a q n md xs hx h1 h2) hW clJ2 (hW.get 0 0 rfl rfl) q1680 q1682 qs28 q75 q1683 rfl rfl ⟨by decide, by decide, Eq.trans (b := some 1) (by decide +kernel) rfl⟩ (Nat.le_of_ble_eq_true rfl) (Nat.le_of_ble_eq_true rfl) (show 0 + 1 ≤ 1 by omega) (show 0 + (n + n / 2) ≤ (n + n / 2) by omega) hl.1 rfl (Nat.le_of_ble_eq_true rfl) dJ2_grow_7 ((pick_perm [[(a, .inr (10, [.int md, .ref q, .int (nI n)]))], [(q, .inl (G.2.2.1 4, n, .inr (.inr (.inr (.inr (fun i => xs[i]?))))))]] 2 rfl (is := [0, 1]) (by decide)).flatten.symm) (fun z hz => Or.inr (Or.inr (hRo z hz))) (fun v H1 locs1 S1 hQ hz1 hW1 => ?_)
  obtain ⟨q2, rfl, rfl⟩ := hQ
  have hW1 : Ws G A s ([[(a, .inr (10, [.int md, .ref q2, .int (nI n)]))], [(q2, .inl (G.2.2.1 4, (n + n / 2), .inr (.inr (.inr (.inr (fun i => xs[i]?))))))]]) H1 locs1 := hW1
  clear hW
  refine W.eq (g2 := F0 m 10 ls [.ref q2]) rfl ?_
  exact k_aret C hW1 rfl (Or.inr ⟨_, rfl⟩) (Or.inr ⟨_, rfl⟩) ⟨_, rfl, rfl⟩ (by omega) (by omega) dJ2_grow_10
