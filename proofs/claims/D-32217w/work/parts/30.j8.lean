theorem ctJ23_ntz (l : Launch) (G : GT) (x t : Nat) (hx : x < 2 ^ 64) (ht : t < 64) (h1 : Low1 x t) : Ct l G yJ23_numberOfTrailingZeros cJ23_numberOfTrailingZeros 3 (some .int) 1 21 0 0 [.long (lN x)] [] noR (fun v S1 => v = some (.int (nI t)) ∧ S1 = []) := by
  rcases Nat.lt_or_ge t 32 with q | q
  · exact ctJ23_ntz_lo l G x t q h1
  · exact ctJ23_ntz_hi l G x t hx q ht h1
def Q_ctJ3_wordIndex (G : GT) (b : Nat) : Option Value → List va_W → Prop := fun v S1 => v = some (.int (nI (b / 64))) ∧ S1 = []
set_option maxHeartbeats 4000000 in
set_option maxRecDepth 100000 in
theorem ctJ3_wordIndex (l : Launch) (G : GT) (b : Nat) (hb : b < 2 ^ 31) : Ct l G yJ3_wordIndex cJ3_wordIndex 1 (some .int) 0 0 0 0 [.int (nI b)] ([]) noR (Q_ctJ3_wordIndex G b) := by
  refine Ct.of (by decide +kernel) (Nat.le_of_ble_eq_true rfl) ?_
  intro p e s m below meth c A ls C hW hRo hl
  have hl : lv_has ls 1 [(0, .int (nI b))] := hl
  refine lv_iload_n C.hx C.hb dJ3_wordIndex_0 rfl (lv_at hl 0 rfl) ?_
  refine kn_bipush (a := 6) C (by decide) dJ3_wordIndex_1 ?_
  refine kn_ishr6 C (by omega) dJ3_wordIndex_3 ?_
  exact k_iret C hW rfl ⟨rfl, rfl⟩ (Nat.le_refl _) (Nat.le_refl _) dJ3_wordIndex_4

def Q_ctJ3_initWords (G : GT) (d : Nat) : Option Value → List va_W → Prop := fun v S1 => ∃ w, v = none ∧ S1 = [[(d, .inr (11, [.ref w, .int (nI 0), .int (nI 0)]))], [(w, .inl (G.2.2.1 1, 4, .inr (.inl (fun _ => 0))))]]
set_option maxHeartbeats 4000000 in
set_option maxRecDepth 100000 in
theorem ctJ3_initWords (l : Launch) (G : GT) (d : Nat)  : Ct l G yJ3_initWords cJ3_initWords 2 none 1 20 1 4 [.ref d, .int (nI 200)] ([[(d, .inr (11, [.null, .int (nI 0), .int (nI 0)]))]]) noR (Q_ctJ3_initWords G d) := by
  refine Ct.of (by decide +kernel) (Nat.le_of_ble_eq_true rfl) ?_
  intro p e s m below meth c A ls C hW hRo hl
  have hl : lv_has ls 2 [(0, .ref d), (1, .int (nI 200))] := hl
  refine lv_aload_n C.hx C.hb dJ3_initWords_0 rfl (lv_at hl 0 rfl) ?_
  refine lv_iload_n C.hx C.hb dJ3_initWords_1 rfl (lv_at hl 1 rfl) ?_
  refine kn_iconst (a := 1) C (by decide) dJ3_initWords_2 ?_
  refine kn_isub C (by omega) dJ3_initWords_3 ?_
  refine k_callS (Sc := []) (Sr := [[(d, .inr (11, [.null, .int (nI 0), .int (nI 0)]))]]) (As := [.int (nI (200 - 1))]) (rest := [.ref d]) C (ctJ3_wordIndex l G (200 - 1) (by decide)) hW q180 q181 q76 q182 rfl ⟨by decide, by decide, Eq.trans (b := some 1) (by decide +kernel) rfl⟩ (Nat.le_of_ble_eq_true rfl) (Nat.le_of_ble_eq_true rfl) (show 0 + 0 ≤ 1 by omega) (show 0 + 0 ≤ 4 by omega) hl.1 rfl (Nat.le_of_ble_eq_true rfl) dJ3_initWords_4 (k_permR _) (fun _ h => h.elim) (fun v H1 locs1 S1 hQ hz1 hW1 => ?_)
  obtain ⟨rfl, rfl⟩ := hQ
  have hW1 : Ws G A s ([[(d, .inr (11, [.null, .int (nI 0), .int (nI 0)]))]]) H1 locs1 := hW1
  clear hW
  refine W.eq (g2 := F0 m 7 ls [.int (nI ((200 - 1) / 64)), .ref d]) rfl ?_
  refine kn_iconst (a := 1) C (by decide) dJ3_initWords_7 ?_
  refine kn_iadd C  dJ3_initWords_8 ?_
  refine k_op (y := .int (nI 4)) rfl ?_
  refine k_newa C hW1 (atype := .long) (ty := .long) 1 rfl q193 rfl (fun _ h => (nomatch h)) (N := 4) (a0 := (4, .inr (.inl (fun _ => 0)))) (fun _ => rfl) (by decide) (by decide) (show 0 + 1 ≤ 1 by omega) (show 0 + 4 ≤ 4 by omega) dJ3_initWords_9 (fun q2 H2 hW2 => ?_)
  have hW2 : Ws G A s [[(d, .inr (11, [.null, .int (nI 0), .int (nI 0)]))], [(q2, .inl (G.2.2.1 1, 4, .inr (.inl (fun _ => 0))))]] H2 locs1 := hW2
  clear hW1
  refine k_put (S' := [[(d, .inr (11, [.ref q2, .int (nI 0), .int (nI 0)]))], [(q2, .inl (G.2.2.1 1, 4, .inr (.inl (fun _ => 0))))]]) C clJ3 hW2 0 0 rfl rfl 0 (Nat.le_of_ble_eq_true rfl) rfl q183 rfl (fun _ h => h) (Or.inl rfl) (fty := (.array .long)) (v := .ref q2) (by decide +kernel) rfl rfl (Nat.le_of_ble_eq_true rfl) dJ3_initWords_11 rfl (fun H3 locs3 hW3 => ?_)
  clear hW2
  exact k_vret C hW3 rfl ⟨_, rfl, rfl⟩ (by omega) (by omega) dJ3_initWords_14

def Q_ctJ3_init (G : GT) (d : Nat) : Option Value → List va_W → Prop := fun v S1 => ∃ w, v = none ∧ S1 = [[(d, .inr (11, [.ref w, .int (nI 0), .int (nI 1)]))], [(w, .inl (G.2.2.1 1, 4, .inr (.inl (fun j => lN (bw (fun _ => false) j)))))]]
set_option maxHeartbeats 4000000 in
set_option maxRecDepth 100000 in
theorem ctJ3_init (l : Launch) (G : GT) (d : Nat)  : Ct l G yJ3_init cJ3_init 2 none 2 41 1 4 [.ref d, .int (nI 200)] ([[(d, .inr (11, [.null, .int 0, .int 0]))]]) noR (Q_ctJ3_init G d) := by
  refine Ct.of (by decide +kernel) (Nat.le_of_ble_eq_true rfl) ?_
  intro p e s m below meth c A ls C hW hRo hl
  have hl : lv_has ls 2 [(0, .ref d), (1, .int (nI 200))] := hl
  refine lv_aload_n C.hx C.hb dJ3_init_0 rfl (lv_at hl 0 rfl) ?_
  refine W.objInit C.hx C.hb C.hown (C.hts _ q175) (C.hts _ q133) (C.hts _ q134) rfl (by rw [C.hml]; exact hl.1) rfl dJ3_init_1 (Nat.le_of_ble_eq_true rfl) (Nat.le_of_ble_eq_true rfl) ?_
  refine W.eq (g2 := F0 m 4 ls []) rfl ?_
  refine lv_aload_n C.hx C.hb dJ3_init_4 rfl (lv_at hl 0 rfl) ?_
  refine kn_iconst (a := 0) C (by decide) dJ3_init_5 ?_
  refine k_put (S' := [[(d, .inr (11, [.null, .int (nI 0), .int 0]))]]) C clJ3 hW 0 0 rfl rfl 1 (Nat.le_of_ble_eq_true rfl) rfl q184 rfl (fun _ h => h) (Or.inr ⟨rfl, rfl⟩) (fty := .int) (v := .int (nI 0)) (by decide +kernel) rfl rfl (Nat.le_of_ble_eq_true rfl) dJ3_init_6 rfl (fun H1 locs1 hW1 => ?_)
  clear hW
  refine lv_aload_n C.hx C.hb dJ3_init_9 rfl (lv_at hl 0 rfl) ?_
  refine kn_iconst (a := 0) C (by decide) dJ3_init_10 ?_
  refine k_put (S' := [[(d, .inr (11, [.null, .int (nI 0), .int (nI 0)]))]]) C clJ3 hW1 0 0 rfl rfl 2 (Nat.le_of_ble_eq_true rfl) rfl q185 rfl (fun _ h => h) (Or.inr ⟨rfl, rfl⟩) (fty := .boolean) (v := .int (nI 0)) (by decide +kernel) (by decide) (by decide) (Nat.le_of_ble_eq_true rfl) dJ3_init_11 rfl (fun H2 locs2 hW2 => ?_)
  clear hW1
  refine lv_iload_n C.hx C.hb dJ3_init_14 rfl (lv_at hl 1 rfl) ?_
  refine kn_if_ge (tgt := 45) C (by decide) dJ3_init_15 (by decide) ?_
  refine lv_aload_n C.hx C.hb dJ3_init_45 rfl (lv_at hl 0 rfl) ?_
  refine lv_iload_n C.hx C.hb dJ3_init_46 rfl (lv_at hl 1 rfl) ?_
  refine k_callV (Sc := [[(d, .inr (11, [.null, .int (nI 0), .int (nI 0)]))]]) (Sr := []) (As := [.int (nI 200)]) (rest := []) C (ctJ3_initWords l G d) hW2 clJ3 (hW2.get 0 0 rfl rfl) q176 q178 qs0 q76 q179 rfl rfl ⟨by decide, by decide, Eq.trans (b := some 1) (by decide +kernel) rfl⟩ (Nat.le_of_ble_eq_true rfl) (Nat.le_of_ble_eq_true rfl) (show 0 + 1 ≤ 1 by omega) (show 0 + 4 ≤ 4 by omega) hl.1 rfl (Nat.le_of_ble_eq_true rfl) dJ3_init_47 ((pick_perm [[(d, .inr (11, [.null, .int (nI 0), .int (nI 0)]))]] 1 rfl (is := [0]) (by decide)).flatten.symm) (fun _ h => h.elim) (fun v H3 locs3 S1 hQ hz3 hW3 => ?_)
  obtain ⟨w, rfl, rfl⟩ := hQ
  have hW3 : Ws G A s ([[(d, .inr (11, [.ref w, .int (nI 0), .int (nI 0)]))], [(w, .inl (G.2.2.1 1, 4, .inr (.inl (fun _ => 0))))]]) H3 locs3 := hW3
  clear hW2
  refine W.eq (g2 := F0 m 50 ls []) rfl ?_
  refine lv_aload_n C.hx C.hb dJ3_init_50 rfl (lv_at hl 0 rfl) ?_
  refine kn_iconst (a := 1) C (by decide) dJ3_init_51 ?_
  refine k_put (S' := [[(d, .inr (11, [.ref w, .int (nI 0), .int (nI 1)]))], [(w, .inl (G.2.2.1 1, 4, .inr (.inl (fun _ => 0))))]]) C clJ3 hW3 0 0 rfl rfl 2 (Nat.le_of_ble_eq_true rfl) rfl q185 rfl (fun _ h => h) (Or.inr ⟨rfl, rfl⟩) (fty := .boolean) (v := .int (nI 1)) (by decide +kernel) (by decide) (by decide) (Nat.le_of_ble_eq_true rfl) dJ3_init_52 rfl (fun H4 locs4 hW4 => ?_)
  clear hW3
  exact k_vret C hW4 rfl ⟨_, rfl, by rw [bw_none]⟩ (by omega) (by omega) dJ3_init_55

def Q_ctJ3_checkInvariants (G : GT) (d : Nat) : Option Value → List va_W → Prop := fun v S1 => v = none ∧ S1 = []
set_option maxHeartbeats 4000000 in
set_option maxRecDepth 100000 in
theorem ctJ3_checkInvariants (l : Launch) (G : GT) (d : Nat)  : Ct l G yJ3_checkInvariants cJ3_checkInvariants 1 none 0 0 0 0 [.ref d] ([]) noR (Q_ctJ3_checkInvariants G d) := by
  refine Ct.of (by decide +kernel) (Nat.le_of_ble_eq_true rfl) ?_
  intro p e s m below meth c A ls C hW hRo hl
  have hl : lv_has ls 1 [(0, .ref d)] := hl
  refine k_gets C hW (List.mem_of_getElem? (i := 5) rfl) q1621 rfl dJ3_checkInvariants_0 ?_
  refine lv_if_ne (tgt := 37) C.hx C.hb dJ3_checkInvariants_3 (by decide) (fun cq => ?_) (fun cq => absurd cq (by decide))
  refine k_gets C hW (List.mem_of_getElem? (i := 5) rfl) q1621 rfl dJ3_checkInvariants_37 ?_
  refine lv_if_ne (tgt := 70) C.hx C.hb dJ3_checkInvariants_40 (by decide) (fun cq => ?_) (fun cq => absurd cq (by decide))
  refine k_gets C hW (List.mem_of_getElem? (i := 5) rfl) q1621 rfl dJ3_checkInvariants_70 ?_
  refine lv_if_ne (tgt := 110) C.hx C.hb dJ3_checkInvariants_73 (by decide) (fun cq => ?_) (fun cq => absurd cq (by decide))
  exact k_vret C hW rfl ⟨rfl, rfl⟩ (Nat.le_refl _) (Nat.le_refl _) dJ3_checkInvariants_110

def Q_ctJ3_ensureCapacity (G : GT) (d w n k : Nat) (P : Nat → Bool) : Option Value → List va_W → Prop := fun v S1 => v = none ∧ S1 = []
set_option maxHeartbeats 4000000 in
set_option maxRecDepth 100000 in
theorem ctJ3_ensureCapacity (l : Launch) (G : GT) (d w n k : Nat) (P : Nat → Bool) (hk : k ≤ 4) : Ct l G yJ3_ensureCapacity cJ3_ensureCapacity 3 none 0 0 0 0 [.ref d, .int (nI k)] ([]) ((fun z => z = .inl (d, .inr (11, [.ref w, .int (nI n), .int (nI 1)])) ∨ z = .inl (w, .inl (G.2.2.1 1, 4, .inr (.inl (fun j => lN (bw P j))))))) (Q_ctJ3_ensureCapacity G d w n k P) := by
  refine Ct.of (by decide +kernel) (Nat.le_of_ble_eq_true rfl) ?_
  intro p e s m below meth c A ls C hW hRo hl
  have hl : lv_has ls 3 [(0, .ref d), (1, .int (nI k))] := hl
  refine lv_aload_n C.hx C.hb dJ3_ensureCapacity_0 rfl (lv_at hl 0 rfl) ?_
  refine k_get (v := .ref w) C clJ3 ((hRo _ (Or.inl rfl)).at hW) 0 (Nat.le_of_ble_eq_true rfl) rfl q183 rfl rfl dJ3_ensureCapacity_1 ?_
  refine k_alen C 1 rfl ((hRo _ (Or.inr rfl)).at hW) dJ3_ensureCapacity_4 ?_
  refine lv_iload_n C.hx C.hb dJ3_ensureCapacity_5 rfl (lv_at hl 1 rfl) ?_
  refine kn_icmp_ge (tgt := 38) C (by decide) (by omega) dJ3_ensureCapacity_6 (by decide) (fun c6 => ?_) (fun c6 => (absurd hk c6))
  exact k_vret C hW rfl ⟨rfl, rfl⟩ (Nat.le_refl _) (Nat.le_refl _) dJ3_ensureCapacity_38

def Q_ctJ3_expandTo (G : GT) (d w n k : Nat) (P : Nat → Bool) : Option Value → List va_W → Prop := fun v S1 => v = none ∧ S1 = [[(d, .inr (11, [.ref w, .int (nI (max n (k + 1))), .int (nI 1)]))]]
set_option maxHeartbeats 4000000 in
set_option maxRecDepth 100000 in
theorem ctJ3_expandTo (l : Launch) (G : GT) (d w n k : Nat) (P : Nat → Bool) (hk : k < 4) (hn : n ≤ 4) : Ct l G yJ3_expandTo cJ3_expandTo 3 none 1 22 0 0 [.ref d, .int (nI k)] ([[(d, .inr (11, [.ref w, .int (nI n), .int (nI 1)]))]]) ((fun z => z = .inl (w, .inl (G.2.2.1 1, 4, .inr (.inl (fun j => lN (bw P j))))))) (Q_ctJ3_expandTo G d w n k P) := by
  refine Ct.of (by decide +kernel) (Nat.le_of_ble_eq_true rfl) ?_
  intro p e s m below meth c A ls C hW hRo hl
  have hl : lv_has ls 3 [(0, .ref d), (1, .int (nI k))] := hl
  refine lv_iload_n C.hx C.hb dJ3_expandTo_0 rfl (lv_at hl 1 rfl) ?_
  refine kn_iconst (a := 1) C (by decide) dJ3_expandTo_1 ?_
  refine kn_iadd C  dJ3_expandTo_2 ?_
  refine lv_istore_n (lv' := [(2, .int (nI (k + 1))), (0, .ref d), (1, .int (nI k))]) C.hx C.hb dJ3_expandTo_3 rfl hl (Nat.le_of_ble_eq_true rfl) rfl (fun ls1 hl1 => ?_)
  clear hl
  refine lv_aload_n C.hx C.hb dJ3_expandTo_4 rfl (lv_at hl1 1 rfl) ?_
  refine k_get (v := .int (nI n)) C clJ3 (hW.get 0 0 rfl rfl) 1 (Nat.le_of_ble_eq_true rfl) rfl q184 rfl rfl dJ3_expandTo_5 ?_
  refine lv_iload_n C.hx C.hb dJ3_expandTo_8 rfl (lv_at hl1 0 rfl) ?_
  refine kn_icmp_ge (tgt := 22) C (by omega) (by omega) dJ3_expandTo_9 (by decide) (fun c9 => ?_) (fun c9 => ?_)
  · exact k_vret C hW rfl ⟨rfl, by rw [show max n (k + 1) = n by omega]⟩ (Nat.le_refl _) (Nat.le_refl _) dJ3_expandTo_22
  · refine lv_aload_n C.hx C.hb dJ3_expandTo_12 rfl (lv_at hl1 1 rfl) ?_
    refine lv_iload_n C.hx C.hb dJ3_expandTo_13 rfl (lv_at hl1 0 rfl) ?_
    refine k_callV (Sc := []) (Sr := [[(d, .inr (11, [.ref w, .int (nI n), .int (nI 1)]))]]) (As := [.int (nI (k + 1))]) (rest := []) C (ctJ3_ensureCapacity l G d w n (k + 1) P (by omega)) hW clJ3 (hW.get 0 0 rfl rfl) q1604 q1606 qs24 q76 q1607 rfl rfl ⟨by decide, by decide, Eq.trans (b := some 1) (by decide +kernel) rfl⟩ (Nat.le_of_ble_eq_true rfl) (Nat.le_of_ble_eq_true rfl) (Nat.le_refl _) (Nat.le_refl _) hl1.1 rfl (Nat.le_of_ble_eq_true rfl) dJ3_expandTo_14 (k_permR _) (fun z => (fun hz => hz.elim (fun e => by cases e; exact Or.inl ⟨_, rfl, seg_mem (i := 0) (j := 0) rfl rfl⟩) (fun e => by cases e; exact Or.inr (Or.inr (hRo _ rfl))))) (fun v H2 locs2 S1 hQ hz2 hW2 => ?_)
    obtain ⟨rfl, rfl⟩ := hQ
    have hW2 : Ws G A s ([[(d, .inr (11, [.ref w, .int (nI n), .int (nI 1)]))]]) H2 locs2 := hW2
    clear hW
    refine W.eq (g2 := F0 m 17 ls1 []) rfl ?_
    refine lv_aload_n C.hx C.hb dJ3_expandTo_17 rfl (lv_at hl1 1 rfl) ?_
    refine lv_iload_n C.hx C.hb dJ3_expandTo_18 rfl (lv_at hl1 0 rfl) ?_
    refine k_put (S' := [[(d, .inr (11, [.ref w, .int (nI (k + 1)), .int (nI 1)]))]]) C clJ3 hW2 0 0 rfl rfl 1 (Nat.le_of_ble_eq_true rfl) rfl q184 rfl (fun _ h => h) (Or.inl rfl) (fty := .int) (v := .int (nI (k + 1))) (by decide +kernel) rfl rfl (Nat.le_of_ble_eq_true rfl) dJ3_expandTo_19 rfl (fun H3 locs3 hW3 => ?_)
    clear hW2
    exact k_vret C hW3 rfl ⟨rfl, by rw [show max n (k + 1) = k + 1 by omega]⟩ (Nat.le_refl _) (Nat.le_refl _) dJ3_expandTo_22

def Q_ctJ3_set (G : GT) (d w b : Nat) (P : Nat → Bool) : Option Value → List va_W → Prop := fun v S1 => v = none ∧ S1 = [[(d, .inr (11, [.ref w, .int (nI (wIU (bset P b true))), .int (nI 1)]))], [(w, .inl (G.2.2.1 1, 4, .inr (.inl (fun j => lN (bw (bset P b true) j)))))]]
set_option maxHeartbeats 4000000 in
set_option maxRecDepth 100000 in
theorem ctJ3_set (l : Launch) (G : GT) (d w b : Nat) (P : Nat → Bool) (hb : b < 256) : Ct l G yJ3_set cJ3_set 3 none 2 44 0 0 [.ref d, .int (nI b)] ([[(d, .inr (11, [.ref w, .int (nI (wIU P)), .int (nI 1)]))], [(w, .inl (G.2.2.1 1, 4, .inr (.inl (fun j => lN (bw P j)))))]]) noR (Q_ctJ3_set G d w b P) := by
  refine Ct.of (by decide +kernel) (Nat.le_of_ble_eq_true rfl) ?_
  intro p e s m below meth c A ls C hW hRo hl
  have hl : lv_has ls 3 [(0, .ref d), (1, .int (nI b))] := hl
  refine lv_iload_n C.hx C.hb dJ3_set_0 rfl (lv_at hl 1 rfl) ?_
  refine kn_if_ge (tgt := 31) C (by omega) dJ3_set_1 (by decide) ?_
  refine lv_iload_n C.hx C.hb dJ3_set_31 rfl (lv_at hl 1 rfl) ?_
  refine k_callS (Sc := []) (Sr := [[(d, .inr (11, [.ref w, .int (nI (wIU P)), .int (nI 1)]))], [(w, .inl (G.2.2.1 1, 4, .inr (.inl (fun j => lN (bw P j)))))]]) (As := [.int (nI b)]) (rest := []) C (ctJ3_wordIndex l G b (by omega)) hW q180 q181 q76 q182 rfl ⟨by decide, by decide, Eq.trans (b := some 1) (by decide +kernel) rfl⟩ (Nat.le_of_ble_eq_true rfl) (Nat.le_of_ble_eq_true rfl) (Nat.le_refl _) (Nat.le_refl _) hl.1 rfl (Nat.le_of_ble_eq_true rfl) dJ3_set_32 (k_permR _) (fun _ h => h.elim) (fun v H1 locs1 S1 hQ hz1 hW1 => ?_)
  obtain ⟨rfl, rfl⟩ := hQ
  have hW1 : Ws G A s ([[(d, .inr (11, [.ref w, .int (nI (wIU P)), .int (nI 1)]))], [(w, .inl (G.2.2.1 1, 4, .inr (.inl (fun j => lN (bw P j)))))]]) H1 locs1 := hW1
  clear hW
  refine W.eq (g2 := F0 m 35 ls [.int (nI (b / 64))]) rfl ?_
  refine lv_istore_n (lv' := [(2, .int (nI (b / 64))), (0, .ref d), (1, .int (nI b))]) C.hx C.hb dJ3_set_35 rfl hl (Nat.le_of_ble_eq_true rfl) rfl (fun ls2 hl2 => ?_)
  clear hl
  refine lv_aload_n C.hx C.hb dJ3_set_36 rfl (lv_at hl2 1 rfl) ?_
  refine lv_iload_n C.hx C.hb dJ3_set_37 rfl (lv_at hl2 0 rfl) ?_
  refine k_callV (Sc := [[(d, .inr (11, [.ref w, .int (nI (wIU P)), .int (nI 1)]))]]) (Sr := [[(w, .inl (G.2.2.1 1, 4, .inr (.inl (fun j => lN (bw P j)))))]]) (As := [.int (nI (b / 64))]) (rest := []) C (ctJ3_expandTo l G d w (wIU P) (b / 64) P (by omega) (wIU_le P)) hW1 clJ3 (hW1.get 0 0 rfl rfl) q1600 q1602 qs23 q76 q1603 rfl rfl ⟨by decide, by decide, Eq.trans (b := some 1) (by decide +kernel) rfl⟩ (Nat.le_of_ble_eq_true rfl) (Nat.le_of_ble_eq_true rfl) (Nat.le_refl _) (Nat.le_refl _) hl2.1 rfl (Nat.le_of_ble_eq_true rfl) dJ3_set_38 ((pick_perm [[(d, .inr (11, [.ref w, .int (nI (wIU P)), .int (nI 1)]))], [(w, .inl (G.2.2.1 1, 4, .inr (.inl (fun j => lN (bw P j)))))]] 2 rfl (is := [1, 0]) (by decide)).flatten.symm) (fun z hz => by cases hz; exact Or.inl ⟨_, rfl, seg_mem (i := 0) (j := 0) rfl rfl⟩) (fun v H3 locs3 S1 hQ hz3 hW3 => ?_)
  obtain ⟨rfl, rfl⟩ := hQ
  have hW3 : Ws G A s ([[(w, .inl (G.2.2.1 1, 4, .inr (.inl (fun j => lN (bw P j)))))], [(d, .inr (11, [.ref w, .int (nI (max (wIU P) (b / 64 + 1))), .int (nI 1)]))]]) H3 locs3 := hW3
  clear hW1
  refine W.eq (g2 := F0 m 41 ls2 []) rfl ?_
  refine lv_aload_n C.hx C.hb dJ3_set_41 rfl (lv_at hl2 1 rfl) ?_
  refine k_get (v := .ref w) C clJ3 (hW3.get 1 0 rfl rfl) 0 (Nat.le_of_ble_eq_true rfl) rfl q183 rfl rfl dJ3_set_42 ?_
  refine lv_iload_n C.hx C.hb dJ3_set_45 rfl (lv_at hl2 0 rfl) ?_
  refine lv_dup2_11 C.hx C.hb dJ3_set_46 rfl rfl ?_
  refine k_lald C (f := (fun j => lN (bw P j))) rfl (hW3.get 0 0 rfl rfl) (by omega) (by decide) dJ3_set_47 ?_
  refine kn_lconst (a := 1) C rfl dJ3_set_48 ?_
  refine lv_iload_n C.hx C.hb dJ3_set_49 rfl (lv_at hl2 2 rfl) ?_
  refine kn_lsh1 C (by omega) dJ3_set_50 ?_
  refine kn_lor C dJ3_set_51 ?_
  refine k_last (S' := [[(w, .inl (G.2.2.1 1, 4, .inr (.inl (vp_updL (fun j => lN (bw P j)) (b / 64) (lN ((bw P (b / 64)) ||| (2 ^ (b % 64))))))))], [(d, .inr (11, [.ref w, .int (nI (max (wIU P) (b / 64 + 1))), .int (nI 1)]))]]) C hW3 0 0 rfl rfl rfl (by omega) (by decide) dJ3_set_52 rfl (fun H4 locs4 hW4 => ?_)
  clear hW3
  refine lv_aload_n C.hx C.hb dJ3_set_53 rfl (lv_at hl2 1 rfl) ?_
  refine k_callV (Sc := []) (Sr := [[(w, .inl (G.2.2.1 1, 4, .inr (.inl (vp_updL (fun j => lN (bw P j)) (b / 64) (lN ((bw P (b / 64)) ||| (2 ^ (b % 64))))))))], [(d, .inr (11, [.ref w, .int (nI (max (wIU P) (b / 64 + 1))), .int (nI 1)]))]]) (As := []) (rest := []) C (ctJ3_checkInvariants l G d) hW4 clJ3 (hW4.get 1 0 rfl rfl) q1617 q1619 qs25 q76 q1620 rfl rfl ⟨by decide, by decide, Eq.trans (b := some 0) (by decide +kernel) rfl⟩ (Nat.le_of_ble_eq_true rfl) (Nat.le_of_ble_eq_true rfl) (Nat.le_refl _) (Nat.le_refl _) hl2.1 rfl (Nat.le_of_ble_eq_true rfl) dJ3_set_54 (k_permR _) (fun _ h => h.elim) (fun v H5 locs5 S1 hQ hz5 hW5 => ?_)
  obtain ⟨rfl, rfl⟩ := hQ
  have hW5 : Ws G A s ([[(w, .inl (G.2.2.1 1, 4, .inr (.inl (vp_updL (fun j => lN (bw P j)) (b / 64) (lN ((bw P (b / 64)) ||| (2 ^ (b % 64))))))))], [(d, .inr (11, [.ref w, .int (nI (max (wIU P) (b / 64 + 1))), .int (nI 1)]))]]) H5 locs5 := hW5
  clear hW4
  refine W.eq (g2 := F0 m 57 ls2 []) rfl ?_
  have hW6 : Ws G A s [[(d, .inr (11, [.ref w, .int (nI (max (wIU P) (b / 64 + 1))), .int (nI 1)]))], [(w, .inl (G.2.2.1 1, 4, .inr (.inl (vp_updL (fun j => lN (bw P j)) (b / 64) (lN ((bw P (b / 64)) ||| (2 ^ (b % 64))))))))]] H5 locs5 := hW5.pick 2 rfl [1, 0] (by decide) rfl
  clear hW5
  exact k_vret C hW6 rfl ⟨rfl, by rw [wIU_set hb, ← updL_set]⟩ (Nat.le_refl _) (Nat.le_refl _) dJ3_set_57

def Q_ctJ3_recalc_1 (G : GT) (d w : Nat) (P : Nat → Bool) : Option Value → List va_W → Prop := fun v S1 => v = none ∧ S1 = [[(d, .inr (11, [.ref w, .int (nI (rc P 1)), .int (nI 1)]))]]
set_option maxHeartbeats 4000000 in
set_option maxRecDepth 100000 in
theorem ctJ3_recalc_1 (l : Launch) (G : GT) (d w : Nat) (P : Nat → Bool)  : Ct l G yJ3_recalculateWordsInUse cJ3_recalculateWordsInUse 2 none 0 0 0 0 [.ref d] ([[(d, .inr (11, [.ref w, .int (nI 1), .int (nI 1)]))]]) ((fun z => z = .inl (w, .inl (G.2.2.1 1, 4, .inr (.inl (fun j => lN (bw P j))))))) (Q_ctJ3_recalc_1 G d w P) := by
  refine Ct.of (by decide +kernel) (Nat.le_of_ble_eq_true rfl) ?_
  intro p e s m below meth c A ls C hW hRo hl
  have hl : lv_has ls 2 [(0, .ref d)] := hl
  refine lv_aload_n C.hx C.hb dJ3_recalculateWordsInUse_0 rfl (lv_at hl 0 rfl) ?_
  refine k_get (v := .int (nI 1)) C clJ3 (hW.get 0 0 rfl rfl) 1 (Nat.le_of_ble_eq_true rfl) rfl q184 rfl rfl dJ3_recalculateWordsInUse_1 ?_
  refine kn_iconst (a := 1) C (by decide) dJ3_recalculateWordsInUse_4 ?_
  refine kn_isub C (by omega) dJ3_recalculateWordsInUse_5 ?_
  refine k_op (y := .int (nI 0)) rfl ?_
  refine lv_istore_n (lv' := [(1, .int (nI 0)), (0, .ref d)]) C.hx C.hb dJ3_recalculateWordsInUse_6 rfl hl (Nat.le_of_ble_eq_true rfl) rfl (fun ls1 hl1 => ?_)
  clear hl
  refine lv_iload_n C.hx C.hb dJ3_recalculateWordsInUse_7 rfl (lv_at hl1 0 rfl) ?_
  refine kn_if_lt (tgt := 31) C (by decide) dJ3_recalculateWordsInUse_8 (by decide) ?_
  refine lv_aload_n C.hx C.hb dJ3_recalculateWordsInUse_11 rfl (lv_at hl1 1 rfl) ?_
  refine k_get (v := .ref w) C clJ3 (hW.get 0 0 rfl rfl) 0 (Nat.le_of_ble_eq_true rfl) rfl q183 rfl rfl dJ3_recalculateWordsInUse_12 ?_
  refine lv_iload_n C.hx C.hb dJ3_recalculateWordsInUse_15 rfl (lv_at hl1 0 rfl) ?_
  refine k_lald C (f := (fun j => lN (bw P j))) rfl ((hRo _ rfl).at hW) (by decide) (by decide) dJ3_recalculateWordsInUse_16 ?_
  refine kn_lconst (a := 0) C rfl dJ3_recalculateWordsInUse_17 ?_
  refine kl0_eq (tgt := 25) C (bw_lt P 0) dJ3_recalculateWordsInUse_18 dJ3_recalculateWordsInUse_19 (by decide) (fun c18 => ?_) (fun c18 => ?_)
  · have u0 : bw P 0 = 0 := c18
    refine lv_iinc (lv' := [(1, .int (nI NONE)), (0, .ref d)]) (k := 0) C.hx C.hb dJ3_recalculateWordsInUse_25 hl1 rfl rfl (Nat.le_of_ble_eq_true rfl) rfl (fun ls2 hl2 => ?_)
    clear hl1
    refine lv_goto (tgt := 7) C.hx C.hb dJ3_recalculateWordsInUse_28 (by decide) ?_
    refine lv_iload_n C.hx C.hb dJ3_recalculateWordsInUse_7 rfl (lv_at hl2 0 rfl) ?_
    refine lv_if_lt (tgt := 31) C.hx C.hb dJ3_recalculateWordsInUse_8 (by decide) (fun _ => ?_) (fun q => absurd (by decide) q)
    refine lv_aload_n C.hx C.hb dJ3_recalculateWordsInUse_31 rfl (lv_at hl2 1 rfl) ?_
    refine lv_iload_n C.hx C.hb dJ3_recalculateWordsInUse_32 rfl (lv_at hl2 0 rfl) ?_
    refine kn_iconst (a := 1) C (by decide) dJ3_recalculateWordsInUse_33 ?_
    refine lv_iadd C.hx C.hb dJ3_recalculateWordsInUse_34 ?_
    refine k_op (y := .int (nI 0)) (by decide) ?_
    refine k_put (S' := [[(d, .inr (11, [.ref w, .int (nI 0), .int (nI 1)]))]]) C clJ3 hW 0 0 rfl rfl 1 (Nat.le_of_ble_eq_true rfl) rfl q184 rfl (fun _ h => h) (Or.inl rfl) (fty := .int) (v := .int (nI 0)) (by decide +kernel) rfl rfl (Nat.le_of_ble_eq_true rfl) dJ3_recalculateWordsInUse_35 rfl (fun H3 locs3 hW3 => ?_)
    clear hW
    exact k_vret C hW3 rfl ⟨rfl, by simp [rc, c18, u0]⟩ (Nat.le_refl _) (Nat.le_refl _) dJ3_recalculateWordsInUse_38
  · refine lv_goto (tgt := 31) C.hx C.hb dJ3_recalculateWordsInUse_22 (by decide) ?_
    refine lv_aload_n C.hx C.hb dJ3_recalculateWordsInUse_31 rfl (lv_at hl1 1 rfl) ?_
    refine lv_iload_n C.hx C.hb dJ3_recalculateWordsInUse_32 rfl (lv_at hl1 0 rfl) ?_
    refine kn_iconst (a := 1) C (by decide) dJ3_recalculateWordsInUse_33 ?_
    refine lv_iadd C.hx C.hb dJ3_recalculateWordsInUse_34 ?_
    refine k_op (y := .int (nI 1)) (by decide) ?_
    refine k_put (S' := [[(d, .inr (11, [.ref w, .int (nI 1), .int (nI 1)]))]]) C clJ3 hW 0 0 rfl rfl 1 (Nat.le_of_ble_eq_true rfl) rfl q184 rfl (fun _ h => h) (Or.inl rfl) (fty := .int) (v := .int (nI 1)) (by decide +kernel) rfl rfl (Nat.le_of_ble_eq_true rfl) dJ3_recalculateWordsInUse_35 rfl (fun H4 locs4 hW4 => ?_)
    clear hW
    exact k_vret C hW4 rfl ⟨rfl, by simp [rc, c18]⟩ (Nat.le_refl _) (Nat.le_refl _) dJ3_recalculateWordsInUse_38

def Q_ctJ3_recalc_2 (G : GT) (d w : Nat) (P : Nat → Bool) : Option Value → List va_W → Prop := fun v S1 => v = none ∧ S1 = [[(d, .inr (11, [.ref w, .int (nI (rc P 2)), .int (nI 1)]))]]
set_option maxHeartbeats 4000000 in
set_option maxRecDepth 100000 in
theorem ctJ3_recalc_2 (l : Launch) (G : GT) (d w : Nat) (P : Nat → Bool)  : Ct l G yJ3_recalculateWordsInUse cJ3_recalculateWordsInUse 2 none 0 0 0 0 [.ref d] ([[(d, .inr (11, [.ref w, .int (nI 2), .int (nI 1)]))]]) ((fun z => z = .inl (w, .inl (G.2.2.1 1, 4, .inr (.inl (fun j => lN (bw P j))))))) (Q_ctJ3_recalc_2 G d w P) := by
  refine Ct.of (by decide +kernel) (Nat.le_of_ble_eq_true rfl) ?_
  intro p e s m below meth c A ls C hW hRo hl
  have hl : lv_has ls 2 [(0, .ref d)] := hl
  refine lv_aload_n C.hx C.hb dJ3_recalculateWordsInUse_0 rfl (lv_at hl 0 rfl) ?_
  refine k_get (v := .int (nI 2)) C clJ3 (hW.get 0 0 rfl rfl) 1 (Nat.le_of_ble_eq_true rfl) rfl q184 rfl rfl dJ3_recalculateWordsInUse_1 ?_
  refine kn_iconst (a := 1) C (by decide) dJ3_recalculateWordsInUse_4 ?_
  refine kn_isub C (by omega) dJ3_recalculateWordsInUse_5 ?_
  refine k_op (y := .int (nI 1)) rfl ?_
  refine lv_istore_n (lv' := [(1, .int (nI 1)), (0, .ref d)]) C.hx C.hb dJ3_recalculateWordsInUse_6 rfl hl (Nat.le_of_ble_eq_true rfl) rfl (fun ls1 hl1 => ?_)
  clear hl
  refine lv_iload_n C.hx C.hb dJ3_recalculateWordsInUse_7 rfl (lv_at hl1 0 rfl) ?_
  refine kn_if_lt (tgt := 31) C (by decide) dJ3_recalculateWordsInUse_8 (by decide) ?_
  refine lv_aload_n C.hx C.hb dJ3_recalculateWordsInUse_11 rfl (lv_at hl1 1 rfl) ?_
  refine k_get (v := .ref w) C clJ3 (hW.get 0 0 rfl rfl) 0 (Nat.le_of_ble_eq_true rfl) rfl q183 rfl rfl dJ3_recalculateWordsInUse_12 ?_
  refine lv_iload_n C.hx C.hb dJ3_recalculateWordsInUse_15 rfl (lv_at hl1 0 rfl) ?_
  refine k_lald C (f := (fun j => lN (bw P j))) rfl ((hRo _ rfl).at hW) (by decide) (by decide) dJ3_recalculateWordsInUse_16 ?_
  refine kn_lconst (a := 0) C rfl dJ3_recalculateWordsInUse_17 ?_
  refine kl0_eq (tgt := 25) C (bw_lt P 1) dJ3_recalculateWordsInUse_18 dJ3_recalculateWordsInUse_19 (by decide) (fun c18 => ?_) (fun c18 => ?_)
  · have u1 : bw P 1 = 0 := c18
    refine lv_iinc (lv' := [(1, .int (nI 0)), (0, .ref d)]) (k := 0) C.hx C.hb dJ3_recalculateWordsInUse_25 hl1 rfl rfl (Nat.le_of_ble_eq_true rfl) rfl (fun ls2 hl2 => ?_)
    clear hl1
    refine lv_goto (tgt := 7) C.hx C.hb dJ3_recalculateWordsInUse_28 (by decide) ?_
    refine lv_iload_n C.hx C.hb dJ3_recalculateWordsInUse_7 rfl (lv_at hl2 0 rfl) ?_
    refine kn_if_lt (tgt := 31) C (by decide) dJ3_recalculateWordsInUse_8 (by decide) ?_
    refine lv_aload_n C.hx C.hb dJ3_recalculateWordsInUse_11 rfl (lv_at hl2 1 rfl) ?_
    refine k_get (v := .ref w) C clJ3 (hW.get 0 0 rfl rfl) 0 (Nat.le_of_ble_eq_true rfl) rfl q183 rfl rfl dJ3_recalculateWordsInUse_12 ?_
    refine lv_iload_n C.hx C.hb dJ3_recalculateWordsInUse_15 rfl (lv_at hl2 0 rfl) ?_
    refine k_lald C (f := (fun j => lN (bw P j))) rfl ((hRo _ rfl).at hW) (by decide) (by decide) dJ3_recalculateWordsInUse_16 ?_
    refine kn_lconst (a := 0) C rfl dJ3_recalculateWordsInUse_17 ?_
    refine kl0_eq (tgt := 25) C (bw_lt P 0) dJ3_recalculateWordsInUse_18 dJ3_recalculateWordsInUse_19 (by decide) (fun c18 => ?_) (fun c18 => ?_)
    · have u0 : bw P 0 = 0 := c18
      refine lv_iinc (lv' := [(1, .int (nI NONE)), (0, .ref d)]) (k := 0) C.hx C.hb dJ3_recalculateWordsInUse_25 hl2 rfl rfl (Nat.le_of_ble_eq_true rfl) rfl (fun ls3 hl3 => ?_)
      clear hl2
      refine lv_goto (tgt := 7) C.hx C.hb dJ3_recalculateWordsInUse_28 (by decide) ?_
      refine lv_iload_n C.hx C.hb dJ3_recalculateWordsInUse_7 rfl (lv_at hl3 0 rfl) ?_
      refine lv_if_lt (tgt := 31) C.hx C.hb dJ3_recalculateWordsInUse_8 (by decide) (fun _ => ?_) (fun q => absurd (by decide) q)
      refine lv_aload_n C.hx C.hb dJ3_recalculateWordsInUse_31 rfl (lv_at hl3 1 rfl) ?_
      refine lv_iload_n C.hx C.hb dJ3_recalculateWordsInUse_32 rfl (lv_at hl3 0 rfl) ?_
      refine kn_iconst (a := 1) C (by decide) dJ3_recalculateWordsInUse_33 ?_
      refine lv_iadd C.hx C.hb dJ3_recalculateWordsInUse_34 ?_
      refine k_op (y := .int (nI 0)) (by decide) ?_
      refine k_put (S' := [[(d, .inr (11, [.ref w, .int (nI 0), .int (nI 1)]))]]) C clJ3 hW 0 0 rfl rfl 1 (Nat.le_of_ble_eq_true rfl) rfl q184 rfl (fun _ h => h) (Or.inl rfl) (fty := .int) (v := .int (nI 0)) (by decide +kernel) rfl rfl (Nat.le_of_ble_eq_true rfl) dJ3_recalculateWordsInUse_35 rfl (fun H4 locs4 hW4 => ?_)
      clear hW
      exact k_vret C hW4 rfl ⟨rfl, by simp [rc, c18, u1, c18, u0]⟩ (Nat.le_refl _) (Nat.le_refl _) dJ3_recalculateWordsInUse_38
    · refine lv_goto (tgt := 31) C.hx C.hb dJ3_recalculateWordsInUse_22 (by decide) ?_
      refine lv_aload_n C.hx C.hb dJ3_recalculateWordsInUse_31 rfl (lv_at hl2 1 rfl) ?_
      refine lv_iload_n C.hx C.hb dJ3_recalculateWordsInUse_32 rfl (lv_at hl2 0 rfl) ?_
      refine kn_iconst (a := 1) C (by decide) dJ3_recalculateWordsInUse_33 ?_
      refine lv_iadd C.hx C.hb dJ3_recalculateWordsInUse_34 ?_
      refine k_op (y := .int (nI 1)) (by decide) ?_
      refine k_put (S' := [[(d, .inr (11, [.ref w, .int (nI 1), .int (nI 1)]))]]) C clJ3 hW 0 0 rfl rfl 1 (Nat.le_of_ble_eq_true rfl) rfl q184 rfl (fun _ h => h) (Or.inl rfl) (fty := .int) (v := .int (nI 1)) (by decide +kernel) rfl rfl (Nat.le_of_ble_eq_true rfl) dJ3_recalculateWordsInUse_35 rfl (fun H5 locs5 hW5 => ?_)
      clear hW
      exact k_vret C hW5 rfl ⟨rfl, by simp [rc, c18, u1, c18]⟩ (Nat.le_refl _) (Nat.le_refl _) dJ3_recalculateWordsInUse_38
  · refine lv_goto (tgt := 31) C.hx C.hb dJ3_recalculateWordsInUse_22 (by decide) ?_
    refine lv_aload_n C.hx C.hb dJ3_recalculateWordsInUse_31 rfl (lv_at hl1 1 rfl) ?_
    refine lv_iload_n C.hx C.hb dJ3_recalculateWordsInUse_32 rfl (lv_at hl1 0 rfl) ?_
    refine kn_iconst (a := 1) C (by decide) dJ3_recalculateWordsInUse_33 ?_
    refine lv_iadd C.hx C.hb dJ3_recalculateWordsInUse_34 ?_
    refine k_op (y := .int (nI 2)) (by decide) ?_
    refine k_put (S' := [[(d, .inr (11, [.ref w, .int (nI 2), .int (nI 1)]))]]) C clJ3 hW 0 0 rfl rfl 1 (Nat.le_of_ble_eq_true rfl) rfl q184 rfl (fun _ h => h) (Or.inl rfl) (fty := .int) (v := .int (nI 2)) (by decide +kernel) rfl rfl (Nat.le_of_ble_eq_true rfl) dJ3_recalculateWordsInUse_35 rfl (fun H6 locs6 hW6 => ?_)
    clear hW
    exact k_vret C hW6 rfl ⟨rfl, by simp [rc, c18]⟩ (Nat.le_refl _) (Nat.le_refl _) dJ3_recalculateWordsInUse_38

def Q_ctJ3_recalc_3 (G : GT) (d w : Nat) (P : Nat → Bool) : Option Value → List va_W → Prop := fun v S1 => v = none ∧ S1 = [[(d, .inr (11, [.ref w, .int (nI (rc P 3)), .int (nI 1)]))]]
set_option maxHeartbeats 4000000 in
set_option maxRecDepth 100000 in
theorem ctJ3_recalc_3 (l : Launch) (G : GT) (d w : Nat) (P : Nat → Bool)  : Ct l G yJ3_recalculateWordsInUse cJ3_recalculateWordsInUse 2 none 0 0 0 0 [.ref d] ([[(d, .inr (11, [.ref w, .int (nI 3), .int (nI 1)]))]]) ((fun z => z = .inl (w, .inl (G.2.2.1 1, 4, .inr (.inl (fun j => lN (bw P j))))))) (Q_ctJ3_recalc_3 G d w P) := by
  refine Ct.of (by decide +kernel) (Nat.le_of_ble_eq_true rfl) ?_
  intro p e s m below meth c A ls C hW hRo hl
  have hl : lv_has ls 2 [(0, .ref d)] := hl
  refine lv_aload_n C.hx C.hb dJ3_recalculateWordsInUse_0 rfl (lv_at hl 0 rfl) ?_
  refine k_get (v := .int (nI 3)) C clJ3 (hW.get 0 0 rfl rfl) 1 (Nat.le_of_ble_eq_true rfl) rfl q184 rfl rfl dJ3_recalculateWordsInUse_1 ?_
  refine kn_iconst (a := 1) C (by decide) dJ3_recalculateWordsInUse_4 ?_
  refine kn_isub C (by omega) dJ3_recalculateWordsInUse_5 ?_
  refine k_op (y := .int (nI 2)) rfl ?_
  refine lv_istore_n (lv' := [(1, .int (nI 2)), (0, .ref d)]) C.hx C.hb dJ3_recalculateWordsInUse_6 rfl hl (Nat.le_of_ble_eq_true rfl) rfl (fun ls1 hl1 => ?_)
  clear hl
  refine lv_iload_n C.hx C.hb dJ3_recalculateWordsInUse_7 rfl (lv_at hl1 0 rfl) ?_
  refine kn_if_lt (tgt := 31) C (by decide) dJ3_recalculateWordsInUse_8 (by decide) ?_
  refine lv_aload_n C.hx C.hb dJ3_recalculateWordsInUse_11 rfl (lv_at hl1 1 rfl) ?_
  refine k_get (v := .ref w) C clJ3 (hW.get 0 0 rfl rfl) 0 (Nat.le_of_ble_eq_true rfl) rfl q183 rfl rfl dJ3_recalculateWordsInUse_12 ?_
  refine lv_iload_n C.hx C.hb dJ3_recalculateWordsInUse_15 rfl (lv_at hl1 0 rfl) ?_
  refine k_lald C (f := (fun j => lN (bw P j))) rfl ((hRo _ rfl).at hW) (by decide) (by decide) dJ3_recalculateWordsInUse_16 ?_
  refine kn_lconst (a := 0) C rfl dJ3_recalculateWordsInUse_17 ?_
  refine kl0_eq (tgt := 25) C (bw_lt P 2) dJ3_recalculateWordsInUse_18 dJ3_recalculateWordsInUse_19 (by decide) (fun c18 => ?_) (fun c18 => ?_)
  · have u2 : bw P 2 = 0 := c18
    refine lv_iinc (lv' := [(1, .int (nI 1)), (0, .ref d)]) (k := 0) C.hx C.hb dJ3_recalculateWordsInUse_25 hl1 rfl rfl (Nat.le_of_ble_eq_true rfl) rfl (fun ls2 hl2 => ?_)
    clear hl1
    refine lv_goto (tgt := 7) C.hx C.hb dJ3_recalculateWordsInUse_28 (by decide) ?_
    refine lv_iload_n C.hx C.hb dJ3_recalculateWordsInUse_7 rfl (lv_at hl2 0 rfl) ?_
    refine kn_if_lt (tgt := 31) C (by decide) dJ3_recalculateWordsInUse_8 (by decide) ?_
    refine lv_aload_n C.hx C.hb dJ3_recalculateWordsInUse_11 rfl (lv_at hl2 1 rfl) ?_
    refine k_get (v := .ref w) C clJ3 (hW.get 0 0 rfl rfl) 0 (Nat.le_of_ble_eq_true rfl) rfl q183 rfl rfl dJ3_recalculateWordsInUse_12 ?_
    refine lv_iload_n C.hx C.hb dJ3_recalculateWordsInUse_15 rfl (lv_at hl2 0 rfl) ?_
    refine k_lald C (f := (fun j => lN (bw P j))) rfl ((hRo _ rfl).at hW) (by decide) (by decide) dJ3_recalculateWordsInUse_16 ?_
    refine kn_lconst (a := 0) C rfl dJ3_recalculateWordsInUse_17 ?_
    refine kl0_eq (tgt := 25) C (bw_lt P 1) dJ3_recalculateWordsInUse_18 dJ3_recalculateWordsInUse_19 (by decide) (fun c18 => ?_) (fun c18 => ?_)
    · have u1 : bw P 1 = 0 := c18
      refine lv_iinc (lv' := [(1, .int (nI 0)), (0, .ref d)]) (k := 0) C.hx C.hb dJ3_recalculateWordsInUse_25 hl2 rfl rfl (Nat.le_of_ble_eq_true rfl) rfl (fun ls3 hl3 => ?_)
      clear hl2
      refine lv_goto (tgt := 7) C.hx C.hb dJ3_recalculateWordsInUse_28 (by decide) ?_
      refine lv_iload_n C.hx C.hb dJ3_recalculateWordsInUse_7 rfl (lv_at hl3 0 rfl) ?_
      refine kn_if_lt (tgt := 31) C (by decide) dJ3_recalculateWordsInUse_8 (by decide) ?_
      refine lv_aload_n C.hx C.hb dJ3_recalculateWordsInUse_11 rfl (lv_at hl3 1 rfl) ?_
      refine k_get (v := .ref w) C clJ3 (hW.get 0 0 rfl rfl) 0 (Nat.le_of_ble_eq_true rfl) rfl q183 rfl rfl dJ3_recalculateWordsInUse_12 ?_
      refine lv_iload_n C.hx C.hb dJ3_recalculateWordsInUse_15 rfl (lv_at hl3 0 rfl) ?_
      refine k_lald C (f := (fun j => lN (bw P j))) rfl ((hRo _ rfl).at hW) (by decide) (by decide) dJ3_recalculateWordsInUse_16 ?_
      refine kn_lconst (a := 0) C rfl dJ3_recalculateWordsInUse_17 ?_
      refine kl0_eq (tgt := 25) C (bw_lt P 0) dJ3_recalculateWordsInUse_18 dJ3_recalculateWordsInUse_19 (by decide) (fun c18 => ?_) (fun c18 => ?_)
      · have u0 : bw P 0 = 0 := c18
        refine lv_iinc (lv' := [(1, .int (nI NONE)), (0, .ref d)]) (k := 0) C.hx C.hb dJ3_recalculateWordsInUse_25 hl3 rfl rfl (Nat.le_of_ble_eq_true rfl) rfl (fun ls4 hl4 => ?_)
        clear hl3
        refine lv_goto (tgt := 7) C.hx C.hb dJ3_recalculateWordsInUse_28 (by decide) ?_
        refine lv_iload_n C.hx C.hb dJ3_recalculateWordsInUse_7 rfl (lv_at hl4 0 rfl) ?_
        refine lv_if_lt (tgt := 31) C.hx C.hb dJ3_recalculateWordsInUse_8 (by decide) (fun _ => ?_) (fun q => absurd (by decide) q)
        refine lv_aload_n C.hx C.hb dJ3_recalculateWordsInUse_31 rfl (lv_at hl4 1 rfl) ?_
        refine lv_iload_n C.hx C.hb dJ3_recalculateWordsInUse_32 rfl (lv_at hl4 0 rfl) ?_
        refine kn_iconst (a := 1) C (by decide) dJ3_recalculateWordsInUse_33 ?_
        refine lv_iadd C.hx C.hb dJ3_recalculateWordsInUse_34 ?_
        refine k_op (y := .int (nI 0)) (by decide) ?_
        refine k_put (S' := [[(d, .inr (11, [.ref w, .int (nI 0), .int (nI 1)]))]]) C clJ3 hW 0 0 rfl rfl 1 (Nat.le_of_ble_eq_true rfl) rfl q184 rfl (fun _ h => h) (Or.inl rfl) (fty := .int) (v := .int (nI 0)) (by decide +kernel) rfl rfl (Nat.le_of_ble_eq_true rfl) dJ3_recalculateWordsInUse_35 rfl (fun H5 locs5 hW5 => ?_)
        clear hW
        exact k_vret C hW5 rfl ⟨rfl, by simp [rc, c18, u2, c18, u1, c18, u0]⟩ (Nat.le_refl _) (Nat.le_refl _) dJ3_recalculateWordsInUse_38
      · refine lv_goto (tgt := 31) C.hx C.hb dJ3_recalculateWordsInUse_22 (by decide) ?_
        refine lv_aload_n C.hx C.hb dJ3_recalculateWordsInUse_31 rfl (lv_at hl3 1 rfl) ?_
        refine lv_iload_n C.hx C.hb dJ3_recalculateWordsInUse_32 rfl (lv_at hl3 0 rfl) ?_
        refine kn_iconst (a := 1) C (by decide) dJ3_recalculateWordsInUse_33 ?_
        refine lv_iadd C.hx C.hb dJ3_recalculateWordsInUse_34 ?_
        refine k_op (y := .int (nI 1)) (by decide) ?_
        refine k_put (S' := [[(d, .inr (11, [.ref w, .int (nI 1), .int (nI 1)]))]]) C clJ3 hW 0 0 rfl rfl 1 (Nat.le_of_ble_eq_true rfl) rfl q184 rfl (fun _ h => h) (Or.inl rfl) (fty := .int) (v := .int (nI 1)) (by decide +kernel) rfl rfl (Nat.le_of_ble_eq_true rfl) dJ3_recalculateWordsInUse_35 rfl (fun H6 locs6 hW6 => ?_)
        clear hW
        exact k_vret C hW6 rfl ⟨rfl, by simp [rc, c18, u2, c18, u1, c18]⟩ (Nat.le_refl _) (Nat.le_refl _) dJ3_recalculateWordsInUse_38
    · refine lv_goto (tgt := 31) C.hx C.hb dJ3_recalculateWordsInUse_22 (by decide) ?_
      refine lv_aload_n C.hx C.hb dJ3_recalculateWordsInUse_31 rfl (lv_at hl2 1 rfl) ?_
      refine lv_iload_n C.hx C.hb dJ3_recalculateWordsInUse_32 rfl (lv_at hl2 0 rfl) ?_
      refine kn_iconst (a := 1) C (by decide) dJ3_recalculateWordsInUse_33 ?_
      refine lv_iadd C.hx C.hb dJ3_recalculateWordsInUse_34 ?_
      refine k_op (y := .int (nI 2)) (by decide) ?_
      refine k_put (S' := [[(d, .inr (11, [.ref w, .int (nI 2), .int (nI 1)]))]]) C clJ3 hW 0 0 rfl rfl 1 (Nat.le_of_ble_eq_true rfl) rfl q184 rfl (fun _ h => h) (Or.inl rfl) (fty := .int) (v := .int (nI 2)) (by decide +kernel) rfl rfl (Nat.le_of_ble_eq_true rfl) dJ3_recalculateWordsInUse_35 rfl (fun H7 locs7 hW7 => ?_)
      clear hW
      exact k_vret C hW7 rfl ⟨rfl, by simp [rc, c18, u2, c18]⟩ (Nat.le_refl _) (Nat.le_refl _) dJ3_recalculateWordsInUse_38
  · refine lv_goto (tgt := 31) C.hx C.hb dJ3_recalculateWordsInUse_22 (by decide) ?_
    refine lv_aload_n C.hx C.hb dJ3_recalculateWordsInUse_31 rfl (lv_at hl1 1 rfl) ?_
    refine lv_iload_n C.hx C.hb dJ3_recalculateWordsInUse_32 rfl (lv_at hl1 0 rfl) ?_
    refine kn_iconst (a := 1) C (by decide) dJ3_recalculateWordsInUse_33 ?_
    refine lv_iadd C.hx C.hb dJ3_recalculateWordsInUse_34 ?_
    refine k_op (y := .int (nI 3)) (by decide) ?_
    refine k_put (S' := [[(d, .inr (11, [.ref w, .int (nI 3), .int (nI 1)]))]]) C clJ3 hW 0 0 rfl rfl 1 (Nat.le_of_ble_eq_true rfl) rfl q184 rfl (fun _ h => h) (Or.inl rfl) (fty := .int) (v := .int (nI 3)) (by decide +kernel) rfl rfl (Nat.le_of_ble_eq_true rfl) dJ3_recalculateWordsInUse_35 rfl (fun H8 locs8 hW8 => ?_)
    clear hW
    exact k_vret C hW8 rfl ⟨rfl, by simp [rc, c18]⟩ (Nat.le_refl _) (Nat.le_refl _) dJ3_recalculateWordsInUse_38

def Q_ctJ3_recalc_4 (G : GT) (d w : Nat) (P : Nat → Bool) : Option Value → List va_W → Prop := fun v S1 => v = none ∧ S1 = [[(d, .inr (11, [.ref w, .int (nI (rc P 4)), .int (nI 1)]))]]
set_option maxHeartbeats 4000000 in
set_option maxRecDepth 100000 in
theorem ctJ3_recalc_4 (l : Launch) (G : GT) (d w : Nat) (P : Nat → Bool)  : Ct l G yJ3_recalculateWordsInUse cJ3_recalculateWordsInUse 2 none 0 0 0 0 [.ref d] ([[(d, .inr (11, [.ref w, .int (nI 4), .int (nI 1)]))]]) ((fun z => z = .inl (w, .inl (G.2.2.1 1, 4, .inr (.inl (fun j => lN (bw P j))))))) (Q_ctJ3_recalc_4 G d w P) := by
  refine Ct.of (by decide +kernel) (Nat.le_of_ble_eq_true rfl) ?_
  intro p e s m below meth c A ls C hW hRo hl
  have hl : lv_has ls 2 [(0, .ref d)] := hl
  refine lv_aload_n C.hx C.hb dJ3_recalculateWordsInUse_0 rfl (lv_at hl 0 rfl) ?_
  refine k_get (v := .int (nI 4)) C clJ3 (hW.get 0 0 rfl rfl) 1 (Nat.le_of_ble_eq_true rfl) rfl q184 rfl rfl dJ3_recalculateWordsInUse_1 ?_
  refine kn_iconst (a := 1) C (by decide) dJ3_recalculateWordsInUse_4 ?_
  refine kn_isub C (by omega) dJ3_recalculateWordsInUse_5 ?_
  refine k_op (y := .int (nI 3)) rfl ?_
  refine lv_istore_n (lv' := [(1, .int (nI 3)), (0, .ref d)]) C.hx C.hb dJ3_recalculateWordsInUse_6 rfl hl (Nat.le_of_ble_eq_true rfl) rfl (fun ls1 hl1 => ?_)
  clear hl
  refine lv_iload_n C.hx C.hb dJ3_recalculateWordsInUse_7 rfl (lv_at hl1 0 rfl) ?_
  refine kn_if_lt (tgt := 31) C (by decide) dJ3_recalculateWordsInUse_8 (by decide) ?_
  refine lv_aload_n C.hx C.hb dJ3_recalculateWordsInUse_11 rfl (lv_at hl1 1 rfl) ?_
  refine k_get (v := .ref w) C clJ3 (hW.get 0 0 rfl rfl) 0 (Nat.le_of_ble_eq_true rfl) rfl q183 rfl rfl dJ3_recalculateWordsInUse_12 ?_
  refine lv_iload_n C.hx C.hb dJ3_recalculateWordsInUse_15 rfl (lv_at hl1 0 rfl) ?_
  refine k_lald C (f := (fun j => lN (bw P j))) rfl ((hRo _ rfl).at hW) (by decide) (by decide) dJ3_recalculateWordsInUse_16 ?_
  refine kn_lconst (a := 0) C rfl dJ3_recalculateWordsInUse_17 ?_
  refine kl0_eq (tgt := 25) C (bw_lt P 3) dJ3_recalculateWordsInUse_18 dJ3_recalculateWordsInUse_19 (by decide) (fun c18 => ?_) (fun c18 => ?_)
  · have u3 : bw P 3 = 0 := c18
    refine lv_iinc (lv' := [(1, .int (nI 2)), (0, .ref d)]) (k := 0) C.hx C.hb dJ3_recalculateWordsInUse_25 hl1 rfl rfl (Nat.le_of_ble_eq_true rfl) rfl (fun ls2 hl2 => ?_)
    clear hl1
    refine lv_goto (tgt := 7) C.hx C.hb dJ3_recalculateWordsInUse_28 (by decide) ?_
    refine lv_iload_n C.hx C.hb dJ3_recalculateWordsInUse_7 rfl (lv_at hl2 0 rfl) ?_
    refine kn_if_lt (tgt := 31) C (by decide) dJ3_recalculateWordsInUse_8 (by decide) ?_
    refine lv_aload_n C.hx C.hb dJ3_recalculateWordsInUse_11 rfl (lv_at hl2 1 rfl) ?_
    refine k_get (v := .ref w) C clJ3 (hW.get 0 0 rfl rfl) 0 (Nat.le_of_ble_eq_true rfl) rfl q183 rfl rfl dJ3_recalculateWordsInUse_12 ?_
    refine lv_iload_n C.hx C.hb dJ3_recalculateWordsInUse_15 rfl (lv_at hl2 0 rfl) ?_
    refine k_lald C (f := (fun j => lN (bw P j))) rfl ((hRo _ rfl).at hW) (by decide) (by decide) dJ3_recalculateWordsInUse_16 ?_
    refine kn_lconst (a := 0) C rfl dJ3_recalculateWordsInUse_17 ?_
    refine kl0_eq (tgt := 25) C (bw_lt P 2) dJ3_recalculateWordsInUse_18 dJ3_recalculateWordsInUse_19 (by decide) (fun c18 => ?_) (fun c18 => ?_)
    · have u2 : bw P 2 = 0 := c18
      refine lv_iinc (lv' := [(1, .int (nI 1)), (0, .ref d)]) (k := 0) C.hx C.hb dJ3_recalculateWordsInUse_25 hl2 rfl rfl (Nat.le_of_ble_eq_true rfl) rfl (fun ls3 hl3 => ?_)
      clear hl2
      refine lv_goto (tgt := 7) C.hx C.hb dJ3_recalculateWordsInUse_28 (by decide) ?_
      refine lv_iload_n C.hx C.hb dJ3_recalculateWordsInUse_7 rfl (lv_at hl3 0 rfl) ?_
      refine kn_if_lt (tgt := 31) C (by decide) dJ3_recalculateWordsInUse_8 (by decide) ?_
      refine lv_aload_n C.hx C.hb dJ3_recalculateWordsInUse_11 rfl (lv_at hl3 1 rfl) ?_
      refine k_get (v := .ref w) C clJ3 (hW.get 0 0 rfl rfl) 0 (Nat.le_of_ble_eq_true rfl) rfl q183 rfl rfl dJ3_recalculateWordsInUse_12 ?_
      refine lv_iload_n C.hx C.hb dJ3_recalculateWordsInUse_15 rfl (lv_at hl3 0 rfl) ?_
      refine k_lald C (f := (fun j => lN (bw P j))) rfl ((hRo _ rfl).at hW) (by decide) (by decide) dJ3_recalculateWordsInUse_16 ?_
      refine kn_lconst (a := 0) C rfl dJ3_recalculateWordsInUse_17 ?_
      refine kl0_eq (tgt := 25) C (bw_lt P 1) dJ3_recalculateWordsInUse_18 dJ3_recalculateWordsInUse_19 (by decide) (fun c18 => ?_) (fun c18 => ?_)
      · have u1 : bw P 1 = 0 := c18
        refine lv_iinc (lv' := [(1, .int (nI 0)), (0, .ref d)]) (k := 0) C.hx C.hb dJ3_recalculateWordsInUse_25 hl3 rfl rfl (Nat.le_of_ble_eq_true rfl) rfl (fun ls4 hl4 => ?_)
        clear hl3
        refine lv_goto (tgt := 7) C.hx C.hb dJ3_recalculateWordsInUse_28 (by decide) ?_
        refine lv_iload_n C.hx C.hb dJ3_recalculateWordsInUse_7 rfl (lv_at hl4 0 rfl) ?_
        refine kn_if_lt (tgt := 31) C (by decide) dJ3_recalculateWordsInUse_8 (by decide) ?_
        refine lv_aload_n C.hx C.hb dJ3_recalculateWordsInUse_11 rfl (lv_at hl4 1 rfl) ?_
        refine k_get (v := .ref w) C clJ3 (hW.get 0 0 rfl rfl) 0 (Nat.le_of_ble_eq_true rfl) rfl q183 rfl rfl dJ3_recalculateWordsInUse_12 ?_
        refine lv_iload_n C.hx C.hb dJ3_recalculateWordsInUse_15 rfl (lv_at hl4 0 rfl) ?_
        refine k_lald C (f := (fun j => lN (bw P j))) rfl ((hRo _ rfl).at hW) (by decide) (by decide) dJ3_recalculateWordsInUse_16 ?_
        refine kn_lconst (a := 0) C rfl dJ3_recalculateWordsInUse_17 ?_
        refine kl0_eq (tgt := 25) C (bw_lt P 0) dJ3_recalculateWordsInUse_18 dJ3_recalculateWordsInUse_19 (by decide) (fun c18 => ?_) (fun c18 => ?_)
        · have u0 : bw P 0 = 0 := c18
          refine lv_iinc (lv' := [(1, .int (nI NONE)), (0, .ref d)]) (k := 0) C.hx C.hb dJ3_recalculateWordsInUse_25 hl4 rfl rfl (Nat.le_of_ble_eq_true rfl) rfl (fun ls5 hl5 => ?_)
          clear hl4
          refine lv_goto (tgt := 7) C.hx C.hb dJ3_recalculateWordsInUse_28 (by decide) ?_
          refine lv_iload_n C.hx C.hb dJ3_recalculateWordsInUse_7 rfl (lv_at hl5 0 rfl) ?_
          refine lv_if_lt (tgt := 31) C.hx C.hb dJ3_recalculateWordsInUse_8 (by decide) (fun _ => ?_) (fun q => absurd (by decide) q)
          refine lv_aload_n C.hx C.hb dJ3_recalculateWordsInUse_31 rfl (lv_at hl5 1 rfl) ?_
          refine lv_iload_n C.hx C.hb dJ3_recalculateWordsInUse_32 rfl (lv_at hl5 0 rfl) ?_
          refine kn_iconst (a := 1) C (by decide) dJ3_recalculateWordsInUse_33 ?_
          refine lv_iadd C.hx C.hb dJ3_recalculateWordsInUse_34 ?_
          refine k_op (y := .int (nI 0)) (by decide) ?_
          refine k_put (S' := [[(d, .inr (11, [.ref w, .int (nI 0), .int (nI 1)]))]]) C clJ3 hW 0 0 rfl rfl 1 (Nat.le_of_ble_eq_true rfl) rfl q184 rfl (fun _ h => h) (Or.inl rfl) (fty := .int) (v := .int (nI 0)) (by decide +kernel) rfl rfl (Nat.le_of_ble_eq_true rfl) dJ3_recalculateWordsInUse_35 rfl (fun H6 locs6 hW6 => ?_)
          clear hW
          exact k_vret C hW6 rfl ⟨rfl, by simp [rc, c18, u3, c18, u2, c18, u1, c18, u0]⟩ (Nat.le_refl _) (Nat.le_refl _) dJ3_recalculateWordsInUse_38
        · refine lv_goto (tgt := 31) C.hx C.hb dJ3_recalculateWordsInUse_22 (by decide) ?_
          refine lv_aload_n C.hx C.hb dJ3_recalculateWordsInUse_31 rfl (lv_at hl4 1 rfl) ?_
          refine lv_iload_n C.hx C.hb dJ3_recalculateWordsInUse_32 rfl (lv_at hl4 0 rfl) ?_
          refine kn_iconst (a := 1) C (by decide) dJ3_recalculateWordsInUse_33 ?_
          refine lv_iadd C.hx C.hb dJ3_recalculateWordsInUse_34 ?_
          refine k_op (y := .int (nI 1)) (by decide) ?_
          refine k_put (S' := [[(d, .inr (11, [.ref w, .int (nI 1), .int (nI 1)]))]]) C clJ3 hW 0 0 rfl rfl 1 (Nat.le_of_ble_eq_true rfl) rfl q184 rfl (fun _ h => h) (Or.inl rfl) (fty := .int) (v := .int (nI 1)) (by decide +kernel) rfl rfl (Nat.le_of_ble_eq_true rfl) dJ3_recalculateWordsInUse_35 rfl (fun H7 locs7 hW7 => ?_)
          clear hW
          exact k_vret C hW7 rfl ⟨rfl, by simp [rc, c18, u3, c18, u2, c18, u1, c18]⟩ (Nat.le_refl _) (Nat.le_refl _) dJ3_recalculateWordsInUse_38
      · refine lv_goto (tgt := 31) C.hx C.hb dJ3_recalculateWordsInUse_22 (by decide) ?_
        refine lv_aload_n C.hx C.hb dJ3_recalculateWordsInUse_31 rfl (lv_at hl3 1 rfl) ?_
        refine lv_iload_n C.hx C.hb dJ3_recalculateWordsInUse_32 rfl (lv_at hl3 0 rfl) ?_
        refine kn_iconst (a := 1) C (by decide) dJ3_recalculateWordsInUse_33 ?_
        refine lv_iadd C.hx C.hb dJ3_recalculateWordsInUse_34 ?_
        refine k_op (y := .int (nI 2)) (by decide) ?_
        refine k_put (S' := [[(d, .inr (11, [.ref w, .int (nI 2), .int (nI 1)]))]]) C clJ3 hW 0 0 rfl rfl 1 (Nat.le_of_ble_eq_true rfl) rfl q184 rfl (fun _ h => h) (Or.inl rfl) (fty := .int) (v := .int (nI 2)) (by decide +kernel) rfl rfl (Nat.le_of_ble_eq_true rfl) dJ3_recalculateWordsInUse_35 rfl (fun H8 locs8 hW8 => ?_)
        clear hW
        exact k_vret C hW8 rfl ⟨rfl, by simp [rc, c18, u3, c18, u2, c18]⟩ (Nat.le_refl _) (Nat.le_refl _) dJ3_recalculateWordsInUse_38
    · refine lv_goto (tgt := 31) C.hx C.hb dJ3_recalculateWordsInUse_22 (by decide) ?_
      refine lv_aload_n C.hx C.hb dJ3_recalculateWordsInUse_31 rfl (lv_at hl2 1 rfl) ?_
      refine lv_iload_n C.hx C.hb dJ3_recalculateWordsInUse_32 rfl (lv_at hl2 0 rfl) ?_
      refine kn_iconst (a := 1) C (by decide) dJ3_recalculateWordsInUse_33 ?_
      refine lv_iadd C.hx C.hb dJ3_recalculateWordsInUse_34 ?_
      refine k_op (y := .int (nI 3)) (by decide) ?_
      refine k_put (S' := [[(d, .inr (11, [.ref w, .int (nI 3), .int (nI 1)]))]]) C clJ3 hW 0 0 rfl rfl 1 (Nat.le_of_ble_eq_true rfl) rfl q184 rfl (fun _ h => h) (Or.inl rfl) (fty := .int) (v := .int (nI 3)) (by decide +kernel) rfl rfl (Nat.le_of_ble_eq_true rfl) dJ3_recalculateWordsInUse_35 rfl (fun H9 locs9 hW9 => ?_)
      clear hW
      exact k_vret C hW9 rfl ⟨rfl, by simp [rc, c18, u3, c18]⟩ (Nat.le_refl _) (Nat.le_refl _) dJ3_recalculateWordsInUse_38
  · refine lv_goto (tgt := 31) C.hx C.hb dJ3_recalculateWordsInUse_22 (by decide) ?_
    refine lv_aload_n C.hx C.hb dJ3_recalculateWordsInUse_31 rfl (lv_at hl1 1 rfl) ?_
    refine lv_iload_n C.hx C.hb dJ3_recalculateWordsInUse_32 rfl (lv_at hl1 0 rfl) ?_
    refine kn_iconst (a := 1) C (by decide) dJ3_recalculateWordsInUse_33 ?_
    refine lv_iadd C.hx C.hb dJ3_recalculateWordsInUse_34 ?_
    refine k_op (y := .int (nI 4)) (by decide) ?_
    refine k_put (S' := [[(d, .inr (11, [.ref w, .int (nI 4), .int (nI 1)]))]]) C clJ3 hW 0 0 rfl rfl 1 (Nat.le_of_ble_eq_true rfl) rfl q184 rfl (fun _ h => h) (Or.inl rfl) (fty := .int) (v := .int (nI 4)) (by decide +kernel) rfl rfl (Nat.le_of_ble_eq_true rfl) dJ3_recalculateWordsInUse_35 rfl (fun H10 locs10 hW10 => ?_)
    clear hW
    exact k_vret C hW10 rfl ⟨rfl, by simp [rc, c18]⟩ (Nat.le_refl _) (Nat.le_refl _) dJ3_recalculateWordsInUse_38

theorem ctJ3_recalc (l : Launch) (G : GT) (d w n : Nat) (P : Nat → Bool) (h0 : 0 < n) (h4 : n ≤ 4) : Ct l G yJ3_recalculateWordsInUse cJ3_recalculateWordsInUse 2 none 0 0 0 0 [.ref d] [[(d, .inr (11, [.ref w, .int (nI n), .int (nI 1)]))]] (fun z => z = .inl (w, .inl (G.2.2.1 1, 4, .inr (.inl (fun j => lN (bw P j)))))) (fun v S1 => v = none ∧ S1 = [[(d, .inr (11, [.ref w, .int (nI (rc P n)), .int (nI 1)]))]]) := by
  have hc : n = 1 ∨ n = 2 ∨ n = 3 ∨ n = 4 := by omega
  rcases hc with rfl | rfl | rfl | rfl
  · exact ctJ3_recalc_1 l G d w P
  · exact ctJ3_recalc_2 l G d w P
  · exact ctJ3_recalc_3 l G d w P
  · exact ctJ3_recalc_4 l G d w P
def Q_ctJ3_clear (G : GT) (d w b : Nat) (P : Nat → Bool) : Option Value → List va_W → Prop := fun v S1 => v = none ∧ S1 = [[(d, .inr (11, [.ref w, .int (nI (wIU (bset P b false))), .int (nI 1)]))], [(w, .inl (G.2.2.1 1, 4, .inr (.inl (fun j => lN (bw (bset P b false) j)))))]]
set_option maxHeartbeats 4000000 in
set_option maxRecDepth 100000 in
theorem ctJ3_clear (l : Launch) (G : GT) (d w b : Nat) (P : Nat → Bool) (hb : b < 256) : Ct l G yJ3_clear cJ3_clear 3 none 1 21 0 0 [.ref d, .int (nI b)] ([[(d, .inr (11, [.ref w, .int (nI (wIU P)), .int (nI 1)]))], [(w, .inl (G.2.2.1 1, 4, .inr (.inl (fun j => lN (bw P j)))))]]) noR (Q_ctJ3_clear G d w b P) := by
  refine Ct.of (by decide +kernel) (Nat.le_of_ble_eq_true rfl) ?_
  intro p e s m below meth c A ls C hW hRo hl
  have hl : lv_has ls 3 [(0, .ref d), (1, .int (nI b))] := hl
  have hb4 := wIU_le P
  refine lv_iload_n C.hx C.hb dJ3_clear_0 rfl (lv_at hl 1 rfl) ?_
  refine kn_if_ge (tgt := 31) C (by omega) dJ3_clear_1 (by decide) ?_
  refine lv_iload_n C.hx C.hb dJ3_clear_31 rfl (lv_at hl 1 rfl) ?_
  refine k_callS (Sc := []) (Sr := [[(d, .inr (11, [.ref w, .int (nI (wIU P)), .int (nI 1)]))], [(w, .inl (G.2.2.1 1, 4, .inr (.inl (fun j => lN (bw P j)))))]]) (As := [.int (nI b)]) (rest := []) C (ctJ3_wordIndex l G b (by omega)) hW q180 q181 q76 q182 rfl ⟨by decide, by decide, Eq.trans (b := some 1) (by decide +kernel) rfl⟩ (Nat.le_of_ble_eq_true rfl) (Nat.le_of_ble_eq_true rfl) (Nat.le_refl _) (Nat.le_refl _) hl.1 rfl (Nat.le_of_ble_eq_true rfl) dJ3_clear_32 (k_permR _) (fun _ h => h.elim) (fun v H1 locs1 S1 hQ hz1 hW1 => ?_)
  obtain ⟨rfl, rfl⟩ := hQ
  have hW1 : Ws G A s ([[(d, .inr (11, [.ref w, .int (nI (wIU P)), .int (nI 1)]))], [(w, .inl (G.2.2.1 1, 4, .inr (.inl (fun j => lN (bw P j)))))]]) H1 locs1 := hW1
  clear hW
  refine W.eq (g2 := F0 m 35 ls [.int (nI (b / 64))]) rfl ?_
  refine lv_istore_n (lv' := [(2, .int (nI (b / 64))), (0, .ref d), (1, .int (nI b))]) C.hx C.hb dJ3_clear_35 rfl hl (Nat.le_of_ble_eq_true rfl) rfl (fun ls2 hl2 => ?_)
  clear hl
  refine lv_iload_n C.hx C.hb dJ3_clear_36 rfl (lv_at hl2 0 rfl) ?_
  refine lv_aload_n C.hx C.hb dJ3_clear_37 rfl (lv_at hl2 1 rfl) ?_
  refine k_get (v := .int (nI (wIU P))) C clJ3 (hW1.get 0 0 rfl rfl) 1 (Nat.le_of_ble_eq_true rfl) rfl q184 rfl rfl dJ3_clear_38 ?_
  refine kn_icmp_lt (tgt := 45) C (by omega) (by omega) dJ3_clear_41 (by decide) (fun c41 => ?_) (fun c41 => ?_)
  · refine lv_aload_n C.hx C.hb dJ3_clear_45 rfl (lv_at hl2 1 rfl) ?_
    refine k_get (v := .ref w) C clJ3 (hW1.get 0 0 rfl rfl) 0 (Nat.le_of_ble_eq_true rfl) rfl q183 rfl rfl dJ3_clear_46 ?_
    refine lv_iload_n C.hx C.hb dJ3_clear_49 rfl (lv_at hl2 0 rfl) ?_
    refine lv_dup2_11 C.hx C.hb dJ3_clear_50 rfl rfl ?_
    refine k_lald C (f := (fun j => lN (bw P j))) rfl (hW1.get 1 0 rfl rfl) (by omega) (by decide) dJ3_clear_51 ?_
    refine kn_lconst (a := 1) C rfl dJ3_clear_52 ?_
    refine lv_iload_n C.hx C.hb dJ3_clear_53 rfl (lv_at hl2 2 rfl) ?_
    refine kn_lsh1 C (by omega) dJ3_clear_54 ?_
    refine lv_ldc2 (own := "java/util/BitSet") (v := (-1)) C.hx C.hb C.hown (C.hts _ q1773) dJ3_clear_55 ?_
    refine k_op (y := .long (lN (2 ^ 64 - 1))) (congrArg Value.long lN_m1) ?_
    refine kn_lxor C dJ3_clear_58 ?_
    refine kn_land C dJ3_clear_59 ?_
    refine k_last (S' := [[(d, .inr (11, [.ref w, .int (nI (wIU P)), .int (nI 1)]))], [(w, .inl (G.2.2.1 1, 4, .inr (.inl (vp_updL (fun j => lN (bw P j)) (b / 64) (lN ((bw P (b / 64)) &&& ((2 ^ (b % 64)) ^^^ (2 ^ 64 - 1))))))))]]) C hW1 1 0 rfl rfl rfl (by omega) (by decide) dJ3_clear_60 rfl (fun H3 locs3 hW3 => ?_)
    clear hW1
    have hW4 : Ws G A s [[(d, .inr (11, [.ref w, .int (nI (wIU P)), .int (nI 1)]))], [(w, .inl (G.2.2.1 1, 4, .inr (.inl (fun j => lN (bw (bset P b false) j)))))]] H3 locs3 := by rw [← updL_clr]; exact hW3
    clear hW3
    refine lv_aload_n C.hx C.hb dJ3_clear_61 rfl (lv_at hl2 1 rfl) ?_
    refine k_callV (Sc := [[(d, .inr (11, [.ref w, .int (nI (wIU P)), .int (nI 1)]))]]) (Sr := [[(w, .inl (G.2.2.1 1, 4, .inr (.inl (fun j => lN (bw (bset P b false) j)))))]]) (As := []) (rest := []) C (ctJ3_recalc l G d w (wIU P) (bset P b false) (by omega) (wIU_le P)) hW4 clJ3 (hW4.get 0 0 rfl rfl) q1779 q1781 qs31 q76 q1782 rfl rfl ⟨by decide, by decide, Eq.trans (b := some 0) (by decide +kernel) rfl⟩ (Nat.le_of_ble_eq_true rfl) (Nat.le_of_ble_eq_true rfl) (Nat.le_refl _) (Nat.le_refl _) hl2.1 rfl (Nat.le_of_ble_eq_true rfl) dJ3_clear_62 ((pick_perm [[(d, .inr (11, [.ref w, .int (nI (wIU P)), .int (nI 1)]))], [(w, .inl (G.2.2.1 1, 4, .inr (.inl (fun j => lN (bw (bset P b false) j)))))]] 2 rfl (is := [1, 0]) (by decide)).flatten.symm) (fun z hz => by cases hz; exact Or.inl ⟨_, rfl, seg_mem (i := 0) (j := 0) rfl rfl⟩) (fun v H5 locs5 S1 hQ hz5 hW5 => ?_)
    obtain ⟨rfl, rfl⟩ := hQ
    have hW5 : Ws G A s ([[(w, .inl (G.2.2.1 1, 4, .inr (.inl (fun j => lN (bw (bset P b false) j)))))], [(d, .inr (11, [.ref w, .int (nI (rc (bset P b false) (wIU P))), .int (nI 1)]))]]) H5 locs5 := hW5
    clear hW4
    refine W.eq (g2 := F0 m 65 ls2 []) rfl ?_
    refine lv_aload_n C.hx C.hb dJ3_clear_65 rfl (lv_at hl2 1 rfl) ?_
    refine k_callV (Sc := []) (Sr := [[(w, .inl (G.2.2.1 1, 4, .inr (.inl (fun j => lN (bw (bset P b false) j)))))], [(d, .inr (11, [.ref w, .int (nI (rc (bset P b false) (wIU P))), .int (nI 1)]))]]) (As := []) (rest := []) C (ctJ3_checkInvariants l G d) hW5 clJ3 (hW5.get 1 0 rfl rfl) q1617 q1619 qs25 q76 q1620 rfl rfl ⟨by decide, by decide, Eq.trans (b := some 0) (by decide +kernel) rfl⟩ (Nat.le_of_ble_eq_true rfl) (Nat.le_of_ble_eq_true rfl) (Nat.le_refl _) (Nat.le_refl _) hl2.1 rfl (Nat.le_of_ble_eq_true rfl) dJ3_clear_66 (k_permR _) (fun _ h => h.elim) (fun v H6 locs6 S1 hQ hz6 hW6 => ?_)
    obtain ⟨rfl, rfl⟩ := hQ
    have hW6 : Ws G A s ([[(w, .inl (G.2.2.1 1, 4, .inr (.inl (fun j => lN (bw (bset P b false) j)))))], [(d, .inr (11, [.ref w, .int (nI (rc (bset P b false) (wIU P))), .int (nI 1)]))]]) H6 locs6 := hW6
    clear hW5
    refine W.eq (g2 := F0 m 69 ls2 []) rfl ?_
    have hW7 : Ws G A s [[(d, .inr (11, [.ref w, .int (nI (rc (bset P b false) (wIU P))), .int (nI 1)]))], [(w, .inl (G.2.2.1 1, 4, .inr (.inl (fun j => lN (bw (bset P b false) j)))))]] H6 locs6 := hW6.pick 2 rfl [1, 0] (by decide) rfl
    clear hW6
    exact k_vret C hW7 rfl ⟨rfl, by rw [wIU_clr hb]⟩ (Nat.le_refl _) (Nat.le_refl _) dJ3_clear_69
  · exact k_vret C hW1 rfl ⟨rfl, by rw [wIU_cong (bw_clr_out (by omega : wIU P ≤ b / 64) hb), show (fun j => lN (bw (bset P b false) j)) = fun j => lN (bw P j) from funext fun j => by rw [bw_clr_out (by omega : wIU P ≤ b / 64) hb]]⟩ (Nat.le_refl _) (Nat.le_refl _) dJ3_clear_44

def Q_ctJ3_isEmpty (G : GT) (d w : Nat) (P : Nat → Bool) : Option Value → List va_W → Prop := fun v S1 => v = some (.int (b01 (wIU P = 0))) ∧ S1 = []
set_option maxHeartbeats 4000000 in
set_option maxRecDepth 100000 in
theorem ctJ3_isEmpty (l : Launch) (G : GT) (d w : Nat) (P : Nat → Bool)  : Ct l G yJ3_isEmpty cJ3_isEmpty 1 (some .boolean) 0 0 0 0 [.ref d] ([]) ((fun z => z = .inl (d, .inr (11, [.ref w, .int (nI (wIU P)), .int (nI 1)])))) (Q_ctJ3_isEmpty G d w P) := by
  refine Ct.of (by decide +kernel) (Nat.le_of_ble_eq_true rfl) ?_
  intro p e s m below meth c A ls C hW hRo hl
  have hl : lv_has ls 1 [(0, .ref d)] := hl
  have hb4 := wIU_le P
  refine lv_aload_n C.hx C.hb dJ3_isEmpty_0 rfl (lv_at hl 0 rfl) ?_
  refine k_get (v := .int (nI (wIU P))) C clJ3 ((hRo _ rfl).at hW) 1 (Nat.le_of_ble_eq_true rfl) rfl q184 rfl rfl dJ3_isEmpty_1 ?_
  refine kn_if_ne (tgt := 11) C (by omega) dJ3_isEmpty_4 (by decide) (fun c4 => ?_) (fun c4 => ?_)
  · refine kn_iconst (a := 0) C (by decide) dJ3_isEmpty_11 ?_
    exact k_zret C hW rfl (by decide) ⟨by simp [b01, c4]; rfl, rfl⟩ (Nat.le_refl _) (Nat.le_refl _) dJ3_isEmpty_12
  · refine kn_iconst (a := 1) C (by decide) dJ3_isEmpty_7 ?_
    refine lv_goto (tgt := 12) C.hx C.hb dJ3_isEmpty_8 (by decide) ?_
    exact k_zret C hW rfl (by decide) ⟨by simp [b01, c4]; rfl, rfl⟩ (Nat.le_refl _) (Nat.le_refl _) dJ3_isEmpty_12

def Q_ctJ3_cardinality (G : GT) (d w : Nat) (P : Nat → Bool) : Option Value → List va_W → Prop := fun v S1 => v = some (.int (nI (fb_ct P 256))) ∧ S1 = []
set_option maxHeartbeats 4000000 in
set_option maxRecDepth 100000 in
theorem ctJ3_cardinality (l : Launch) (G : GT) (d w : Nat) (P : Nat → Bool)  : Ct l G yJ3_cardinality cJ3_cardinality 3 (some .int) 1 21 0 0 [.ref d] ([]) ((fun z => z = .inl (d, .inr (11, [.ref w, .int (nI (wIU P)), .int (nI 1)])) ∨ z = .inl (w, .inl (G.2.2.1 1, 4, .inr (.inl (fun j => lN (bw P j))))))) (Q_ctJ3_cardinality G d w P) := by
  refine Ct.of (by decide +kernel) (Nat.le_of_ble_eq_true rfl) ?_
  intro p e s m below meth c A ls C hW hRo hl
  have hl : lv_has ls 3 [(0, .ref d)] := hl
  have hb4 := wIU_le P
  refine kn_iconst (a := 0) C (by decide) dJ3_cardinality_0 ?_
  refine lv_istore_n (lv' := [(1, .int (nI 0)), (0, .ref d)]) C.hx C.hb dJ3_cardinality_1 rfl hl (Nat.le_of_ble_eq_true rfl) rfl (fun ls1 hl1 => ?_)
  clear hl
  refine kn_iconst (a := 0) C (by decide) dJ3_cardinality_2 ?_
  refine lv_istore_n (lv' := [(2, .int (nI 0)), (1, .int (nI 0)), (0, .ref d)]) C.hx C.hb dJ3_cardinality_3 rfl hl1 (Nat.le_of_ble_eq_true rfl) rfl (fun ls2 hl2 => ?_)
  clear hl1
  have La : ∀ (k3 : Nat) (i : Nat), (i ≤ wIU P) → wIU P - i < k3 → ∀ (H3 : Heap) (locs3 : List Loc) (ls3 : Array Slot), Ws G A s ([]) H3 locs3 → lv_has ls3 3 [(0, .ref d), (1, .int (nI (fb_ct P (64 * i)))), (2, .int (nI i))] → W p l e ({ frames := 1, cells := 0, slots := 0, locals := 21 } : Room) s m ([.ref d] : List Value).toArray below meth c H3 locs3 0 0 (MQ below (cQ G A (Q_ctJ3_cardinality G d w P)) ([.ref d] : List Value).toArray s 0 0 A) (F0 m 4 ls3 []) := by
    intro k3
    induction k3 with
    | zero => intro i hLa_0 hm3; exact absurd hm3 (Nat.not_lt_zero _)
    | succ k3 ih3 =>
      intro i hLa_0 hm3 H3 locs3 ls3 hW3 hl3
      refine lv_iload_n C.hx C.hb dJ3_cardinality_4 rfl (lv_at hl3 2 rfl) ?_
      refine lv_aload_n C.hx C.hb dJ3_cardinality_5 rfl (lv_at hl3 0 rfl) ?_
      refine k_get (v := .int (nI (wIU P))) C clJ3 ((hRo _ (Or.inl rfl)).at hW3) 1 (Nat.le_of_ble_eq_true rfl) rfl q184 rfl rfl dJ3_cardinality_6 ?_
      refine kn_icmp_ge (tgt := 30) C (by omega) (by omega) dJ3_cardinality_9 (by decide) (fun c9 => ?_) (fun c9 => ?_)
      · refine lv_iload_n C.hx C.hb dJ3_cardinality_30 rfl (lv_at hl3 1 rfl) ?_
        exact k_iret C hW3 rfl ⟨by rw [← ct_wIU P, show wIU P = i by omega], rfl⟩ (Nat.le_refl _) (Nat.le_refl _) dJ3_cardinality_31
      · refine lv_iload_n C.hx C.hb dJ3_cardinality_12 rfl (lv_at hl3 1 rfl) ?_
        refine lv_aload_n C.hx C.hb dJ3_cardinality_13 rfl (lv_at hl3 0 rfl) ?_
        refine k_get (v := .ref w) C clJ3 ((hRo _ (Or.inl rfl)).at hW3) 0 (Nat.le_of_ble_eq_true rfl) rfl q183 rfl rfl dJ3_cardinality_14 ?_
        refine lv_iload_n C.hx C.hb dJ3_cardinality_17 rfl (lv_at hl3 2 rfl) ?_
        refine k_lald C (f := (fun j => lN (bw P j))) rfl ((hRo _ (Or.inr rfl)).at hW3) (by omega) (by decide) dJ3_cardinality_18 ?_
        refine k_callS (Sc := []) (Sr := []) (As := [.long (lN (bw P i))]) (rest := [.int (nI (fb_ct P (64 * i)))]) C (ctJ23_bitCount l G (bw P i) (bw_lt P i)) hW3 q1083 q1084 q101 q1085 rfl ⟨by decide, by decide, Eq.trans (b := some 1) (by decide +kernel) rfl⟩ (Nat.le_of_ble_eq_true rfl) (Nat.le_of_ble_eq_true rfl) (Nat.le_refl _) (Nat.le_refl _) hl3.1 rfl (Nat.le_of_ble_eq_true rfl) dJ3_cardinality_19 (k_permR _) (fun _ h => h.elim) (fun v H4 locs4 S1 hQ hz4 hW4 => ?_)
        obtain ⟨rfl, rfl⟩ := hQ
        have hW4 : Ws G A s ([]) H4 locs4 := hW4
        clear hW3
        refine W.eq (g2 := F0 m 22 ls3 [.int (nI (fb_ct (fun i_1 => (bw P i).testBit i_1) 64)), .int (nI (fb_ct P (64 * i)))]) rfl ?_
        refine kn_iadd C  dJ3_cardinality_22 ?_
        refine lv_istore_n (lv' := [(1, .int (nI ((fb_ct P (64 * i)) + (fb_ct (fun i_1 => (bw P i).testBit i_1) 64)))), (0, .ref d), (2, .int (nI i))]) C.hx C.hb dJ3_cardinality_23 rfl hl3 (Nat.le_of_ble_eq_true rfl) rfl (fun ls5 hl5 => ?_)
        clear hl3
        refine kn_iinc (lv' := [(2, .int (nI (i + 1))), (1, .int (nI ((fb_ct P (64 * i)) + (fb_ct (fun i_1 => (bw P i).testBit i_1) 64)))), (0, .ref d)]) (k := 2) C dJ3_cardinality_24 hl5 rfl (Nat.le_of_ble_eq_true rfl) rfl (fun ls6 hl6 => ?_)
        clear hl5
        refine lv_goto (tgt := 4) C.hx C.hb dJ3_cardinality_27 (by decide) ?_
        have e7 : (fb_ct P (64 * (i + 1))) = ((fb_ct P (64 * i)) + (fb_ct (fun i_1 => (bw P i).testBit i_1) 64)) := by first | rfl | exact (ct_word P i).symm | exact ct_word P i
        exact ih3 (i + 1) (by omega) (by omega) _ _ _ hW4 (by rw [e7]; exact (lv_sub hl6 [2, 1, 0] rfl))
  have e8 : (fb_ct P (64 * 0)) = 0 := by first | rfl | exact (ct_word P i).symm | exact ct_word P i
  exact La (wIU P - 0 + 1) 0 (Nat.zero_le _) (Nat.lt_succ_self _) _ _ _ hW (by rw [e8]; exact (lv_sub hl2 [2, 1, 0] rfl))

def Q_ctJ3_nextSetBit (G : GT) (d w b : Nat) (P : Nat → Bool) : Option Value → List va_W → Prop := fun v S1 => v = some (.int (nI b)) ∧ S1 = []
set_option maxHeartbeats 4000000 in
set_option maxRecDepth 100000 in
theorem ctJ3_nextSetBit (l : Launch) (G : GT) (d w b : Nat) (P : Nat → Bool) (hb : b < 256) (h1 : P b = true) (h2 : ∀ k, k < b → P k = false) : Ct l G yJ3_nextSetBit cJ3_nextSetBit 5 (some .int) 2 43 0 0 [.ref d, .int (nI 0)] ([]) ((fun z => z = .inl (d, .inr (11, [.ref w, .int (nI (wIU P)), .int (nI 1)])) ∨ z = .inl (w, .inl (G.2.2.1 1, 4, .inr (.inl (fun j => lN (bw P j))))))) (Q_ctJ3_nextSetBit G d w b P) := by
  refine Ct.of (by decide +kernel) (Nat.le_of_ble_eq_true rfl) ?_
  intro p e s m below meth c A ls C hW hRo hl
  have hl : lv_has ls 5 [(0, .ref d), (1, .int (nI 0))] := hl
  have hb4 := wIU_le P
  have hu := first_use hb h1
  refine lv_iload_n C.hx C.hb dJ3_nextSetBit_0 rfl (lv_at hl 1 rfl) ?_
  refine kn_if_ge (tgt := 31) C (by decide) dJ3_nextSetBit_1 (by decide) ?_
  refine lv_aload_n C.hx C.hb dJ3_nextSetBit_31 rfl (lv_at hl 0 rfl) ?_
  refine k_callV (Sc := []) (Sr := []) (As := []) (rest := []) C (ctJ3_checkInvariants l G d) hW clJ3 ((hRo _ (Or.inl rfl)).at hW) q1617 q1619 qs25 q76 q1620 rfl rfl ⟨by decide, by decide, Eq.trans (b := some 0) (by decide +kernel) rfl⟩ (Nat.le_of_ble_eq_true rfl) (Nat.le_of_ble_eq_true rfl) (Nat.le_refl _) (Nat.le_refl _) hl.1 rfl (Nat.le_of_ble_eq_true rfl) dJ3_nextSetBit_32 (k_permR _) (fun _ h => h.elim) (fun v H1 locs1 S1 hQ hz1 hW1 => ?_)
  obtain ⟨rfl, rfl⟩ := hQ
  have hW1 : Ws G A s ([]) H1 locs1 := hW1
  clear hW
  refine W.eq (g2 := F0 m 35 ls []) rfl ?_
  refine lv_iload_n C.hx C.hb dJ3_nextSetBit_35 rfl (lv_at hl 1 rfl) ?_
  refine k_callS (Sc := []) (Sr := []) (As := [.int (nI 0)]) (rest := []) C (ctJ3_wordIndex l G 0 (by decide)) hW1 q180 q181 q76 q182 rfl ⟨by decide, by decide, Eq.trans (b := some 1) (by decide +kernel) rfl⟩ (Nat.le_of_ble_eq_true rfl) (Nat.le_of_ble_eq_true rfl) (Nat.le_refl _) (Nat.le_refl _) hl.1 rfl (Nat.le_of_ble_eq_true rfl) dJ3_nextSetBit_36 (k_permR _) (fun _ h => h.elim) (fun v H2 locs2 S1 hQ hz2 hW2 => ?_)
  obtain ⟨rfl, rfl⟩ := hQ
  have hW2 : Ws G A s ([]) H2 locs2 := hW2
  clear hW1
  refine W.eq (g2 := F0 m 39 ls [.int (nI (0 / 64))]) rfl ?_
  refine k_op (y := .int (nI 0)) rfl ?_
  refine lv_istore_n (lv' := [(2, .int (nI 0)), (0, .ref d), (1, .int (nI 0))]) C.hx C.hb dJ3_nextSetBit_39 rfl hl (Nat.le_of_ble_eq_true rfl) rfl (fun ls3 hl3 => ?_)
  clear hl
  refine lv_iload_n C.hx C.hb dJ3_nextSetBit_40 rfl (lv_at hl3 0 rfl) ?_
  refine lv_aload_n C.hx C.hb dJ3_nextSetBit_41 rfl (lv_at hl3 1 rfl) ?_
  refine k_get (v := .int (nI (wIU P))) C clJ3 ((hRo _ (Or.inl rfl)).at hW2) 1 (Nat.le_of_ble_eq_true rfl) rfl q184 rfl rfl dJ3_nextSetBit_42 ?_
  refine kn_icmp_lt (tgt := 50) C (by decide) (by omega) dJ3_nextSetBit_45 (by decide) (fun c45 => ?_) (fun c45 => (absurd c45 (by omega)))
  refine lv_aload_n C.hx C.hb dJ3_nextSetBit_50 rfl (lv_at hl3 1 rfl) ?_
  refine k_get (v := .ref w) C clJ3 ((hRo _ (Or.inl rfl)).at hW2) 0 (Nat.le_of_ble_eq_true rfl) rfl q183 rfl rfl dJ3_nextSetBit_51 ?_
  refine lv_iload_n C.hx C.hb dJ3_nextSetBit_54 rfl (lv_at hl3 0 rfl) ?_
  refine k_lald C (f := (fun j => lN (bw P j))) rfl ((hRo _ (Or.inr rfl)).at hW2) (by decide) (by decide) dJ3_nextSetBit_55 ?_
  refine lv_ldc2 (own := "java/util/BitSet") (v := (-1)) C.hx C.hb C.hown (C.hts _ q1773) dJ3_nextSetBit_56 ?_
  refine k_op (y := .long (lN (2 ^ 64 - 1))) (congrArg Value.long lN_m1) ?_
  refine lv_iload_n C.hx C.hb dJ3_nextSetBit_59 rfl (lv_at hl3 2 rfl) ?_
  refine lv_lshl (v := lN (2 ^ 64 - 1)) C.hx C.hb dJ3_nextSetBit_60 (by decide) ?_
  refine kn_land C dJ3_nextSetBit_61 ?_
  refine k_op (y := .long (lN (bw P 0))) (congrArg (fun z => Value.long (lN z)) (by rw [Nat.and_two_pow_sub_one_eq_mod, Nat.mod_eq_of_lt (bw_lt P 0)])) ?_
  refine lv_lstore_n (lv' := [(3, .long (lN (bw P 0))), (2, .int (nI 0)), (0, .ref d), (1, .int (nI 0))]) C.hx C.hb dJ3_nextSetBit_62 rfl hl3 (Nat.le_of_ble_eq_true rfl) rfl (fun ls4 hl4 => ?_)
  clear hl3
  have La : ∀ (k5 : Nat) (u : Nat), (u ≤ b / 64) → b / 64 + 1 - u < k5 → ∀ (H5 : Heap) (locs5 : List Loc) (ls5 : Array Slot), Ws G A s ([]) H5 locs5 → lv_has ls5 5 [(0, .ref d), (2, .int (nI u)), (3, .long (lN (bw P u)))] → W p l e ({ frames := 2, cells := 0, slots := 0, locals := 43 } : Room) s m ([.ref d, .int (nI 0)] : List Value).toArray below meth c H5 locs5 0 0 (MQ below (cQ G A (Q_ctJ3_nextSetBit G d w b P)) ([.ref d, .int (nI 0)] : List Value).toArray s 0 0 A) (F0 m 63 ls5 []) := by
    intro k5
    induction k5 with
    | zero => intro u hLa_0 hm5; exact absurd hm5 (Nat.not_lt_zero _)
    | succ k5 ih5 =>
      intro u hLa_0 hm5 H5 locs5 ls5 hW5 hl5
      refine lv_lload_n C.hx C.hb dJ3_nextSetBit_63 rfl (lv_at hl5 2 rfl) ?_
      refine kn_lconst (a := 0) C rfl dJ3_nextSetBit_64 ?_
      refine kl0_eq (tgt := 79) C (bw_lt P u) dJ3_nextSetBit_65 dJ3_nextSetBit_66 (by decide) (fun c65 => ?_) (fun c65 => ?_)
      · have hne : u ≠ b / 64 := fun q => by
          have h3 := (first_low h1 h2).pos
          rw [← q] at h3
          omega
        refine kn_iinc (lv' := [(2, .int (nI (u + 1))), (0, .ref d), (3, .long (lN (bw P u)))]) (k := 1) C dJ3_nextSetBit_79 hl5 rfl (Nat.le_of_ble_eq_true rfl) rfl (fun ls6 hl6 => ?_)
        clear hl5
        refine lv_iload_n C.hx C.hb dJ3_nextSetBit_82 rfl (lv_at hl6 0 rfl) ?_
        refine lv_aload_n C.hx C.hb dJ3_nextSetBit_83 rfl (lv_at hl6 1 rfl) ?_
        refine k_get (v := .int (nI (wIU P))) C clJ3 ((hRo _ (Or.inl rfl)).at hW5) 1 (Nat.le_of_ble_eq_true rfl) rfl q184 rfl rfl dJ3_nextSetBit_84 ?_
        refine kn_icmp_ne (tgt := 92) C (by omega) (by omega) dJ3_nextSetBit_87 (by decide) (fun c87 => ?_) (fun c87 => (absurd c87 (by omega)))
        refine lv_aload_n C.hx C.hb dJ3_nextSetBit_92 rfl (lv_at hl6 1 rfl) ?_
        refine k_get (v := .ref w) C clJ3 ((hRo _ (Or.inl rfl)).at hW5) 0 (Nat.le_of_ble_eq_true rfl) rfl q183 rfl rfl dJ3_nextSetBit_93 ?_
        refine lv_iload_n C.hx C.hb dJ3_nextSetBit_96 rfl (lv_at hl6 0 rfl) ?_
        refine k_lald C (f := (fun j => lN (bw P j))) rfl ((hRo _ (Or.inr rfl)).at hW5) (by omega) (by decide) dJ3_nextSetBit_97 ?_
        refine lv_lstore_n (lv' := [(3, .long (lN (bw P (u + 1)))), (2, .int (nI (u + 1))), (0, .ref d)]) C.hx C.hb dJ3_nextSetBit_98 rfl hl6 (Nat.le_of_ble_eq_true rfl) rfl (fun ls7 hl7 => ?_)
        clear hl6
        refine lv_goto (tgt := 63) C.hx C.hb dJ3_nextSetBit_99 (by decide) ?_
        exact ih5 (u + 1) (by omega) (by omega) _ _ _ hW5 (lv_sub hl7 [2, 1, 0] rfl)
      · have heq : u = b / 64 := by
          apply Classical.byContradiction
          intro q
          exact c65 (first_zero h2 (by omega))
        refine lv_iload_n C.hx C.hb dJ3_nextSetBit_69 rfl (lv_at hl5 1 rfl) ?_
        refine kn_bipush (a := 64) C (by decide) dJ3_nextSetBit_70 ?_
        refine kn_imul C  dJ3_nextSetBit_72 ?_
        refine lv_lload_n C.hx C.hb dJ3_nextSetBit_73 rfl (lv_at hl5 2 rfl) ?_
        refine k_callS (Sc := []) (Sr := []) (As := [.long (lN (bw P u))]) (rest := [.int (nI (u * 64))]) C (ctJ23_ntz l G (bw P u) (b % 64) (bw_lt P u) (Nat.mod_lt _ (by decide)) (by rw [heq]; exact first_low h1 h2)) hW5 q1774 q1440 q101 q1441 rfl ⟨by decide, by decide, Eq.trans (b := some 1) (by decide +kernel) rfl⟩ (Nat.le_of_ble_eq_true rfl) (Nat.le_of_ble_eq_true rfl) (Nat.le_refl _) (Nat.le_refl _) hl5.1 rfl (Nat.le_of_ble_eq_true rfl) dJ3_nextSetBit_74 (k_permR _) (fun _ h => h.elim) (fun v H8 locs8 S1 hQ hz8 hW8 => ?_)
        obtain ⟨rfl, rfl⟩ := hQ
        have hW8 : Ws G A s ([]) H8 locs8 := hW8
        clear hW5
        refine W.eq (g2 := F0 m 77 ls5 [.int (nI (b % 64)), .int (nI (u * 64))]) rfl ?_
        refine kn_iadd C  dJ3_nextSetBit_77 ?_
        exact k_iret C hW8 rfl ⟨by rw [show u * 64 + b % 64 = b by omega], rfl⟩ (Nat.le_refl _) (Nat.le_refl _) dJ3_nextSetBit_78
  exact La (b / 64 + 1 - 0 + 1) 0 (Nat.zero_le _) (Nat.lt_succ_self _) _ _ _ hW2 (lv_sub hl4 [2, 1, 0] rfl)
