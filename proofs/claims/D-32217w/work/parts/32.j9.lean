theorem sub_add {h n cp : Nat} (hn : n < cp) (hr : cp ≤ h + n) (hh : h < cp) : nI (h + n - cp) - nI h + nI cp = nI n := by
  have e : nI (h + n - cp) + nI cp = nI n + nI h := by rw [nI_add, nI_add, show h + n - cp + cp = n + h by omega]
  rw [Int32.sub_eq_add_neg, Int32.add_assoc, Int32.add_comm (-nI h), ← Int32.add_assoc, e, Int32.add_assoc, Int32.add_right_neg, Int32.add_zero]
theorem sub_neg {h n cp : Nat} (hC : cp < 2 ^ 26) (hn : n < cp) (hh : h < cp) (hr : cp ≤ h + n) : ¬ 0 ≤ nI (h + n - cp) - nI h := by
  rw [Int32.le_iff_toInt_le, pk_sub_toInt (by omega) (by omega)]
  show ¬ (0 : Int) ≤ _
  omega
theorem ring_ne {cp h n : Nat} (hh : h < cp) (hn : n < cp) (h0 : 0 < n) : (h + n) % cp ≠ h := by
  intro q
  by_cases q2 : h + n < cp
  · rw [Nat.mod_eq_of_lt q2] at q; omega
  · rw [Nat.mod_eq_sub_mod (by omega), Nat.mod_eq_of_lt (by omega)] at q; omega
def Q_ctJ4_init (G : GT) (q : Nat) : Option Value → List va_W → Prop := fun v S1 => ∃ es, v = none ∧ S1 = [[(q, .inr (12, [.ref es, .int 0, .int 0]))], [(es, .inl (G.2.2.1 4, 17, .inr (.inr (.inr (.inr (dq 17 0 ([])))))))]]
set_option maxHeartbeats 4000000 in
set_option maxRecDepth 100000 in
theorem ctJ4_init (l : Launch) (G : GT) (q : Nat)  : Ct l G yJ4_init cJ4_init 1 none 2 40 1 17 [.ref q] ([[(q, .inr (12, [.null, .int 0, .int 0]))]]) noR (Q_ctJ4_init G q) := by
  refine Ct.of (by decide +kernel) (Nat.le_of_ble_eq_true rfl) ?_
  intro p e s m below meth c A ls C hW hRo hl
  have hl : lv_has ls 1 [(0, .ref q)] := hl
  refine lv_aload_n C.hx C.hb dJ4_init_0 rfl (lv_at hl 0 rfl) ?_
  refine k_callI (Sc := []) (Sr := [[(q, .inr (12, [.null, .int 0, .int 0]))]]) (As := []) (rest := []) C (ctJ0_init_A l G q 0 0 none none) hW q199 q146 q73 q147 rfl rfl ⟨by decide, by decide, Eq.trans (b := some 0) (by decide +kernel) rfl⟩ (Nat.le_of_ble_eq_true rfl) (Nat.le_of_ble_eq_true rfl) (show 0 + 0 ≤ 1 by omega) (show 0 + 0 ≤ 17 by omega) hl.1 rfl (Nat.le_of_ble_eq_true rfl) dJ4_init_1 (k_permR _) (fun _ h => h.elim) (fun v H1 locs1 S1 hQ hz1 hW1 => ?_)
  obtain ⟨rfl, rfl⟩ := hQ
  have hW1 : Ws G A s ([[(q, .inr (12, [.null, .int 0, .int 0]))]]) H1 locs1 := hW1
  clear hW
  refine W.eq (g2 := F0 m 4 ls []) rfl ?_
  refine lv_aload_n C.hx C.hb dJ4_init_4 rfl (lv_at hl 0 rfl) ?_
  refine kn_bipush (a := 17) C (by decide) dJ4_init_5 ?_
  refine k_newq C hW1 4 rfl q200 rfl q201 (N := 17) (by decide) (show 0 + 1 ≤ 1 by omega) (show 0 + 17 ≤ 17 by omega) dJ4_init_7 (fun q2 H2 hW2 => ?_)
  have hW2 : Ws G A s [[(q, .inr (12, [.null, .int 0, .int 0]))], [(q2, .inl (G.2.2.1 4, 17, .inr (.inr (.inr (.inr (fun _ => none))))))]] H2 locs1 := hW2
  clear hW1
  refine k_put (S' := [[(q, .inr (12, [.ref q2, .int 0, .int 0]))], [(q2, .inl (G.2.2.1 4, 17, .inr (.inr (.inr (.inr (fun _ => none))))))]]) C clJ4 hW2 0 0 rfl rfl 0 (Nat.le_of_ble_eq_true rfl) rfl q202 rfl (fun _ h => h) (Or.inr ⟨rfl, rfl⟩) (fty := (.array (.object "java/lang/Object"))) (v := .ref q2) (by decide +kernel) rfl rfl (Nat.le_of_ble_eq_true rfl) dJ4_init_10 rfl (fun H3 locs3 hW3 => ?_)
  clear hW2
  exact k_vret C hW3 rfl ⟨_, rfl, by rw [dq_nil]⟩ (by omega) (by omega) dJ4_init_13

def Q_ctJ4_inc (G : GT) (i k : Nat) : Option Value → List va_W → Prop := fun v S1 => v = some (.int (nI ((i + 1) % k))) ∧ S1 = []
set_option maxHeartbeats 4000000 in
set_option maxRecDepth 100000 in
theorem ctJ4_inc (l : Launch) (G : GT) (i k : Nat) (hi : i < k) (hk : k < 2 ^ 26) : Ct l G yJ4_inc cJ4_inc 2 (some .int) 0 0 0 0 [.int (nI i), .int (nI k)] ([]) noR (Q_ctJ4_inc G i k) := by
  refine Ct.of (by decide +kernel) (Nat.le_of_ble_eq_true rfl) ?_
  intro p e s m below meth c A ls C hW hRo hl
  have hl : lv_has ls 2 [(0, .int (nI i)), (1, .int (nI k))] := hl
  refine kn_iinc (lv' := [(0, .int (nI (i + 1))), (1, .int (nI k))]) (k := 0) C dJ4_inc_0 hl rfl (Nat.le_of_ble_eq_true rfl) rfl (fun ls1 hl1 => ?_)
  clear hl
  refine lv_iload_n C.hx C.hb dJ4_inc_3 rfl (lv_at hl1 0 rfl) ?_
  refine lv_iload_n C.hx C.hb dJ4_inc_4 rfl (lv_at hl1 1 rfl) ?_
  refine kn_icmp_lt (tgt := 10) C (by omega) (by omega) dJ4_inc_5 (by decide) (fun c5 => ?_) (fun c5 => ?_)
  · refine lv_iload_n C.hx C.hb dJ4_inc_10 rfl (lv_at hl1 0 rfl) ?_
    exact k_iret C hW rfl ⟨by rw [show (i + 1) % k = i + 1 from Nat.mod_eq_of_lt (by omega)], rfl⟩ (Nat.le_refl _) (Nat.le_refl _) dJ4_inc_11
  · refine kn_iconst (a := 0) C (by decide) dJ4_inc_8 ?_
    refine lv_istore_n (lv' := [(0, .int (nI 0)), (1, .int (nI k))]) C.hx C.hb dJ4_inc_9 rfl hl1 (Nat.le_of_ble_eq_true rfl) rfl (fun ls2 hl2 => ?_)
    clear hl1
    refine lv_iload_n C.hx C.hb dJ4_inc_10 rfl (lv_at hl2 0 rfl) ?_
    exact k_iret C hW rfl ⟨by rw [show (i + 1) % k = 0 by rw [show i + 1 = k by omega, Nat.mod_self]], rfl⟩ (Nat.le_refl _) (Nat.le_refl _) dJ4_inc_11

def Q_ctJ4_isEmpty (G : GT) (q es cp h t : Nat) : Option Value → List va_W → Prop := fun v S1 => v = some (.int (b01 (h = t))) ∧ S1 = []
set_option maxHeartbeats 4000000 in
set_option maxRecDepth 100000 in
theorem ctJ4_isEmpty (l : Launch) (G : GT) (q es cp h t : Nat) (hh : h < 2 ^ 26) (ht : t < 2 ^ 26) : Ct l G yJ4_isEmpty cJ4_isEmpty 1 (some .boolean) 0 0 0 0 [.ref q] ([]) ((fun z => z = .inl (q, .inr (12, [.ref es, .int (nI h), .int (nI t)])))) (Q_ctJ4_isEmpty G q es cp h t) := by
  refine Ct.of (by decide +kernel) (Nat.le_of_ble_eq_true rfl) ?_
  intro p e s m below meth c A ls C hW hRo hl
  have hl : lv_has ls 1 [(0, .ref q)] := hl
  refine lv_aload_n C.hx C.hb dJ4_isEmpty_0 rfl (lv_at hl 0 rfl) ?_
  refine k_get (v := .int (nI h)) C clJ4 ((hRo _ rfl).at hW) 1 (Nat.le_of_ble_eq_true rfl) rfl q205 rfl rfl dJ4_isEmpty_1 ?_
  refine lv_aload_n C.hx C.hb dJ4_isEmpty_4 rfl (lv_at hl 0 rfl) ?_
  refine k_get (v := .int (nI t)) C clJ4 ((hRo _ rfl).at hW) 2 (Nat.le_of_ble_eq_true rfl) rfl q206 rfl rfl dJ4_isEmpty_5 ?_
  refine kn_icmp_ne (tgt := 15) C (by omega) (by omega) dJ4_isEmpty_8 (by decide) (fun c8 => ?_) (fun c8 => ?_)
  · refine kn_iconst (a := 0) C (by decide) dJ4_isEmpty_15 ?_
    exact k_zret C hW rfl (by decide) ⟨by simp [b01, c8]; rfl, rfl⟩ (Nat.le_refl _) (Nat.le_refl _) dJ4_isEmpty_16
  · refine kn_iconst (a := 1) C (by decide) dJ4_isEmpty_11 ?_
    refine lv_goto (tgt := 16) C.hx C.hb dJ4_isEmpty_12 (by decide) ?_
    exact k_zret C hW rfl (by decide) ⟨by simp [b01, c8]; rfl, rfl⟩ (Nat.le_refl _) (Nat.le_refl _) dJ4_isEmpty_16

def Q_ctJ4_elementAt (G : GT) (es cp i x : Nat) (f : Nat → Option Nat) : Option Value → List va_W → Prop := fun v S1 => v = some (.ref x) ∧ S1 = []
set_option maxHeartbeats 4000000 in
set_option maxRecDepth 100000 in
theorem ctJ4_elementAt (l : Launch) (G : GT) (es cp i x : Nat) (f : Nat → Option Nat) (hi : i < cp) (hC : cp < 2 ^ 26) (hx : f i = some x) : Ct l G yJ4_elementAt cJ4_elementAt 2 (some (.object "java/lang/Object")) 0 0 0 0 [.ref es, .int (nI i)] ([]) ((fun z => z = .inl (es, .inl (G.2.2.1 4, cp, .inr (.inr (.inr (.inr f))))))) (Q_ctJ4_elementAt G es cp i x f) := by
  refine Ct.of (by decide +kernel) (Nat.le_of_ble_eq_true rfl) ?_
  intro p e s m below meth c A ls C hW hRo hl
  have hl : lv_has ls 2 [(0, .ref es), (1, .int (nI i))] := hl
  refine lv_aload_n C.hx C.hb dJ4_elementAt_0 rfl (lv_at hl 0 rfl) ?_
  refine lv_iload_n C.hx C.hb dJ4_elementAt_1 rfl (lv_at hl 1 rfl) ?_
  refine k_aaldS C (f := f) 4 rfl ((hRo _ rfl).at hW) (by omega) (by omega) hx dJ4_elementAt_2 ?_
  exact k_aret C hW rfl (Or.inl ⟨_, rfl⟩) (Or.inr ⟨_, rfl⟩) ⟨rfl, rfl⟩ (Nat.le_refl _) (Nat.le_refl _) dJ4_elementAt_3

def Q_ctJ4_nonNullElementAt (G : GT) (es cp i x : Nat) (f : Nat → Option Nat) : Option Value → List va_W → Prop := fun v S1 => v = some (.ref x) ∧ S1 = []
set_option maxHeartbeats 4000000 in
set_option maxRecDepth 100000 in
theorem ctJ4_nonNullElementAt (l : Launch) (G : GT) (es cp i x : Nat) (f : Nat → Option Nat) (hi : i < cp) (hC : cp < 2 ^ 26) (hx : f i = some x) : Ct l G yJ4_nonNullElementAt cJ4_nonNullElementAt 3 (some (.object "java/lang/Object")) 0 0 0 0 [.ref es, .int (nI i)] ([]) ((fun z => z = .inl (es, .inl (G.2.2.1 4, cp, .inr (.inr (.inr (.inr f))))))) (Q_ctJ4_nonNullElementAt G es cp i x f) := by
  refine Ct.of (by decide +kernel) (Nat.le_of_ble_eq_true rfl) ?_
  intro p e s m below meth c A ls C hW hRo hl
  have hl : lv_has ls 3 [(0, .ref es), (1, .int (nI i))] := hl
  refine lv_aload_n C.hx C.hb dJ4_nonNullElementAt_0 rfl (lv_at hl 0 rfl) ?_
  refine lv_iload_n C.hx C.hb dJ4_nonNullElementAt_1 rfl (lv_at hl 1 rfl) ?_
  refine k_aaldS C (f := f) 4 rfl ((hRo _ rfl).at hW) (by omega) (by omega) hx dJ4_nonNullElementAt_2 ?_
  refine lv_astore_n (lv' := [(2, .ref x), (0, .ref es), (1, .int (nI i))]) C.hx C.hb dJ4_nonNullElementAt_3 rfl hl (Nat.le_of_ble_eq_true rfl) rfl (fun ls1 hl1 => ?_)
  clear hl
  refine lv_aload_n C.hx C.hb dJ4_nonNullElementAt_4 rfl (lv_at hl1 0 rfl) ?_
  refine lv_ifnonnull (tgt := 16) C.hx C.hb dJ4_nonNullElementAt_5 (by decide) ?_
  refine lv_aload_n C.hx C.hb dJ4_nonNullElementAt_16 rfl (lv_at hl1 0 rfl) ?_
  exact k_aret C hW rfl (Or.inl ⟨_, rfl⟩) (Or.inr ⟨_, rfl⟩) ⟨rfl, rfl⟩ (Nat.le_refl _) (Nat.le_refl _) dJ4_nonNullElementAt_17

def Q_ctJ4_peekFirst (G : GT) (q es cp h t x : Nat) (ds : List Nat) : Option Value → List va_W → Prop := fun v S1 => v = some (.ref x) ∧ S1 = []
set_option maxHeartbeats 4000000 in
set_option maxRecDepth 100000 in
theorem ctJ4_peekFirst (l : Launch) (G : GT) (q es cp h t x : Nat) (ds : List Nat) (hh : h < cp) (hC : cp < 2 ^ 26) (hn : ds.length + 1 < cp) : Ct l G yJ4_peekFirst cJ4_peekFirst 1 (some (.object "java/lang/Object")) 1 21 0 0 [.ref q] ([]) ((fun z => z = .inl (q, .inr (12, [.ref es, .int (nI h), .int (nI t)])) ∨ z = .inl (es, .inl (G.2.2.1 4, cp, .inr (.inr (.inr (.inr (dq cp h (x :: ds))))))))) (Q_ctJ4_peekFirst G q es cp h t x ds) := by
  refine Ct.of (by decide +kernel) (Nat.le_of_ble_eq_true rfl) ?_
  intro p e s m below meth c A ls C hW hRo hl
  have hl : lv_has ls 1 [(0, .ref q)] := hl
  have h0 : dq cp h (x :: ds) h = some x := by
    have h9 := dq_at (C := cp) (h := h) (k := 0) (ds := x :: ds) hh (by omega)
    rw [Nat.add_zero, Nat.mod_eq_of_lt hh] at h9
    exact h9
  refine lv_aload_n C.hx C.hb dJ4_peekFirst_0 rfl (lv_at hl 0 rfl) ?_
  refine k_get (v := .ref es) C clJ4 ((hRo _ (Or.inl rfl)).at hW) 0 (Nat.le_of_ble_eq_true rfl) rfl q202 rfl rfl dJ4_peekFirst_1 ?_
  refine lv_aload_n C.hx C.hb dJ4_peekFirst_4 rfl (lv_at hl 0 rfl) ?_
  refine k_get (v := .int (nI h)) C clJ4 ((hRo _ (Or.inl rfl)).at hW) 1 (Nat.le_of_ble_eq_true rfl) rfl q205 rfl rfl dJ4_peekFirst_5 ?_
  refine k_callS (Sc := []) (Sr := []) (As := [.ref es, .int (nI h)]) (rest := []) C (ctJ4_elementAt l G es cp h x (dq cp h (x :: ds)) hh hC h0) hW q1742 q1743 q77 q1744 rfl ⟨by decide, by decide, Eq.trans (b := some 2) (by decide +kernel) rfl⟩ (Nat.le_of_ble_eq_true rfl) (Nat.le_of_ble_eq_true rfl) (Nat.le_refl _) (Nat.le_refl _) hl.1 rfl (Nat.le_of_ble_eq_true rfl) dJ4_peekFirst_8 (k_permR _) (fun z hz => by cases hz; exact Or.inr (Or.inr (hRo _ (Or.inr rfl)))) (fun v H1 locs1 S1 hQ hz1 hW1 => ?_)
  obtain ⟨rfl, rfl⟩ := hQ
  have hW1 : Ws G A s ([]) H1 locs1 := hW1
  clear hW
  refine W.eq (g2 := F0 m 11 ls [.ref x]) rfl ?_
  exact k_aret C hW1 rfl (Or.inl ⟨_, rfl⟩) (Or.inr ⟨_, rfl⟩) ⟨rfl, rfl⟩ (Nat.le_refl _) (Nat.le_refl _) dJ4_peekFirst_11

def Q_ctJ4_pollFirst (G : GT) (q es cp h t x : Nat) (ds : List Nat) : Option Value → List va_W → Prop := fun v S1 => v = some (.ref x) ∧ S1 = [[(q, .inr (12, [.ref es, .int (nI ((h + 1) % cp)), .int (nI t)]))], [(es, .inl (G.2.2.1 4, cp, .inr (.inr (.inr (.inr (dq cp ((h + 1) % cp) ds))))))]]
set_option maxHeartbeats 4000000 in
set_option maxRecDepth 100000 in
theorem ctJ4_pollFirst (l : Launch) (G : GT) (q es cp h t x : Nat) (ds : List Nat) (hh : h < cp) (hC : cp < 2 ^ 26) (hn : ds.length + 1 < cp) : Ct l G yJ4_pollFirst cJ4_pollFirst 4 (some (.object "java/lang/Object")) 1 21 0 0 [.ref q] ([[(q, .inr (12, [.ref es, .int (nI h), .int (nI t)]))], [(es, .inl (G.2.2.1 4, cp, .inr (.inr (.inr (.inr (dq cp h (x :: ds)))))))]]) noR (Q_ctJ4_pollFirst G q es cp h t x ds) := by
  refine Ct.of (by decide +kernel) (Nat.le_of_ble_eq_true rfl) ?_
  intro p e s m below meth c A ls C hW hRo hl
  have hl : lv_has ls 4 [(0, .ref q)] := hl
  have h0 : dq cp h (x :: ds) h = some x := by
    have h9 := dq_at (C := cp) (h := h) (k := 0) (ds := x :: ds) hh (by omega)
    rw [Nat.add_zero, Nat.mod_eq_of_lt hh] at h9
    exact h9
  refine lv_aload_n C.hx C.hb dJ4_pollFirst_0 rfl (lv_at hl 0 rfl) ?_
  refine k_get (v := .ref es) C clJ4 (hW.get 0 0 rfl rfl) 0 (Nat.le_of_ble_eq_true rfl) rfl q202 rfl rfl dJ4_pollFirst_1 ?_
  refine lv_dup C.hx C.hb dJ4_pollFirst_4 rfl ?_
  refine lv_astore_n (lv' := [(1, .ref es), (0, .ref q)]) C.hx C.hb dJ4_pollFirst_5 rfl hl (Nat.le_of_ble_eq_true rfl) rfl (fun ls1 hl1 => ?_)
  clear hl
  refine lv_aload_n C.hx C.hb dJ4_pollFirst_6 rfl (lv_at hl1 1 rfl) ?_
  refine k_get (v := .int (nI h)) C clJ4 (hW.get 0 0 rfl rfl) 1 (Nat.le_of_ble_eq_true rfl) rfl q205 rfl rfl dJ4_pollFirst_7 ?_
  refine lv_dup C.hx C.hb dJ4_pollFirst_10 rfl ?_
  refine lv_istore_n (lv' := [(2, .int (nI h)), (1, .ref es), (0, .ref q)]) C.hx C.hb dJ4_pollFirst_11 rfl hl1 (Nat.le_of_ble_eq_true rfl) rfl (fun ls2 hl2 => ?_)
  clear hl1
  refine k_callS (Sc := []) (Sr := [[(q, .inr (12, [.ref es, .int (nI h), .int (nI t)]))], [(es, .inl (G.2.2.1 4, cp, .inr (.inr (.inr (.inr (dq cp h (x :: ds)))))))]]) (As := [.ref es, .int (nI h)]) (rest := []) C (ctJ4_elementAt l G es cp h x (dq cp h (x :: ds)) hh hC h0) hW q1742 q1743 q77 q1744 rfl ⟨by decide, by decide, Eq.trans (b := some 2) (by decide +kernel) rfl⟩ (Nat.le_of_ble_eq_true rfl) (Nat.le_of_ble_eq_true rfl) (Nat.le_refl _) (Nat.le_refl _) hl2.1 rfl (Nat.le_of_ble_eq_true rfl) dJ4_pollFirst_12 (k_permR _) (fun z hz => by cases hz; exact Or.inl ⟨_, rfl, seg_mem (i := 1) (j := 0) rfl rfl⟩) (fun v H3 locs3 S1 hQ hz3 hW3 => ?_)
  obtain ⟨rfl, rfl⟩ := hQ
  have hW3 : Ws G A s ([[(q, .inr (12, [.ref es, .int (nI h), .int (nI t)]))], [(es, .inl (G.2.2.1 4, cp, .inr (.inr (.inr (.inr (dq cp h (x :: ds)))))))]]) H3 locs3 := hW3
  clear hW
  refine W.eq (g2 := F0 m 15 ls2 [.ref x]) rfl ?_
  refine lv_astore_n (lv' := [(3, .ref x), (2, .int (nI h)), (1, .ref es), (0, .ref q)]) C.hx C.hb dJ4_pollFirst_15 rfl hl2 (Nat.le_of_ble_eq_true rfl) rfl (fun ls4 hl4 => ?_)
  clear hl2
  refine lv_aload_n C.hx C.hb dJ4_pollFirst_16 rfl (lv_at hl4 0 rfl) ?_
  refine lv_ifnull C.hx C.hb dJ4_pollFirst_17 ?_
  refine lv_aload_n C.hx C.hb dJ4_pollFirst_20 rfl (lv_at hl4 2 rfl) ?_
  refine lv_iload_n C.hx C.hb dJ4_pollFirst_21 rfl (lv_at hl4 1 rfl) ?_
  refine lv_null C.hx C.hb dJ4_pollFirst_22 ?_
  refine k_aastN (S' := [[(q, .inr (12, [.ref es, .int (nI h), .int (nI t)]))], [(es, .inl (G.2.2.1 4, cp, .inr (.inr (.inr (.inr (va_up (dq cp h (x :: ds)) h none))))))]]) C hW3 4 1 0 rfl rfl rfl (by omega) (by omega) dJ4_pollFirst_23 rfl (fun H5 locs5 hW5 => ?_)
  clear hW3
  have hW6 : Ws G A s [[(q, .inr (12, [.ref es, .int (nI h), .int (nI t)]))], [(es, .inl (G.2.2.1 4, cp, .inr (.inr (.inr (.inr (dq cp ((h + 1) % cp) ds))))))]] H5 locs5 := hW5.extq (S' := [[(q, .inr (12, [.ref es, .int (nI h), .int (nI t)]))], [(es, .inl (G.2.2.1 4, cp, .inr (.inr (.inr (.inr (dq cp ((h + 1) % cp) ds))))))]]) 1 0 rfl rfl (dq_pop hh (by omega)) rfl
  clear hW5
  refine lv_aload_n C.hx C.hb dJ4_pollFirst_24 rfl (lv_at hl4 3 rfl) ?_
  refine lv_iload_n C.hx C.hb dJ4_pollFirst_25 rfl (lv_at hl4 1 rfl) ?_
  refine lv_aload_n C.hx C.hb dJ4_pollFirst_26 rfl (lv_at hl4 2 rfl) ?_
  refine k_alen C 4 rfl (hW6.get 1 0 rfl rfl) dJ4_pollFirst_27 ?_
  refine k_callS (Sc := []) (Sr := [[(q, .inr (12, [.ref es, .int (nI h), .int (nI t)]))], [(es, .inl (G.2.2.1 4, cp, .inr (.inr (.inr (.inr (dq cp ((h + 1) % cp) ds))))))]]) (As := [.int (nI h), .int (nI cp)]) (rest := [.ref q]) C (ctJ4_inc l G h cp hh hC) hW6 q1859 q1015 q77 q1016 rfl ⟨by decide, by decide, Eq.trans (b := some 2) (by decide +kernel) rfl⟩ (Nat.le_of_ble_eq_true rfl) (Nat.le_of_ble_eq_true rfl) (Nat.le_refl _) (Nat.le_refl _) hl4.1 rfl (Nat.le_of_ble_eq_true rfl) dJ4_pollFirst_28 (k_permR _) (fun _ h => h.elim) (fun v H7 locs7 S1 hQ hz7 hW7 => ?_)
  obtain ⟨rfl, rfl⟩ := hQ
  have hW7 : Ws G A s ([[(q, .inr (12, [.ref es, .int (nI h), .int (nI t)]))], [(es, .inl (G.2.2.1 4, cp, .inr (.inr (.inr (.inr (dq cp ((h + 1) % cp) ds))))))]]) H7 locs7 := hW7
  clear hW6
  refine W.eq (g2 := F0 m 31 ls4 [.int (nI ((h + 1) % cp)), .ref q]) rfl ?_
  refine k_put (S' := [[(q, .inr (12, [.ref es, .int (nI ((h + 1) % cp)), .int (nI t)]))], [(es, .inl (G.2.2.1 4, cp, .inr (.inr (.inr (.inr (dq cp ((h + 1) % cp) ds))))))]]) C clJ4 hW7 0 0 rfl rfl 1 (Nat.le_of_ble_eq_true rfl) rfl q205 rfl (fun _ h => h) (Or.inl rfl) (fty := .int) (v := .int (nI ((h + 1) % cp))) (by decide +kernel) rfl rfl (Nat.le_of_ble_eq_true rfl) dJ4_pollFirst_31 rfl (fun H8 locs8 hW8 => ?_)
  clear hW7
  refine lv_aload_n C.hx C.hb dJ4_pollFirst_34 rfl (lv_at hl4 0 rfl) ?_
  exact k_aret C hW8 rfl (Or.inl ⟨_, rfl⟩) (Or.inr ⟨_, rfl⟩) ⟨rfl, rfl⟩ (Nat.le_refl _) (Nat.le_refl _) dJ4_pollFirst_35

def Q_ctJ4_addLast_r (G : GT) (q es cp h n e0 : Nat) (ds : List Nat) : Option Value → List va_W → Prop := fun v S1 => v = none ∧ S1 = [[(q, .inr (12, [.ref es, .int (nI h), .int (nI (((h + n) % cp + 1) % cp))]))], [(es, .inl (G.2.2.1 4, cp, .inr (.inr (.inr (.inr (dq cp h (ds ++ [e0])))))))]]
set_option maxHeartbeats 4000000 in
set_option maxRecDepth 100000 in
theorem ctJ4_addLast_r (l : Launch) (G : GT) (q es cp h n e0 : Nat) (ds : List Nat) (hh : h < cp) (hC : cp < 2 ^ 26) (hn : ds.length = n) (hr : n + 1 < cp) : Ct l G yJ4_addLast cJ4_addLast 3 none 1 21 0 0 [.ref q, .ref e0] ([[(q, .inr (12, [.ref es, .int (nI h), .int (nI ((h + n) % cp))]))], [(es, .inl (G.2.2.1 4, cp, .inr (.inr (.inr (.inr (dq cp h ds))))))]]) ((fun z => z = .inr e0)) (Q_ctJ4_addLast_r G q es cp h n e0 ds) := by
  refine Ct.of (by decide +kernel) (Nat.le_of_ble_eq_true rfl) ?_
  intro p e s m below meth c A ls C hW hRo hl
  have hl : lv_has ls 3 [(0, .ref q), (1, .ref e0)] := hl
  have hT : (h + n) % cp < cp := Nat.mod_lt _ (by omega)
  have hT2 : ((h + n) % cp + 1) % cp < cp := Nat.mod_lt _ (by omega)
  refine lv_aload_n C.hx C.hb dJ4_addLast_0 rfl (lv_at hl 1 rfl) ?_
  refine lv_ifnonnull (tgt := 12) C.hx C.hb dJ4_addLast_1 (by decide) ?_
  refine lv_aload_n C.hx C.hb dJ4_addLast_12 rfl (lv_at hl 0 rfl) ?_
  refine k_get (v := .ref es) C clJ4 (hW.get 0 0 rfl rfl) 0 (Nat.le_of_ble_eq_true rfl) rfl q202 rfl rfl dJ4_addLast_13 ?_
  refine lv_astore_n (lv' := [(2, .ref es), (0, .ref q), (1, .ref e0)]) C.hx C.hb dJ4_addLast_16 rfl hl (Nat.le_of_ble_eq_true rfl) rfl (fun ls1 hl1 => ?_)
  clear hl
  refine lv_aload_n C.hx C.hb dJ4_addLast_17 rfl (lv_at hl1 0 rfl) ?_
  refine lv_aload_n C.hx C.hb dJ4_addLast_18 rfl (lv_at hl1 1 rfl) ?_
  refine k_get (v := .int (nI ((h + n) % cp))) C clJ4 (hW.get 0 0 rfl rfl) 2 (Nat.le_of_ble_eq_true rfl) rfl q206 rfl rfl dJ4_addLast_19 ?_
  refine lv_aload_n C.hx C.hb dJ4_addLast_22 rfl (lv_at hl1 2 rfl) ?_
  refine k_aast (S' := [[(q, .inr (12, [.ref es, .int (nI h), .int (nI ((h + n) % cp))]))], [(es, .inl (G.2.2.1 4, cp, .inr (.inr (.inr (.inr (va_up (dq cp h ds) ((h + n) % cp) (some e0)))))))]]) C hW 1 0 rfl rfl rfl ((hRo (.inr e0) rfl).atI hW) (by omega) (by omega) dJ4_addLast_23 rfl (fun H2 locs2 hW2 => ?_)
  clear hW
  have hW3 : Ws G A s [[(q, .inr (12, [.ref es, .int (nI h), .int (nI ((h + n) % cp))]))], [(es, .inl (G.2.2.1 4, cp, .inr (.inr (.inr (.inr (dq cp h (ds ++ [e0])))))))]] H2 locs2 := hW2.extq (S' := [[(q, .inr (12, [.ref es, .int (nI h), .int (nI ((h + n) % cp))]))], [(es, .inl (G.2.2.1 4, cp, .inr (.inr (.inr (.inr (dq cp h (ds ++ [e0])))))))]]) 1 0 rfl rfl (dq_push hh hn (by omega)) rfl
  clear hW2
  refine lv_aload_n C.hx C.hb dJ4_addLast_24 rfl (lv_at hl1 1 rfl) ?_
  refine k_get (v := .int (nI h)) C clJ4 (hW3.get 0 0 rfl rfl) 1 (Nat.le_of_ble_eq_true rfl) rfl q205 rfl rfl dJ4_addLast_25 ?_
  refine lv_aload_n C.hx C.hb dJ4_addLast_28 rfl (lv_at hl1 1 rfl) ?_
  refine lv_aload_n C.hx C.hb dJ4_addLast_29 rfl (lv_at hl1 1 rfl) ?_
  refine k_get (v := .int (nI ((h + n) % cp))) C clJ4 (hW3.get 0 0 rfl rfl) 2 (Nat.le_of_ble_eq_true rfl) rfl q206 rfl rfl dJ4_addLast_30 ?_
  refine lv_aload_n C.hx C.hb dJ4_addLast_33 rfl (lv_at hl1 0 rfl) ?_
  refine k_alen C 4 rfl (hW3.get 1 0 rfl rfl) dJ4_addLast_34 ?_
  refine k_callS (Sc := []) (Sr := [[(q, .inr (12, [.ref es, .int (nI h), .int (nI ((h + n) % cp))]))], [(es, .inl (G.2.2.1 4, cp, .inr (.inr (.inr (.inr (dq cp h (ds ++ [e0])))))))]]) (As := [.int (nI ((h + n) % cp)), .int (nI cp)]) (rest := [.ref q, .int (nI h)]) C (ctJ4_inc l G ((h + n) % cp) cp hT hC) hW3 q1859 q1015 q77 q1016 rfl ⟨by decide, by decide, Eq.trans (b := some 2) (by decide +kernel) rfl⟩ (Nat.le_of_ble_eq_true rfl) (Nat.le_of_ble_eq_true rfl) (Nat.le_refl _) (Nat.le_refl _) hl1.1 rfl (Nat.le_of_ble_eq_true rfl) dJ4_addLast_35 (k_permR _) (fun _ h => h.elim) (fun v H4 locs4 S1 hQ hz4 hW4 => ?_)
  obtain ⟨rfl, rfl⟩ := hQ
  have hW4 : Ws G A s ([[(q, .inr (12, [.ref es, .int (nI h), .int (nI ((h + n) % cp))]))], [(es, .inl (G.2.2.1 4, cp, .inr (.inr (.inr (.inr (dq cp h (ds ++ [e0])))))))]]) H4 locs4 := hW4
  clear hW3
  refine W.eq (g2 := F0 m 38 ls1 [.int (nI ((((h + n) % cp) + 1) % cp)), .ref q, .int (nI h)]) rfl ?_
  refine lv_dup_x1 C.hx C.hb dJ4_addLast_38 rfl rfl ?_
  refine k_put (S' := [[(q, .inr (12, [.ref es, .int (nI h), .int (nI ((((h + n) % cp) + 1) % cp))]))], [(es, .inl (G.2.2.1 4, cp, .inr (.inr (.inr (.inr (dq cp h (ds ++ [e0])))))))]]) C clJ4 hW4 0 0 rfl rfl 2 (Nat.le_of_ble_eq_true rfl) rfl q206 rfl (fun _ h => h) (Or.inl rfl) (fty := .int) (v := .int (nI ((((h + n) % cp) + 1) % cp))) (by decide +kernel) rfl rfl (Nat.le_of_ble_eq_true rfl) dJ4_addLast_39 rfl (fun H5 locs5 hW5 => ?_)
  clear hW4
  refine kn_icmp_ne (tgt := 50) C (by omega) (by omega) dJ4_addLast_42 (by decide) (fun c42 => ?_) (fun c42 => (absurd c42 (by rw [Nat.mod_add_mod]; intro q9; have h1 : h + n + 1 = h ∨ True := Or.inr trivial; have h2 := ring_ne hh (show n + 1 < cp by omega) (show 0 < n + 1 by omega); exact h2 (by rw [show h + (n + 1) = h + n + 1 by omega]; exact q9.symm))))
  exact k_vret C hW5 rfl ⟨rfl, rfl⟩ (Nat.le_refl _) (Nat.le_refl _) dJ4_addLast_50

def Q_ctJ4_grow_17 (G : GT) (q es h : Nat) (ds : List Nat) : Option Value → List va_W → Prop := fun v S1 => v = none ∧ ∃ e2, S1 = [[(q, .inr (12, [.ref e2, .int (nI (h + 19)), .int (nI h)]))], [(e2, .inl (G.2.2.1 4, 36, .inr (.inr (.inr (.inr (dq 36 (h + 19) ds))))))]]
set_option maxHeartbeats 4000000 in
set_option maxRecDepth 100000 in
theorem ctJ4_grow_17 (l : Launch) (G : GT) (q es h : Nat) (ds : List Nat) (hh : h < 17) (hn : ds.length = 17) : Ct l G yJ4_grow cJ4_grow 9 none 3 73 1 36 [.ref q, .int (nI 1)] ([[(q, .inr (12, [.ref es, .int (nI h), .int (nI h)]))], [(es, .inl (G.2.2.1 4, 17, .inr (.inr (.inr (.inr (dq 17 h ds))))))]]) ((fun z => ∃ x ∈ ds, z = .inr x)) (Q_ctJ4_grow_17 G q es h ds) := by
  refine Ct.of (by decide +kernel) (Nat.le_of_ble_eq_true rfl) ?_
  intro p e s m below meth c A ls C hW hRo hl
  have hl : lv_has ls 9 [(0, .ref q), (1, .int (nI 1))] := hl
  refine lv_aload_n C.hx C.hb dJ4_grow_0 rfl (lv_at hl 0 rfl) ?_
  refine k_get (v := .ref es) C clJ4 (hW.get 0 0 rfl rfl) 0 (Nat.le_of_ble_eq_true rfl) rfl q202 rfl rfl dJ4_grow_1 ?_
  refine k_alen C 4 rfl (hW.get 1 0 rfl rfl) dJ4_grow_4 ?_
  refine lv_istore_n (lv' := [(2, .int (nI 17)), (0, .ref q), (1, .int (nI 1))]) C.hx C.hb dJ4_grow_5 rfl hl (Nat.le_of_ble_eq_true rfl) rfl (fun ls1 hl1 => ?_)
  clear hl
  refine lv_iload_n C.hx C.hb dJ4_grow_6 rfl (lv_at hl1 0 rfl) ?_
  refine kn_bipush (a := 64) C (by decide) dJ4_grow_7 ?_
  refine kn_icmp_ge (tgt := 18) C (by decide) (by decide) dJ4_grow_9 (by decide) (fun cq => absurd cq (by decide)) (fun cq => ?_)
  refine lv_iload_n C.hx C.hb dJ4_grow_12 rfl (lv_at hl1 0 rfl) ?_
  refine kn_iconst (a := 2) C (by decide) dJ4_grow_13 ?_
  refine kn_iadd C  dJ4_grow_14 ?_
  refine lv_goto (tgt := 21) C.hx C.hb dJ4_grow_15 (by decide) ?_
  refine k_op (y := .int (nI 19)) rfl ?_
  refine lv_istore (lv' := [(4, .int (nI 19)), (2, .int (nI 17)), (0, .ref q), (1, .int (nI 1))]) C.hx C.hb dJ4_grow_21 hl1 (Nat.le_of_ble_eq_true rfl) rfl (fun ls2 hl2 => ?_)
  clear hl1
  refine lv_iload C.hx C.hb dJ4_grow_23 (lv_at hl2 0 rfl) ?_
  refine lv_iload_n C.hx C.hb dJ4_grow_25 rfl (lv_at hl2 3 rfl) ?_
  refine kn_icmp_lt (tgt := 41) C (by decide) (by decide) dJ4_grow_26 (by decide) (fun cq => absurd cq (by decide)) (fun cq => ?_)
  refine lv_iload_n C.hx C.hb dJ4_grow_29 rfl (lv_at hl2 1 rfl) ?_
  refine lv_iload C.hx C.hb dJ4_grow_30 (lv_at hl2 0 rfl) ?_
  refine kn_iadd C  dJ4_grow_32 ?_
  refine k_op (y := .int (nI 36)) rfl ?_
  refine lv_dup C.hx C.hb dJ4_grow_33 rfl ?_
  refine lv_istore_n (lv' := [(3, .int (nI 36)), (4, .int (nI 19)), (2, .int (nI 17)), (0, .ref q), (1, .int (nI 1))]) C.hx C.hb dJ4_grow_34 rfl hl2 (Nat.le_of_ble_eq_true rfl) rfl (fun ls3 hl3 => ?_)
  clear hl2
  refine lv_ldc (own := "java/util/ArrayDeque") (v := (nI 2147483639)) C.hx C.hb C.hown (C.hts _ q1948) dJ4_grow_35 ?_
  refine lv_isub C.hx C.hb dJ4_grow_37 ?_
  refine lv_if_le (tgt := 49) C.hx C.hb dJ4_grow_38 (by decide) (fun c38 => ?_) (fun c38 => (absurd (by decide) c38))
  have hW4 : Ws G A s [[(q, .inr (12, [.ref es, .int (nI h), .int (nI h)]))], [(es, .inl (G.2.2.1 4, 17, .inr (.inr (.inr (.inr (fun i => (rot h ds)[i]?))))))]] s.heap [] := hW.extq (S' := [[(q, .inr (12, [.ref es, .int (nI h), .int (nI h)]))], [(es, .inl (G.2.2.1 4, 17, .inr (.inr (.inr (.inr (fun i => (rot h ds)[i]?))))))]]) 1 0 rfl rfl (rot_dq hh hn) rfl
  clear hW
  refine lv_aload_n C.hx C.hb dJ4_grow_49 rfl (lv_at hl3 3 rfl) ?_
  refine lv_aload_n C.hx C.hb dJ4_grow_50 rfl (lv_at hl3 3 rfl) ?_
  refine k_get (v := .ref es) C clJ4 (hW4.get 0 0 rfl rfl) 0 (Nat.le_of_ble_eq_true rfl) rfl q202 rfl rfl dJ4_grow_51 ?_
  refine lv_iload_n C.hx C.hb dJ4_grow_54 rfl (lv_at hl3 0 rfl) ?_
  refine k_callS (Sc := [[(es, .inl (G.2.2.1 4, 17, .inr (.inr (.inr (.inr (fun i => (rot h ds)[i]?))))))]]) (Sr := [[(q, .inr (12, [.ref es, .int (nI h), .int (nI h)]))]]) (As := [.ref es, .int (nI 36)]) (rest := [.ref q]) C (ctJ29_copyOf_3 l G es 17 36 (rot h ds) (rot_len.trans hn) (by decide) (by decide)) hW4 q1960 q1686 q107 q1687 rfl ⟨by decide, by decide, Eq.trans (b := some 2) (by decide +kernel) rfl⟩ (Nat.le_of_ble_eq_true rfl) (Nat.le_of_ble_eq_true rfl) (show 0 + 1 ≤ 1 by omega) (show 0 + 36 ≤ 36 by omega) hl3.1 rfl (Nat.le_of_ble_eq_true rfl) dJ4_grow_55 ((pick_perm [[(q, .inr (12, [.ref es, .int (nI h), .int (nI h)]))], [(es, .inl (G.2.2.1 4, 17, .inr (.inr (.inr (.inr (fun i => (rot h ds)[i]?))))))]] 2 rfl (is := [0, 1]) (by decide)).flatten.symm) (fun z hz => Or.inr (Or.inr (hRo z (by obtain ⟨x, hx, rfl⟩ := hz; exact ⟨x, rot_mem hx, rfl⟩)))) (fun v H5 locs5 S1 hQ hz5 hW5 => ?_)
  obtain ⟨e2, rfl, rfl⟩ := hQ
  have hW5 : Ws G A s ([[(q, .inr (12, [.ref es, .int (nI h), .int (nI h)]))], [(es, .inl (G.2.2.1 4, 17, .inr (.inr (.inr (.inr (fun i => (rot h ds)[i]?))))))], [(e2, .inl (G.2.2.1 4, 36, .inr (.inr (.inr (.inr (fun i => (rot h ds)[i]?))))))]]) H5 locs5 := hW5
  clear hW4
  refine W.eq (g2 := F0 m 58 ls3 [.ref e2, .ref q]) rfl ?_
  refine lv_dup_x1 C.hx C.hb dJ4_grow_58 rfl rfl ?_
  refine k_put (S' := [[(q, .inr (12, [.ref e2, .int (nI h), .int (nI h)]))], [(es, .inl (G.2.2.1 4, 17, .inr (.inr (.inr (.inr (fun i => (rot h ds)[i]?))))))], [(e2, .inl (G.2.2.1 4, 36, .inr (.inr (.inr (.inr (fun i => (rot h ds)[i]?))))))]]) C clJ4 hW5 0 0 rfl rfl 0 (Nat.le_of_ble_eq_true rfl) rfl q202 rfl (fun _ h => h) (Or.inl rfl) (fty := (.array (.object "java/lang/Object"))) (v := .ref e2) (by decide +kernel) rfl rfl (Nat.le_of_ble_eq_true rfl) dJ4_grow_59 rfl (fun H6 locs6 hW6 => ?_)
  clear hW5
  refine lv_astore (lv' := [(5, .ref e2), (3, .int (nI 36)), (4, .int (nI 19)), (2, .int (nI 17)), (0, .ref q), (1, .int (nI 1))]) C.hx C.hb dJ4_grow_62 hl3 (Nat.le_of_ble_eq_true rfl) rfl (fun ls7 hl7 => ?_)
  clear hl3
  refine lv_aload_n C.hx C.hb dJ4_grow_64 rfl (lv_at hl7 4 rfl) ?_
  refine k_get (v := .int (nI h)) C clJ4 (hW6.get 0 0 rfl rfl) 2 (Nat.le_of_ble_eq_true rfl) rfl q206 rfl rfl dJ4_grow_65 ?_
  refine lv_aload_n C.hx C.hb dJ4_grow_68 rfl (lv_at hl7 4 rfl) ?_
  refine k_get (v := .int (nI h)) C clJ4 (hW6.get 0 0 rfl rfl) 1 (Nat.le_of_ble_eq_true rfl) rfl q205 rfl rfl dJ4_grow_69 ?_
  refine kn_icmp_lt (tgt := 96) C (by omega) (by omega) dJ4_grow_72 (by decide) (fun c72 => (absurd c72 (Nat.lt_irrefl _))) (fun c72 => ?_)
  refine lv_aload_n C.hx C.hb dJ4_grow_75 rfl (lv_at hl7 4 rfl) ?_
  refine k_get (v := .int (nI h)) C clJ4 (hW6.get 0 0 rfl rfl) 2 (Nat.le_of_ble_eq_true rfl) rfl q206 rfl rfl dJ4_grow_76 ?_
  refine lv_aload_n C.hx C.hb dJ4_grow_79 rfl (lv_at hl7 4 rfl) ?_
  refine k_get (v := .int (nI h)) C clJ4 (hW6.get 0 0 rfl rfl) 1 (Nat.le_of_ble_eq_true rfl) rfl q205 rfl rfl dJ4_grow_80 ?_
  refine kn_icmp_ne (tgt := 164) C (by omega) (by omega) dJ4_grow_83 (by decide) (fun c83 => (absurd rfl c83)) (fun c83 => ?_)
  refine lv_aload C.hx C.hb dJ4_grow_86 (lv_at hl7 0 rfl) ?_
  refine lv_aload_n C.hx C.hb dJ4_grow_88 rfl (lv_at hl7 4 rfl) ?_
  refine k_get (v := .int (nI h)) C clJ4 (hW6.get 0 0 rfl rfl) 1 (Nat.le_of_ble_eq_true rfl) rfl q205 rfl rfl dJ4_grow_89 ?_
  obtain ⟨x0, hx0⟩ : ∃ x0, (rot h ds)[h]? = some x0 := ⟨_, List.getElem?_eq_getElem (by rw [rot_len, hn]; exact hh)⟩
  refine k_aaldS C (f := (fun i => (rot h ds)[i]?)) 4 rfl (hW6.get 2 0 rfl rfl) (by omega) (by decide) hx0 dJ4_grow_92 ?_
  refine lv_ifnull C.hx C.hb dJ4_grow_93 ?_
  refine lv_iload_n C.hx C.hb dJ4_grow_96 rfl (lv_at hl7 1 rfl) ?_
  refine lv_iload_n C.hx C.hb dJ4_grow_97 rfl (lv_at hl7 3 rfl) ?_
  refine kn_isub C (by omega) dJ4_grow_98 ?_
  refine k_op (y := .int (nI 19)) rfl ?_
  refine lv_istore (lv' := [(6, .int (nI 19)), (5, .ref e2), (3, .int (nI 36)), (4, .int (nI 19)), (2, .int (nI 17)), (0, .ref q), (1, .int (nI 1))]) C.hx C.hb dJ4_grow_99 hl7 (Nat.le_of_ble_eq_true rfl) rfl (fun ls8 hl8 => ?_)
  clear hl7
  refine lv_aload C.hx C.hb dJ4_grow_101 (lv_at hl8 1 rfl) ?_
  refine lv_aload_n C.hx C.hb dJ4_grow_103 rfl (lv_at hl8 5 rfl) ?_
  refine k_get (v := .int (nI h)) C clJ4 (hW6.get 0 0 rfl rfl) 1 (Nat.le_of_ble_eq_true rfl) rfl q205 rfl rfl dJ4_grow_104 ?_
  refine lv_aload C.hx C.hb dJ4_grow_107 (lv_at hl8 1 rfl) ?_
  refine lv_aload_n C.hx C.hb dJ4_grow_109 rfl (lv_at hl8 5 rfl) ?_
  refine k_get (v := .int (nI h)) C clJ4 (hW6.get 0 0 rfl rfl) 1 (Nat.le_of_ble_eq_true rfl) rfl q205 rfl rfl dJ4_grow_110 ?_
  refine lv_iload C.hx C.hb dJ4_grow_113 (lv_at hl8 0 rfl) ?_
  refine kn_iadd C  dJ4_grow_115 ?_
  refine lv_iload_n C.hx C.hb dJ4_grow_116 rfl (lv_at hl8 4 rfl) ?_
  refine lv_aload_n C.hx C.hb dJ4_grow_117 rfl (lv_at hl8 5 rfl) ?_
  refine k_get (v := .int (nI h)) C clJ4 (hW6.get 0 0 rfl rfl) 1 (Nat.le_of_ble_eq_true rfl) rfl q205 rfl rfl dJ4_grow_118 ?_
  refine kn_isub C (by omega) dJ4_grow_121 ?_
  refine k_copyG (S' := [[(q, .inr (12, [.ref e2, .int (nI h), .int (nI h)]))], [(es, .inl (G.2.2.1 4, 17, .inr (.inr (.inr (.inr (fun i => (rot h ds)[i]?))))))], [(e2, .inl (G.2.2.1 4, 36, .inr (.inr (.inr (.inr (va_cpy (fun i => (rot h ds)[i]?) (fun i => (rot h ds)[i]?) h (h + 19) (17 - h)))))))]]) (k := 17 - h) (sp := h) (dp := h + 19) C hW6 2 0 rfl rfl q1961 rfl (by omega) (by omega) (by decide) (fun i hi z hz => (hRo (.inr z) ⟨z, rot_mem (List.mem_of_getElem? hz), rfl⟩).atI hW6) (Nat.le_of_ble_eq_true rfl) (Nat.le_of_ble_eq_true rfl) hl8.1 (Nat.le_of_ble_eq_true rfl) dJ4_grow_122 rfl (fun H9 locs9 hW9 => ?_)
  clear hW6
  refine W.eq (g2 := F0 m 125 ls8 []) rfl ?_
  have hW10 : Ws G A s [[(q, .inr (12, [.ref e2, .int (nI h), .int (nI h)]))], [(es, .inl (G.2.2.1 4, 17, .inr (.inr (.inr (.inr (fun i => (rot h ds)[i]?))))))], [(e2, .inl (G.2.2.1 4, 36, .inr (.inr (.inr (.inr (nul h h (va_cpy (fun i => (rot h ds)[i]?) (fun i => (rot h ds)[i]?) h (h + 19) (17 - h))))))))]] H9 locs9 := by rw [nul_0]; exact hW9
  clear hW9
  refine lv_aload_n C.hx C.hb dJ4_grow_125 rfl (lv_at hl8 5 rfl) ?_
  refine k_get (v := .int (nI h)) C clJ4 (hW10.get 0 0 rfl rfl) 1 (Nat.le_of_ble_eq_true rfl) rfl q205 rfl rfl dJ4_grow_126 ?_
  refine lv_istore (lv' := [(7, .int (nI h)), (6, .int (nI 19)), (5, .ref e2), (3, .int (nI 36)), (4, .int (nI 19)), (2, .int (nI 17)), (0, .ref q), (1, .int (nI 1))]) C.hx C.hb dJ4_grow_129 hl8 (Nat.le_of_ble_eq_true rfl) rfl (fun ls11 hl11 => ?_)
  clear hl8
  refine lv_aload_n C.hx C.hb dJ4_grow_131 rfl (lv_at hl11 6 rfl) ?_
  refine lv_dup C.hx C.hb dJ4_grow_132 rfl ?_
  refine k_get (v := .int (nI h)) C clJ4 (hW10.get 0 0 rfl rfl) 1 (Nat.le_of_ble_eq_true rfl) rfl q205 rfl rfl dJ4_grow_133 ?_
  refine lv_iload C.hx C.hb dJ4_grow_136 (lv_at hl11 1 rfl) ?_
  refine kn_iadd C  dJ4_grow_138 ?_
  refine lv_dup_x1 C.hx C.hb dJ4_grow_139 rfl rfl ?_
  refine k_put (S' := [[(q, .inr (12, [.ref e2, .int (nI (h + 19)), .int (nI h)]))], [(es, .inl (G.2.2.1 4, 17, .inr (.inr (.inr (.inr (fun i => (rot h ds)[i]?))))))], [(e2, .inl (G.2.2.1 4, 36, .inr (.inr (.inr (.inr (nul h h (va_cpy (fun i => (rot h ds)[i]?) (fun i => (rot h ds)[i]?) h (h + 19) (17 - h))))))))]]) C clJ4 hW10 0 0 rfl rfl 1 (Nat.le_of_ble_eq_true rfl) rfl q205 rfl (fun _ h => h) (Or.inl rfl) (fty := .int) (v := .int (nI (h + 19))) (by decide +kernel) rfl rfl (Nat.le_of_ble_eq_true rfl) dJ4_grow_140 rfl (fun H12 locs12 hW12 => ?_)
  clear hW10
  have hW13 : Ws G A s [[(q, .inr (12, [.ref e2, .int (nI (h + 19)), .int (nI h)]))], [(es, .inl (G.2.2.1 4, 17, .inr (.inr (.inr (.inr (fun i => (rot h ds)[i]?))))))], [(e2, .inl (G.2.2.1 4, 36, .inr (.inr (.inr (.inr (nul h h (va_cpy (fun i => (rot h ds)[i]?) (fun i => (rot h ds)[i]?) h (h + 19) (17 - h))))))))]] H12 locs12 := hW12.pick 3 rfl [0, 1, 2] (by decide) rfl
  clear hW12
  refine lv_istore (lv' := [(8, .int (nI (h + 19))), (7, .int (nI h)), (6, .int (nI 19)), (5, .ref e2), (3, .int (nI 36)), (4, .int (nI 19)), (2, .int (nI 17)), (0, .ref q), (1, .int (nI 1))]) C.hx C.hb dJ4_grow_143 hl11 (Nat.le_of_ble_eq_true rfl) rfl (fun ls14 hl14 => ?_)
  clear hl11
  have La : ∀ (k15 : Nat) (i7 : Nat), (h ≤ i7) → (i7 ≤ h + 19) → h + 19 - i7 < k15 → ∀ (H15 : Heap) (locs15 : List Loc) (ls15 : Array Slot), Ws G A s ([[(q, .inr (12, [.ref e2, .int (nI (h + 19)), .int (nI h)]))], [(es, .inl (G.2.2.1 4, 17, .inr (.inr (.inr (.inr (fun i => (rot h ds)[i]?))))))], [(e2, .inl (G.2.2.1 4, 36, .inr (.inr (.inr (.inr (nul h i7 (va_cpy (fun i => (rot h ds)[i]?) (fun i => (rot h ds)[i]?) h (h + 19) (17 - h))))))))]]) H15 locs15 → lv_has ls15 9 [(7, .int (nI i7)), (8, .int (nI (h + 19))), (5, .ref e2), (0, .ref q)] → W p l e ({ frames := 3, cells := 1, slots := 36, locals := 73 } : Room) s m ([.ref q, .int (nI 1)] : List Value).toArray below meth c H15 locs15 1 36 (MQ below (cQ G A (Q_ctJ4_grow_17 G q es h ds)) ([.ref q, .int (nI 1)] : List Value).toArray s 1 36 A) (F0 m 145 ls15 []) := by
    intro k15
    induction k15 with
    | zero => intro i7 hLa_0 hLa_1 hm15; exact absurd hm15 (Nat.not_lt_zero _)
    | succ k15 ih15 =>
      intro i7 hLa_0 hLa_1 hm15 H15 locs15 ls15 hW15 hl15
      refine lv_iload C.hx C.hb dJ4_grow_145 (lv_at hl15 0 rfl) ?_
      refine lv_iload C.hx C.hb dJ4_grow_147 (lv_at hl15 1 rfl) ?_
      refine kn_icmp_ge (tgt := 164) C (by omega) (by omega) dJ4_grow_149 (by decide) (fun c149 => ?_) (fun c149 => ?_)
      · obtain rfl : i7 = h + 19 := by omega
        have hW16 : Ws G A s [[(q, .inr (12, [.ref e2, .int (nI (h + 19)), .int (nI h)]))], [(es, .inl (G.2.2.1 4, 17, .inr (.inr (.inr (.inr (fun i => (rot h ds)[i]?))))))], [(e2, .inl (G.2.2.1 4, 36, .inr (.inr (.inr (.inr (dq 36 (h + 19) ds))))))]] H15 locs15 := hW15.extq (S' := [[(q, .inr (12, [.ref e2, .int (nI (h + 19)), .int (nI h)]))], [(es, .inl (G.2.2.1 4, 17, .inr (.inr (.inr (.inr (fun i => (rot h ds)[i]?))))))], [(e2, .inl (G.2.2.1 4, 36, .inr (.inr (.inr (.inr (dq 36 (h + 19) ds))))))]]) 2 0 rfl rfl (dq_grow (J := 19) hh hn) rfl
        have hW17 : Ws G A s [[(q, .inr (12, [.ref e2, .int (nI (h + 19)), .int (nI h)]))], [(e2, .inl (G.2.2.1 4, 36, .inr (.inr (.inr (.inr (dq 36 (h + 19) ds))))))], [(es, .inl (G.2.2.1 4, 17, .inr (.inr (.inr (.inr (fun i => (rot h ds)[i]?))))))]] H15 locs15 := hW16.pick 3 rfl [0, 2, 1] (by decide) rfl
        clear hW16
        have hW18 : Ws G A s [[(q, .inr (12, [.ref e2, .int (nI (h + 19)), .int (nI h)]))], [(e2, .inl (G.2.2.1 4, 36, .inr (.inr (.inr (.inr (dq 36 (h + 19) ds))))))]] H15 locs15 := hW17.drop (S2 := [[(es, .inl (G.2.2.1 4, 17, .inr (.inr (.inr (.inr (fun i => (rot h ds)[i]?))))))]]) rfl
        clear hW17
        exact k_vret C hW18 rfl ⟨rfl, _, rfl⟩ (by omega) (by omega) dJ4_grow_164
      · refine lv_aload C.hx C.hb dJ4_grow_152 (lv_at hl15 2 rfl) ?_
        refine lv_iload C.hx C.hb dJ4_grow_154 (lv_at hl15 0 rfl) ?_
        refine lv_null C.hx C.hb dJ4_grow_156 ?_
        refine k_aastN (S' := [[(q, .inr (12, [.ref e2, .int (nI (h + 19)), .int (nI h)]))], [(es, .inl (G.2.2.1 4, 17, .inr (.inr (.inr (.inr (fun i => (rot h ds)[i]?))))))], [(e2, .inl (G.2.2.1 4, 36, .inr (.inr (.inr (.inr (va_up (nul h i7 (va_cpy (fun i => (rot h ds)[i]?) (fun i => (rot h ds)[i]?) h (h + 19) (17 - h))) i7 none))))))]]) C hW15 4 2 0 rfl rfl rfl (by omega) (by decide) dJ4_grow_157 rfl (fun H19 locs19 hW19 => ?_)
        clear hW15
        refine kn_iinc (lv' := [(7, .int (nI (i7 + 1))), (8, .int (nI (h + 19))), (5, .ref e2), (0, .ref q)]) (k := 0) C dJ4_grow_158 hl15 rfl (Nat.le_of_ble_eq_true rfl) rfl (fun ls20 hl20 => ?_)
        clear hl15
        refine lv_goto (tgt := 145) C.hx C.hb dJ4_grow_161 (by decide) ?_
        have e21 : ([[(q, .inr (12, [.ref e2, .int (nI (h + 19)), .int (nI h)]))], [(es, .inl (G.2.2.1 4, 17, .inr (.inr (.inr (.inr (fun i => (rot h ds)[i]?))))))], [(e2, .inl (G.2.2.1 4, 36, .inr (.inr (.inr (.inr (nul h (i7 + 1) (va_cpy (fun i => (rot h ds)[i]?) (fun i => (rot h ds)[i]?) h (h + 19) (17 - h))))))))]] : List va_W) = [[(q, .inr (12, [.ref e2, .int (nI (h + 19)), .int (nI h)]))], [(es, .inl (G.2.2.1 4, 17, .inr (.inr (.inr (.inr (fun i => (rot h ds)[i]?))))))], [(e2, .inl (G.2.2.1 4, 36, .inr (.inr (.inr (.inr (va_up (nul h i7 (va_cpy (fun i => (rot h ds)[i]?) (fun i => (rot h ds)[i]?) h (h + 19) (17 - h))) i7 none))))))]] := by first | rfl | rw [nul_up (by assumption)]
        exact ih15 (i7 + 1) (by omega) (by omega) (by omega) _ _ _ (by rw [e21]; exact hW19) (lv_sub hl20 [0, 1, 2, 3] rfl)
  exact La (h + 19 - h + 1) h (Nat.le_refl _) (by omega) (Nat.lt_succ_self _) _ _ _ hW13 (lv_sub hl14 [1, 0, 3, 7] rfl)

def Q_ctJ4_grow_36 (G : GT) (q es h : Nat) (ds : List Nat) : Option Value → List va_W → Prop := fun v S1 => v = none ∧ ∃ e2, S1 = [[(q, .inr (12, [.ref e2, .int (nI (h + 38)), .int (nI h)]))], [(e2, .inl (G.2.2.1 4, 74, .inr (.inr (.inr (.inr (dq 74 (h + 38) ds))))))]]
set_option maxHeartbeats 4000000 in
set_option maxRecDepth 100000 in
theorem ctJ4_grow_36 (l : Launch) (G : GT) (q es h : Nat) (ds : List Nat) (hh : h < 36) (hn : ds.length = 36) : Ct l G yJ4_grow cJ4_grow 9 none 3 73 1 74 [.ref q, .int (nI 1)] ([[(q, .inr (12, [.ref es, .int (nI h), .int (nI h)]))], [(es, .inl (G.2.2.1 4, 36, .inr (.inr (.inr (.inr (dq 36 h ds))))))]]) ((fun z => ∃ x ∈ ds, z = .inr x)) (Q_ctJ4_grow_36 G q es h ds) := by
  refine Ct.of (by decide +kernel) (Nat.le_of_ble_eq_true rfl) ?_
  intro p e s m below meth c A ls C hW hRo hl
  have hl : lv_has ls 9 [(0, .ref q), (1, .int (nI 1))] := hl
  refine lv_aload_n C.hx C.hb dJ4_grow_0 rfl (lv_at hl 0 rfl) ?_
  refine k_get (v := .ref es) C clJ4 (hW.get 0 0 rfl rfl) 0 (Nat.le_of_ble_eq_true rfl) rfl q202 rfl rfl dJ4_grow_1 ?_
  refine k_alen C 4 rfl (hW.get 1 0 rfl rfl) dJ4_grow_4 ?_
  refine lv_istore_n (lv' := [(2, .int (nI 36)), (0, .ref q), (1, .int (nI 1))]) C.hx C.hb dJ4_grow_5 rfl hl (Nat.le_of_ble_eq_true rfl) rfl (fun ls1 hl1 => ?_)
  clear hl
  refine lv_iload_n C.hx C.hb dJ4_grow_6 rfl (lv_at hl1 0 rfl) ?_
  refine kn_bipush (a := 64) C (by decide) dJ4_grow_7 ?_
  refine kn_icmp_ge (tgt := 18) C (by decide) (by decide) dJ4_grow_9 (by decide) (fun cq => absurd cq (by decide)) (fun cq => ?_)
  refine lv_iload_n C.hx C.hb dJ4_grow_12 rfl (lv_at hl1 0 rfl) ?_
  refine kn_iconst (a := 2) C (by decide) dJ4_grow_13 ?_
  refine kn_iadd C  dJ4_grow_14 ?_
  refine lv_goto (tgt := 21) C.hx C.hb dJ4_grow_15 (by decide) ?_
  refine k_op (y := .int (nI 38)) rfl ?_
  refine lv_istore (lv' := [(4, .int (nI 38)), (2, .int (nI 36)), (0, .ref q), (1, .int (nI 1))]) C.hx C.hb dJ4_grow_21 hl1 (Nat.le_of_ble_eq_true rfl) rfl (fun ls2 hl2 => ?_)
  clear hl1
  refine lv_iload C.hx C.hb dJ4_grow_23 (lv_at hl2 0 rfl) ?_
  refine lv_iload_n C.hx C.hb dJ4_grow_25 rfl (lv_at hl2 3 rfl) ?_
  refine kn_icmp_lt (tgt := 41) C (by decide) (by decide) dJ4_grow_26 (by decide) (fun cq => absurd cq (by decide)) (fun cq => ?_)
  refine lv_iload_n C.hx C.hb dJ4_grow_29 rfl (lv_at hl2 1 rfl) ?_
  refine lv_iload C.hx C.hb dJ4_grow_30 (lv_at hl2 0 rfl) ?_
  refine kn_iadd C  dJ4_grow_32 ?_
  refine k_op (y := .int (nI 74)) rfl ?_
  refine lv_dup C.hx C.hb dJ4_grow_33 rfl ?_
  refine lv_istore_n (lv' := [(3, .int (nI 74)), (4, .int (nI 38)), (2, .int (nI 36)), (0, .ref q), (1, .int (nI 1))]) C.hx C.hb dJ4_grow_34 rfl hl2 (Nat.le_of_ble_eq_true rfl) rfl (fun ls3 hl3 => ?_)
  clear hl2
  refine lv_ldc (own := "java/util/ArrayDeque") (v := (nI 2147483639)) C.hx C.hb C.hown (C.hts _ q1948) dJ4_grow_35 ?_
  refine lv_isub C.hx C.hb dJ4_grow_37 ?_
  refine lv_if_le (tgt := 49) C.hx C.hb dJ4_grow_38 (by decide) (fun c38 => ?_) (fun c38 => (absurd (by decide) c38))
  have hW4 : Ws G A s [[(q, .inr (12, [.ref es, .int (nI h), .int (nI h)]))], [(es, .inl (G.2.2.1 4, 36, .inr (.inr (.inr (.inr (fun i => (rot h ds)[i]?))))))]] s.heap [] := hW.extq (S' := [[(q, .inr (12, [.ref es, .int (nI h), .int (nI h)]))], [(es, .inl (G.2.2.1 4, 36, .inr (.inr (.inr (.inr (fun i => (rot h ds)[i]?))))))]]) 1 0 rfl rfl (rot_dq hh hn) rfl
  clear hW
  refine lv_aload_n C.hx C.hb dJ4_grow_49 rfl (lv_at hl3 3 rfl) ?_
  refine lv_aload_n C.hx C.hb dJ4_grow_50 rfl (lv_at hl3 3 rfl) ?_
  refine k_get (v := .ref es) C clJ4 (hW4.get 0 0 rfl rfl) 0 (Nat.le_of_ble_eq_true rfl) rfl q202 rfl rfl dJ4_grow_51 ?_
  refine lv_iload_n C.hx C.hb dJ4_grow_54 rfl (lv_at hl3 0 rfl) ?_
  refine k_callS (Sc := [[(es, .inl (G.2.2.1 4, 36, .inr (.inr (.inr (.inr (fun i => (rot h ds)[i]?))))))]]) (Sr := [[(q, .inr (12, [.ref es, .int (nI h), .int (nI h)]))]]) (As := [.ref es, .int (nI 74)]) (rest := [.ref q]) C (ctJ29_copyOf_3 l G es 36 74 (rot h ds) (rot_len.trans hn) (by decide) (by decide)) hW4 q1960 q1686 q107 q1687 rfl ⟨by decide, by decide, Eq.trans (b := some 2) (by decide +kernel) rfl⟩ (Nat.le_of_ble_eq_true rfl) (Nat.le_of_ble_eq_true rfl) (show 0 + 1 ≤ 1 by omega) (show 0 + 74 ≤ 74 by omega) hl3.1 rfl (Nat.le_of_ble_eq_true rfl) dJ4_grow_55 ((pick_perm [[(q, .inr (12, [.ref es, .int (nI h), .int (nI h)]))], [(es, .inl (G.2.2.1 4, 36, .inr (.inr (.inr (.inr (fun i => (rot h ds)[i]?))))))]] 2 rfl (is := [0, 1]) (by decide)).flatten.symm) (fun z hz => Or.inr (Or.inr (hRo z (by obtain ⟨x, hx, rfl⟩ := hz; exact ⟨x, rot_mem hx, rfl⟩)))) (fun v H5 locs5 S1 hQ hz5 hW5 => ?_)
  obtain ⟨e2, rfl, rfl⟩ := hQ
  have hW5 : Ws G A s ([[(q, .inr (12, [.ref es, .int (nI h), .int (nI h)]))], [(es, .inl (G.2.2.1 4, 36, .inr (.inr (.inr (.inr (fun i => (rot h ds)[i]?))))))], [(e2, .inl (G.2.2.1 4, 74, .inr (.inr (.inr (.inr (fun i => (rot h ds)[i]?))))))]]) H5 locs5 := hW5
  clear hW4
  refine W.eq (g2 := F0 m 58 ls3 [.ref e2, .ref q]) rfl ?_
  refine lv_dup_x1 C.hx C.hb dJ4_grow_58 rfl rfl ?_
  refine k_put (S' := [[(q, .inr (12, [.ref e2, .int (nI h), .int (nI h)]))], [(es, .inl (G.2.2.1 4, 36, .inr (.inr (.inr (.inr (fun i => (rot h ds)[i]?))))))], [(e2, .inl (G.2.2.1 4, 74, .inr (.inr (.inr (.inr (fun i => (rot h ds)[i]?))))))]]) C clJ4 hW5 0 0 rfl rfl 0 (Nat.le_of_ble_eq_true rfl) rfl q202 rfl (fun _ h => h) (Or.inl rfl) (fty := (.array (.object "java/lang/Object"))) (v := .ref e2) (by decide +kernel) rfl rfl (Nat.le_of_ble_eq_true rfl) dJ4_grow_59 rfl (fun H6 locs6 hW6 => ?_)
  clear hW5
  refine lv_astore (lv' := [(5, .ref e2), (3, .int (nI 74)), (4, .int (nI 38)), (2, .int (nI 36)), (0, .ref q), (1, .int (nI 1))]) C.hx C.hb dJ4_grow_62 hl3 (Nat.le_of_ble_eq_true rfl) rfl (fun ls7 hl7 => ?_)
  clear hl3
  refine lv_aload_n C.hx C.hb dJ4_grow_64 rfl (lv_at hl7 4 rfl) ?_
  refine k_get (v := .int (nI h)) C clJ4 (hW6.get 0 0 rfl rfl) 2 (Nat.le_of_ble_eq_true rfl) rfl q206 rfl rfl dJ4_grow_65 ?_
  refine lv_aload_n C.hx C.hb dJ4_grow_68 rfl (lv_at hl7 4 rfl) ?_
  refine k_get (v := .int (nI h)) C clJ4 (hW6.get 0 0 rfl rfl) 1 (Nat.le_of_ble_eq_true rfl) rfl q205 rfl rfl dJ4_grow_69 ?_
  refine kn_icmp_lt (tgt := 96) C (by omega) (by omega) dJ4_grow_72 (by decide) (fun c72 => (absurd c72 (Nat.lt_irrefl _))) (fun c72 => ?_)
  refine lv_aload_n C.hx C.hb dJ4_grow_75 rfl (lv_at hl7 4 rfl) ?_
  refine k_get (v := .int (nI h)) C clJ4 (hW6.get 0 0 rfl rfl) 2 (Nat.le_of_ble_eq_true rfl) rfl q206 rfl rfl dJ4_grow_76 ?_
  refine lv_aload_n C.hx C.hb dJ4_grow_79 rfl (lv_at hl7 4 rfl) ?_
  refine k_get (v := .int (nI h)) C clJ4 (hW6.get 0 0 rfl rfl) 1 (Nat.le_of_ble_eq_true rfl) rfl q205 rfl rfl dJ4_grow_80 ?_
  refine kn_icmp_ne (tgt := 164) C (by omega) (by omega) dJ4_grow_83 (by decide) (fun c83 => (absurd rfl c83)) (fun c83 => ?_)
  refine lv_aload C.hx C.hb dJ4_grow_86 (lv_at hl7 0 rfl) ?_
  refine lv_aload_n C.hx C.hb dJ4_grow_88 rfl (lv_at hl7 4 rfl) ?_
  refine k_get (v := .int (nI h)) C clJ4 (hW6.get 0 0 rfl rfl) 1 (Nat.le_of_ble_eq_true rfl) rfl q205 rfl rfl dJ4_grow_89 ?_
  obtain ⟨x0, hx0⟩ : ∃ x0, (rot h ds)[h]? = some x0 := ⟨_, List.getElem?_eq_getElem (by rw [rot_len, hn]; exact hh)⟩
  refine k_aaldS C (f := (fun i => (rot h ds)[i]?)) 4 rfl (hW6.get 2 0 rfl rfl) (by omega) (by decide) hx0 dJ4_grow_92 ?_
  refine lv_ifnull C.hx C.hb dJ4_grow_93 ?_
  refine lv_iload_n C.hx C.hb dJ4_grow_96 rfl (lv_at hl7 1 rfl) ?_
  refine lv_iload_n C.hx C.hb dJ4_grow_97 rfl (lv_at hl7 3 rfl) ?_
  refine kn_isub C (by omega) dJ4_grow_98 ?_
  refine k_op (y := .int (nI 38)) rfl ?_
  refine lv_istore (lv' := [(6, .int (nI 38)), (5, .ref e2), (3, .int (nI 74)), (4, .int (nI 38)), (2, .int (nI 36)), (0, .ref q), (1, .int (nI 1))]) C.hx C.hb dJ4_grow_99 hl7 (Nat.le_of_ble_eq_true rfl) rfl (fun ls8 hl8 => ?_)
  clear hl7
  refine lv_aload C.hx C.hb dJ4_grow_101 (lv_at hl8 1 rfl) ?_
  refine lv_aload_n C.hx C.hb dJ4_grow_103 rfl (lv_at hl8 5 rfl) ?_
  refine k_get (v := .int (nI h)) C clJ4 (hW6.get 0 0 rfl rfl) 1 (Nat.le_of_ble_eq_true rfl) rfl q205 rfl rfl dJ4_grow_104 ?_
  refine lv_aload C.hx C.hb dJ4_grow_107 (lv_at hl8 1 rfl) ?_
  refine lv_aload_n C.hx C.hb dJ4_grow_109 rfl (lv_at hl8 5 rfl) ?_
  refine k_get (v := .int (nI h)) C clJ4 (hW6.get 0 0 rfl rfl) 1 (Nat.le_of_ble_eq_true rfl) rfl q205 rfl rfl dJ4_grow_110 ?_
  refine lv_iload C.hx C.hb dJ4_grow_113 (lv_at hl8 0 rfl) ?_
  refine kn_iadd C  dJ4_grow_115 ?_
  refine lv_iload_n C.hx C.hb dJ4_grow_116 rfl (lv_at hl8 4 rfl) ?_
  refine lv_aload_n C.hx C.hb dJ4_grow_117 rfl (lv_at hl8 5 rfl) ?_
  refine k_get (v := .int (nI h)) C clJ4 (hW6.get 0 0 rfl rfl) 1 (Nat.le_of_ble_eq_true rfl) rfl q205 rfl rfl dJ4_grow_118 ?_
  refine kn_isub C (by omega) dJ4_grow_121 ?_
  refine k_copyG (S' := [[(q, .inr (12, [.ref e2, .int (nI h), .int (nI h)]))], [(es, .inl (G.2.2.1 4, 36, .inr (.inr (.inr (.inr (fun i => (rot h ds)[i]?))))))], [(e2, .inl (G.2.2.1 4, 74, .inr (.inr (.inr (.inr (va_cpy (fun i => (rot h ds)[i]?) (fun i => (rot h ds)[i]?) h (h + 38) (36 - h)))))))]]) (k := 36 - h) (sp := h) (dp := h + 38) C hW6 2 0 rfl rfl q1961 rfl (by omega) (by omega) (by decide) (fun i hi z hz => (hRo (.inr z) ⟨z, rot_mem (List.mem_of_getElem? hz), rfl⟩).atI hW6) (Nat.le_of_ble_eq_true rfl) (Nat.le_of_ble_eq_true rfl) hl8.1 (Nat.le_of_ble_eq_true rfl) dJ4_grow_122 rfl (fun H9 locs9 hW9 => ?_)
  clear hW6
  refine W.eq (g2 := F0 m 125 ls8 []) rfl ?_
  have hW10 : Ws G A s [[(q, .inr (12, [.ref e2, .int (nI h), .int (nI h)]))], [(es, .inl (G.2.2.1 4, 36, .inr (.inr (.inr (.inr (fun i => (rot h ds)[i]?))))))], [(e2, .inl (G.2.2.1 4, 74, .inr (.inr (.inr (.inr (nul h h (va_cpy (fun i => (rot h ds)[i]?) (fun i => (rot h ds)[i]?) h (h + 38) (36 - h))))))))]] H9 locs9 := by rw [nul_0]; exact hW9
  clear hW9
  refine lv_aload_n C.hx C.hb dJ4_grow_125 rfl (lv_at hl8 5 rfl) ?_
  refine k_get (v := .int (nI h)) C clJ4 (hW10.get 0 0 rfl rfl) 1 (Nat.le_of_ble_eq_true rfl) rfl q205 rfl rfl dJ4_grow_126 ?_
  refine lv_istore (lv' := [(7, .int (nI h)), (6, .int (nI 38)), (5, .ref e2), (3, .int (nI 74)), (4, .int (nI 38)), (2, .int (nI 36)), (0, .ref q), (1, .int (nI 1))]) C.hx C.hb dJ4_grow_129 hl8 (Nat.le_of_ble_eq_true rfl) rfl (fun ls11 hl11 => ?_)
  clear hl8
  refine lv_aload_n C.hx C.hb dJ4_grow_131 rfl (lv_at hl11 6 rfl) ?_
  refine lv_dup C.hx C.hb dJ4_grow_132 rfl ?_
  refine k_get (v := .int (nI h)) C clJ4 (hW10.get 0 0 rfl rfl) 1 (Nat.le_of_ble_eq_true rfl) rfl q205 rfl rfl dJ4_grow_133 ?_
  refine lv_iload C.hx C.hb dJ4_grow_136 (lv_at hl11 1 rfl) ?_
  refine kn_iadd C  dJ4_grow_138 ?_
  refine lv_dup_x1 C.hx C.hb dJ4_grow_139 rfl rfl ?_
  refine k_put (S' := [[(q, .inr (12, [.ref e2, .int (nI (h + 38)), .int (nI h)]))], [(es, .inl (G.2.2.1 4, 36, .inr (.inr (.inr (.inr (fun i => (rot h ds)[i]?))))))], [(e2, .inl (G.2.2.1 4, 74, .inr (.inr (.inr (.inr (nul h h (va_cpy (fun i => (rot h ds)[i]?) (fun i => (rot h ds)[i]?) h (h + 38) (36 - h))))))))]]) C clJ4 hW10 0 0 rfl rfl 1 (Nat.le_of_ble_eq_true rfl) rfl q205 rfl (fun _ h => h) (Or.inl rfl) (fty := .int) (v := .int (nI (h + 38))) (by decide +kernel) rfl rfl (Nat.le_of_ble_eq_true rfl) dJ4_grow_140 rfl (fun H12 locs12 hW12 => ?_)
  clear hW10
  have hW13 : Ws G A s [[(q, .inr (12, [.ref e2, .int (nI (h + 38)), .int (nI h)]))], [(es, .inl (G.2.2.1 4, 36, .inr (.inr (.inr (.inr (fun i => (rot h ds)[i]?))))))], [(e2, .inl (G.2.2.1 4, 74, .inr (.inr (.inr (.inr (nul h h (va_cpy (fun i => (rot h ds)[i]?) (fun i => (rot h ds)[i]?) h (h + 38) (36 - h))))))))]] H12 locs12 := hW12.pick 3 rfl [0, 1, 2] (by decide) rfl
  clear hW12
  refine lv_istore (lv' := [(8, .int (nI (h + 38))), (7, .int (nI h)), (6, .int (nI 38)), (5, .ref e2), (3, .int (nI 74)), (4, .int (nI 38)), (2, .int (nI 36)), (0, .ref q), (1, .int (nI 1))]) C.hx C.hb dJ4_grow_143 hl11 (Nat.le_of_ble_eq_true rfl) rfl (fun ls14 hl14 => ?_)
  clear hl11
  have La : ∀ (k15 : Nat) (i7 : Nat), (h ≤ i7) → (i7 ≤ h + 38) → h + 38 - i7 < k15 → ∀ (H15 : Heap) (locs15 : List Loc) (ls15 : Array Slot), Ws G A s ([[(q, .inr (12, [.ref e2, .int (nI (h + 38)), .int (nI h)]))], [(es, .inl (G.2.2.1 4, 36, .inr (.inr (.inr (.inr (fun i => (rot h ds)[i]?))))))], [(e2, .inl (G.2.2.1 4, 74, .inr (.inr (.inr (.inr (nul h i7 (va_cpy (fun i => (rot h ds)[i]?) (fun i => (rot h ds)[i]?) h (h + 38) (36 - h))))))))]]) H15 locs15 → lv_has ls15 9 [(7, .int (nI i7)), (8, .int (nI (h + 38))), (5, .ref e2), (0, .ref q)] → W p l e ({ frames := 3, cells := 1, slots := 74, locals := 73 } : Room) s m ([.ref q, .int (nI 1)] : List Value).toArray below meth c H15 locs15 1 74 (MQ below (cQ G A (Q_ctJ4_grow_36 G q es h ds)) ([.ref q, .int (nI 1)] : List Value).toArray s 1 74 A) (F0 m 145 ls15 []) := by
    intro k15
    induction k15 with
    | zero => intro i7 hLa_0 hLa_1 hm15; exact absurd hm15 (Nat.not_lt_zero _)
    | succ k15 ih15 =>
      intro i7 hLa_0 hLa_1 hm15 H15 locs15 ls15 hW15 hl15
      refine lv_iload C.hx C.hb dJ4_grow_145 (lv_at hl15 0 rfl) ?_
      refine lv_iload C.hx C.hb dJ4_grow_147 (lv_at hl15 1 rfl) ?_
      refine kn_icmp_ge (tgt := 164) C (by omega) (by omega) dJ4_grow_149 (by decide) (fun c149 => ?_) (fun c149 => ?_)
      · obtain rfl : i7 = h + 38 := by omega
        have hW16 : Ws G A s [[(q, .inr (12, [.ref e2, .int (nI (h + 38)), .int (nI h)]))], [(es, .inl (G.2.2.1 4, 36, .inr (.inr (.inr (.inr (fun i => (rot h ds)[i]?))))))], [(e2, .inl (G.2.2.1 4, 74, .inr (.inr (.inr (.inr (dq 74 (h + 38) ds))))))]] H15 locs15 := hW15.extq (S' := [[(q, .inr (12, [.ref e2, .int (nI (h + 38)), .int (nI h)]))], [(es, .inl (G.2.2.1 4, 36, .inr (.inr (.inr (.inr (fun i => (rot h ds)[i]?))))))], [(e2, .inl (G.2.2.1 4, 74, .inr (.inr (.inr (.inr (dq 74 (h + 38) ds))))))]]) 2 0 rfl rfl (dq_grow (J := 38) hh hn) rfl
        have hW17 : Ws G A s [[(q, .inr (12, [.ref e2, .int (nI (h + 38)), .int (nI h)]))], [(e2, .inl (G.2.2.1 4, 74, .inr (.inr (.inr (.inr (dq 74 (h + 38) ds))))))], [(es, .inl (G.2.2.1 4, 36, .inr (.inr (.inr (.inr (fun i => (rot h ds)[i]?))))))]] H15 locs15 := hW16.pick 3 rfl [0, 2, 1] (by decide) rfl
        clear hW16
        have hW18 : Ws G A s [[(q, .inr (12, [.ref e2, .int (nI (h + 38)), .int (nI h)]))], [(e2, .inl (G.2.2.1 4, 74, .inr (.inr (.inr (.inr (dq 74 (h + 38) ds))))))]] H15 locs15 := hW17.drop (S2 := [[(es, .inl (G.2.2.1 4, 36, .inr (.inr (.inr (.inr (fun i => (rot h ds)[i]?))))))]]) rfl
        clear hW17
        exact k_vret C hW18 rfl ⟨rfl, _, rfl⟩ (by omega) (by omega) dJ4_grow_164
      · refine lv_aload C.hx C.hb dJ4_grow_152 (lv_at hl15 2 rfl) ?_
        refine lv_iload C.hx C.hb dJ4_grow_154 (lv_at hl15 0 rfl) ?_
        refine lv_null C.hx C.hb dJ4_grow_156 ?_
        refine k_aastN (S' := [[(q, .inr (12, [.ref e2, .int (nI (h + 38)), .int (nI h)]))], [(es, .inl (G.2.2.1 4, 36, .inr (.inr (.inr (.inr (fun i => (rot h ds)[i]?))))))], [(e2, .inl (G.2.2.1 4, 74, .inr (.inr (.inr (.inr (va_up (nul h i7 (va_cpy (fun i => (rot h ds)[i]?) (fun i => (rot h ds)[i]?) h (h + 38) (36 - h))) i7 none))))))]]) C hW15 4 2 0 rfl rfl rfl (by omega) (by decide) dJ4_grow_157 rfl (fun H19 locs19 hW19 => ?_)
        clear hW15
        refine kn_iinc (lv' := [(7, .int (nI (i7 + 1))), (8, .int (nI (h + 38))), (5, .ref e2), (0, .ref q)]) (k := 0) C dJ4_grow_158 hl15 rfl (Nat.le_of_ble_eq_true rfl) rfl (fun ls20 hl20 => ?_)
        clear hl15
        refine lv_goto (tgt := 145) C.hx C.hb dJ4_grow_161 (by decide) ?_
        have e21 : ([[(q, .inr (12, [.ref e2, .int (nI (h + 38)), .int (nI h)]))], [(es, .inl (G.2.2.1 4, 36, .inr (.inr (.inr (.inr (fun i => (rot h ds)[i]?))))))], [(e2, .inl (G.2.2.1 4, 74, .inr (.inr (.inr (.inr (nul h (i7 + 1) (va_cpy (fun i => (rot h ds)[i]?) (fun i => (rot h ds)[i]?) h (h + 38) (36 - h))))))))]] : List va_W) = [[(q, .inr (12, [.ref e2, .int (nI (h + 38)), .int (nI h)]))], [(es, .inl (G.2.2.1 4, 36, .inr (.inr (.inr (.inr (fun i => (rot h ds)[i]?))))))], [(e2, .inl (G.2.2.1 4, 74, .inr (.inr (.inr (.inr (va_up (nul h i7 (va_cpy (fun i => (rot h ds)[i]?) (fun i => (rot h ds)[i]?) h (h + 38) (36 - h))) i7 none))))))]] := by first | rfl | rw [nul_up (by assumption)]
        exact ih15 (i7 + 1) (by omega) (by omega) (by omega) _ _ _ (by rw [e21]; exact hW19) (lv_sub hl20 [0, 1, 2, 3] rfl)
  exact La (h + 38 - h + 1) h (Nat.le_refl _) (by omega) (Nat.lt_succ_self _) _ _ _ hW13 (lv_sub hl14 [1, 0, 3, 7] rfl)

def Q_ctJ4_addLast_17 (G : GT) (q es h e0 : Nat) (ds : List Nat) : Option Value → List va_W → Prop := fun v S1 => v = none ∧ ∃ e2, S1 = [[(q, .inr (12, [.ref e2, .int (nI (h + 19)), .int (nI h)]))], [(e2, .inl (G.2.2.1 4, 36, .inr (.inr (.inr (.inr (dq 36 (h + 19) (ds ++ [e0])))))))]]
set_option maxHeartbeats 4000000 in
set_option maxRecDepth 100000 in
theorem ctJ4_addLast_17 (l : Launch) (G : GT) (q es h e0 : Nat) (ds : List Nat) (hh : h < 17) (hn : ds.length = 16) : Ct l G yJ4_addLast cJ4_addLast 3 none 4 101 1 36 [.ref q, .ref e0] ([[(q, .inr (12, [.ref es, .int (nI h), .int (nI ((h + 16) % 17))]))], [(es, .inl (G.2.2.1 4, 17, .inr (.inr (.inr (.inr (dq 17 h ds))))))]]) ((fun z => ∃ x ∈ ds ++ [e0], z = .inr x)) (Q_ctJ4_addLast_17 G q es h e0 ds) := by
  refine Ct.of (by decide +kernel) (Nat.le_of_ble_eq_true rfl) ?_
  intro p e s m below meth c A ls C hW hRo hl
  have hl : lv_has ls 3 [(0, .ref q), (1, .ref e0)] := hl
  have hT : (h + 16) % 17 < 17 := Nat.mod_lt _ (by omega)
  refine lv_aload_n C.hx C.hb dJ4_addLast_0 rfl (lv_at hl 1 rfl) ?_
  refine lv_ifnonnull (tgt := 12) C.hx C.hb dJ4_addLast_1 (by decide) ?_
  refine lv_aload_n C.hx C.hb dJ4_addLast_12 rfl (lv_at hl 0 rfl) ?_
  refine k_get (v := .ref es) C clJ4 (hW.get 0 0 rfl rfl) 0 (Nat.le_of_ble_eq_true rfl) rfl q202 rfl rfl dJ4_addLast_13 ?_
  refine lv_astore_n (lv' := [(2, .ref es), (0, .ref q), (1, .ref e0)]) C.hx C.hb dJ4_addLast_16 rfl hl (Nat.le_of_ble_eq_true rfl) rfl (fun ls1 hl1 => ?_)
  clear hl
  refine lv_aload_n C.hx C.hb dJ4_addLast_17 rfl (lv_at hl1 0 rfl) ?_
  refine lv_aload_n C.hx C.hb dJ4_addLast_18 rfl (lv_at hl1 1 rfl) ?_
  refine k_get (v := .int (nI ((h + 16) % 17))) C clJ4 (hW.get 0 0 rfl rfl) 2 (Nat.le_of_ble_eq_true rfl) rfl q206 rfl rfl dJ4_addLast_19 ?_
  refine lv_aload_n C.hx C.hb dJ4_addLast_22 rfl (lv_at hl1 2 rfl) ?_
  refine k_aast (S' := [[(q, .inr (12, [.ref es, .int (nI h), .int (nI ((h + 16) % 17))]))], [(es, .inl (G.2.2.1 4, 17, .inr (.inr (.inr (.inr (va_up (dq 17 h ds) ((h + 16) % 17) (some e0)))))))]]) C hW 1 0 rfl rfl rfl ((hRo (.inr e0) ⟨e0, by simp, rfl⟩).atI hW) (by omega) (by decide) dJ4_addLast_23 rfl (fun H2 locs2 hW2 => ?_)
  clear hW
  have hW3 : Ws G A s [[(q, .inr (12, [.ref es, .int (nI h), .int (nI ((h + 16) % 17))]))], [(es, .inl (G.2.2.1 4, 17, .inr (.inr (.inr (.inr (dq 17 h (ds ++ [e0])))))))]] H2 locs2 := hW2.extq (S' := [[(q, .inr (12, [.ref es, .int (nI h), .int (nI ((h + 16) % 17))]))], [(es, .inl (G.2.2.1 4, 17, .inr (.inr (.inr (.inr (dq 17 h (ds ++ [e0])))))))]]) 1 0 rfl rfl (dq_push hh hn (by omega)) rfl
  clear hW2
  refine lv_aload_n C.hx C.hb dJ4_addLast_24 rfl (lv_at hl1 1 rfl) ?_
  refine k_get (v := .int (nI h)) C clJ4 (hW3.get 0 0 rfl rfl) 1 (Nat.le_of_ble_eq_true rfl) rfl q205 rfl rfl dJ4_addLast_25 ?_
  refine lv_aload_n C.hx C.hb dJ4_addLast_28 rfl (lv_at hl1 1 rfl) ?_
  refine lv_aload_n C.hx C.hb dJ4_addLast_29 rfl (lv_at hl1 1 rfl) ?_
  refine k_get (v := .int (nI ((h + 16) % 17))) C clJ4 (hW3.get 0 0 rfl rfl) 2 (Nat.le_of_ble_eq_true rfl) rfl q206 rfl rfl dJ4_addLast_30 ?_
  refine lv_aload_n C.hx C.hb dJ4_addLast_33 rfl (lv_at hl1 0 rfl) ?_
  refine k_alen C 4 rfl (hW3.get 1 0 rfl rfl) dJ4_addLast_34 ?_
  refine k_callS (Sc := []) (Sr := [[(q, .inr (12, [.ref es, .int (nI h), .int (nI ((h + 16) % 17))]))], [(es, .inl (G.2.2.1 4, 17, .inr (.inr (.inr (.inr (dq 17 h (ds ++ [e0])))))))]]) (As := [.int (nI ((h + 16) % 17)), .int (nI 17)]) (rest := [.ref q, .int (nI h)]) C (ctJ4_inc l G ((h + 16) % 17) 17 hT (by decide)) hW3 q1859 q1015 q77 q1016 rfl ⟨by decide, by decide, Eq.trans (b := some 2) (by decide +kernel) rfl⟩ (Nat.le_of_ble_eq_true rfl) (Nat.le_of_ble_eq_true rfl) (show 0 + 0 ≤ 1 by omega) (show 0 + 0 ≤ 36 by omega) hl1.1 rfl (Nat.le_of_ble_eq_true rfl) dJ4_addLast_35 (k_permR _) (fun _ h => h.elim) (fun v H4 locs4 S1 hQ hz4 hW4 => ?_)
  obtain ⟨rfl, rfl⟩ := hQ
  have hW4 : Ws G A s ([[(q, .inr (12, [.ref es, .int (nI h), .int (nI ((h + 16) % 17))]))], [(es, .inl (G.2.2.1 4, 17, .inr (.inr (.inr (.inr (dq 17 h (ds ++ [e0])))))))]]) H4 locs4 := hW4
  clear hW3
  refine W.eq (g2 := F0 m 38 ls1 [.int (nI ((((h + 16) % 17) + 1) % 17)), .ref q, .int (nI h)]) rfl ?_
  refine k_op (y := .int (nI h)) (by rw [Nat.mod_add_mod, show h + 16 + 1 = h + 17 by omega, Nat.add_mod_right, Nat.mod_eq_of_lt hh]) ?_
  refine lv_dup_x1 C.hx C.hb dJ4_addLast_38 rfl rfl ?_
  refine k_put (S' := [[(q, .inr (12, [.ref es, .int (nI h), .int (nI h)]))], [(es, .inl (G.2.2.1 4, 17, .inr (.inr (.inr (.inr (dq 17 h (ds ++ [e0])))))))]]) C clJ4 hW4 0 0 rfl rfl 2 (Nat.le_of_ble_eq_true rfl) rfl q206 rfl (fun _ h => h) (Or.inl rfl) (fty := .int) (v := .int (nI h)) (by decide +kernel) rfl rfl (Nat.le_of_ble_eq_true rfl) dJ4_addLast_39 rfl (fun H5 locs5 hW5 => ?_)
  clear hW4
  refine kn_icmp_ne (tgt := 50) C (by omega) (by omega) dJ4_addLast_42 (by decide) (fun c42 => (absurd rfl c42)) (fun c42 => ?_)
  refine lv_aload_n C.hx C.hb dJ4_addLast_45 rfl (lv_at hl1 1 rfl) ?_
  refine kn_iconst (a := 1) C (by decide) dJ4_addLast_46 ?_
  refine k_callV (Sc := [[(q, .inr (12, [.ref es, .int (nI h), .int (nI h)]))], [(es, .inl (G.2.2.1 4, 17, .inr (.inr (.inr (.inr (dq 17 h (ds ++ [e0])))))))]]) (Sr := []) (As := [.int (nI 1)]) (rest := []) C (ctJ4_grow_17 l G q es h (ds ++ [e0]) hh (by simp; omega)) hW5 clJ4 (hW5.get 0 0 rfl rfl) q1944 q1946 qs38 q77 q1947 rfl rfl ⟨by decide, by decide, Eq.trans (b := some 1) (by decide +kernel) rfl⟩ (Nat.le_of_ble_eq_true rfl) (Nat.le_of_ble_eq_true rfl) (show 0 + 1 ≤ 1 by omega) (show 0 + 36 ≤ 36 by omega) hl1.1 rfl (Nat.le_of_ble_eq_true rfl) dJ4_addLast_47 ((pick_perm [[(q, .inr (12, [.ref es, .int (nI h), .int (nI h)]))], [(es, .inl (G.2.2.1 4, 17, .inr (.inr (.inr (.inr (dq 17 h (ds ++ [e0])))))))]] 2 rfl (is := [0, 1]) (by decide)).flatten.symm) (fun z hz => Or.inr (Or.inr (hRo z (by obtain ⟨x, hx, rfl⟩ := hz; exact ⟨x, hx, rfl⟩)))) (fun v H6 locs6 S1 hQ hz6 hW6 => ?_)
  obtain ⟨rfl, e2, rfl⟩ := hQ
  have hW6 : Ws G A s ([[(q, .inr (12, [.ref e2, .int (nI (h + 19)), .int (nI h)]))], [(e2, .inl (G.2.2.1 4, 36, .inr (.inr (.inr (.inr (dq 36 (h + 19) (ds ++ [e0])))))))]]) H6 locs6 := hW6
  clear hW5
  refine W.eq (g2 := F0 m 50 ls1 []) rfl ?_
  exact k_vret C hW6 rfl ⟨rfl, _, rfl⟩ (by omega) (by omega) dJ4_addLast_50

def Q_ctJ4_addLast_36 (G : GT) (q es h e0 : Nat) (ds : List Nat) : Option Value → List va_W → Prop := fun v S1 => v = none ∧ ∃ e2, S1 = [[(q, .inr (12, [.ref e2, .int (nI (h + 38)), .int (nI h)]))], [(e2, .inl (G.2.2.1 4, 74, .inr (.inr (.inr (.inr (dq 74 (h + 38) (ds ++ [e0])))))))]]
set_option maxHeartbeats 4000000 in
set_option maxRecDepth 100000 in
theorem ctJ4_addLast_36 (l : Launch) (G : GT) (q es h e0 : Nat) (ds : List Nat) (hh : h < 36) (hn : ds.length = 35) : Ct l G yJ4_addLast cJ4_addLast 3 none 4 101 1 74 [.ref q, .ref e0] ([[(q, .inr (12, [.ref es, .int (nI h), .int (nI ((h + 35) % 36))]))], [(es, .inl (G.2.2.1 4, 36, .inr (.inr (.inr (.inr (dq 36 h ds))))))]]) ((fun z => ∃ x ∈ ds ++ [e0], z = .inr x)) (Q_ctJ4_addLast_36 G q es h e0 ds) := by
  refine Ct.of (by decide +kernel) (Nat.le_of_ble_eq_true rfl) ?_
  intro p e s m below meth c A ls C hW hRo hl
  have hl : lv_has ls 3 [(0, .ref q), (1, .ref e0)] := hl
  have hT : (h + 35) % 36 < 36 := Nat.mod_lt _ (by omega)
  refine lv_aload_n C.hx C.hb dJ4_addLast_0 rfl (lv_at hl 1 rfl) ?_
  refine lv_ifnonnull (tgt := 12) C.hx C.hb dJ4_addLast_1 (by decide) ?_
  refine lv_aload_n C.hx C.hb dJ4_addLast_12 rfl (lv_at hl 0 rfl) ?_
  refine k_get (v := .ref es) C clJ4 (hW.get 0 0 rfl rfl) 0 (Nat.le_of_ble_eq_true rfl) rfl q202 rfl rfl dJ4_addLast_13 ?_
  refine lv_astore_n (lv' := [(2, .ref es), (0, .ref q), (1, .ref e0)]) C.hx C.hb dJ4_addLast_16 rfl hl (Nat.le_of_ble_eq_true rfl) rfl (fun ls1 hl1 => ?_)
  clear hl
  refine lv_aload_n C.hx C.hb dJ4_addLast_17 rfl (lv_at hl1 0 rfl) ?_
  refine lv_aload_n C.hx C.hb dJ4_addLast_18 rfl (lv_at hl1 1 rfl) ?_
  refine k_get (v := .int (nI ((h + 35) % 36))) C clJ4 (hW.get 0 0 rfl rfl) 2 (Nat.le_of_ble_eq_true rfl) rfl q206 rfl rfl dJ4_addLast_19 ?_
  refine lv_aload_n C.hx C.hb dJ4_addLast_22 rfl (lv_at hl1 2 rfl) ?_
  refine k_aast (S' := [[(q, .inr (12, [.ref es, .int (nI h), .int (nI ((h + 35) % 36))]))], [(es, .inl (G.2.2.1 4, 36, .inr (.inr (.inr (.inr (va_up (dq 36 h ds) ((h + 35) % 36) (some e0)))))))]]) C hW 1 0 rfl rfl rfl ((hRo (.inr e0) ⟨e0, by simp, rfl⟩).atI hW) (by omega) (by decide) dJ4_addLast_23 rfl (fun H2 locs2 hW2 => ?_)
  clear hW
  have hW3 : Ws G A s [[(q, .inr (12, [.ref es, .int (nI h), .int (nI ((h + 35) % 36))]))], [(es, .inl (G.2.2.1 4, 36, .inr (.inr (.inr (.inr (dq 36 h (ds ++ [e0])))))))]] H2 locs2 := hW2.extq (S' := [[(q, .inr (12, [.ref es, .int (nI h), .int (nI ((h + 35) % 36))]))], [(es, .inl (G.2.2.1 4, 36, .inr (.inr (.inr (.inr (dq 36 h (ds ++ [e0])))))))]]) 1 0 rfl rfl (dq_push hh hn (by omega)) rfl
  clear hW2
  refine lv_aload_n C.hx C.hb dJ4_addLast_24 rfl (lv_at hl1 1 rfl) ?_
  refine k_get (v := .int (nI h)) C clJ4 (hW3.get 0 0 rfl rfl) 1 (Nat.le_of_ble_eq_true rfl) rfl q205 rfl rfl dJ4_addLast_25 ?_
  refine lv_aload_n C.hx C.hb dJ4_addLast_28 rfl (lv_at hl1 1 rfl) ?_
  refine lv_aload_n C.hx C.hb dJ4_addLast_29 rfl (lv_at hl1 1 rfl) ?_
  refine k_get (v := .int (nI ((h + 35) % 36))) C clJ4 (hW3.get 0 0 rfl rfl) 2 (Nat.le_of_ble_eq_true rfl) rfl q206 rfl rfl dJ4_addLast_30 ?_
  refine lv_aload_n C.hx C.hb dJ4_addLast_33 rfl (lv_at hl1 0 rfl) ?_
  refine k_alen C 4 rfl (hW3.get 1 0 rfl rfl) dJ4_addLast_34 ?_
  refine k_callS (Sc := []) (Sr := [[(q, .inr (12, [.ref es, .int (nI h), .int (nI ((h + 35) % 36))]))], [(es, .inl (G.2.2.1 4, 36, .inr (.inr (.inr (.inr (dq 36 h (ds ++ [e0])))))))]]) (As := [.int (nI ((h + 35) % 36)), .int (nI 36)]) (rest := [.ref q, .int (nI h)]) C (ctJ4_inc l G ((h + 35) % 36) 36 hT (by decide)) hW3 q1859 q1015 q77 q1016 rfl ⟨by decide, by decide, Eq.trans (b := some 2) (by decide +kernel) rfl⟩ (Nat.le_of_ble_eq_true rfl) (Nat.le_of_ble_eq_true rfl) (show 0 + 0 ≤ 1 by omega) (show 0 + 0 ≤ 74 by omega) hl1.1 rfl (Nat.le_of_ble_eq_true rfl) dJ4_addLast_35 (k_permR _) (fun _ h => h.elim) (fun v H4 locs4 S1 hQ hz4 hW4 => ?_)
  obtain ⟨rfl, rfl⟩ := hQ
  have hW4 : Ws G A s ([[(q, .inr (12, [.ref es, .int (nI h), .int (nI ((h + 35) % 36))]))], [(es, .inl (G.2.2.1 4, 36, .inr (.inr (.inr (.inr (dq 36 h (ds ++ [e0])))))))]]) H4 locs4 := hW4
  clear hW3
  refine W.eq (g2 := F0 m 38 ls1 [.int (nI ((((h + 35) % 36) + 1) % 36)), .ref q, .int (nI h)]) rfl ?_
  refine k_op (y := .int (nI h)) (by rw [Nat.mod_add_mod, show h + 35 + 1 = h + 36 by omega, Nat.add_mod_right, Nat.mod_eq_of_lt hh]) ?_
  refine lv_dup_x1 C.hx C.hb dJ4_addLast_38 rfl rfl ?_
  refine k_put (S' := [[(q, .inr (12, [.ref es, .int (nI h), .int (nI h)]))], [(es, .inl (G.2.2.1 4, 36, .inr (.inr (.inr (.inr (dq 36 h (ds ++ [e0])))))))]]) C clJ4 hW4 0 0 rfl rfl 2 (Nat.le_of_ble_eq_true rfl) rfl q206 rfl (fun _ h => h) (Or.inl rfl) (fty := .int) (v := .int (nI h)) (by decide +kernel) rfl rfl (Nat.le_of_ble_eq_true rfl) dJ4_addLast_39 rfl (fun H5 locs5 hW5 => ?_)
  clear hW4
  refine kn_icmp_ne (tgt := 50) C (by omega) (by omega) dJ4_addLast_42 (by decide) (fun c42 => (absurd rfl c42)) (fun c42 => ?_)
  refine lv_aload_n C.hx C.hb dJ4_addLast_45 rfl (lv_at hl1 1 rfl) ?_
  refine kn_iconst (a := 1) C (by decide) dJ4_addLast_46 ?_
  refine k_callV (Sc := [[(q, .inr (12, [.ref es, .int (nI h), .int (nI h)]))], [(es, .inl (G.2.2.1 4, 36, .inr (.inr (.inr (.inr (dq 36 h (ds ++ [e0])))))))]]) (Sr := []) (As := [.int (nI 1)]) (rest := []) C (ctJ4_grow_36 l G q es h (ds ++ [e0]) hh (by simp; omega)) hW5 clJ4 (hW5.get 0 0 rfl rfl) q1944 q1946 qs38 q77 q1947 rfl rfl ⟨by decide, by decide, Eq.trans (b := some 1) (by decide +kernel) rfl⟩ (Nat.le_of_ble_eq_true rfl) (Nat.le_of_ble_eq_true rfl) (show 0 + 1 ≤ 1 by omega) (show 0 + 74 ≤ 74 by omega) hl1.1 rfl (Nat.le_of_ble_eq_true rfl) dJ4_addLast_47 ((pick_perm [[(q, .inr (12, [.ref es, .int (nI h), .int (nI h)]))], [(es, .inl (G.2.2.1 4, 36, .inr (.inr (.inr (.inr (dq 36 h (ds ++ [e0])))))))]] 2 rfl (is := [0, 1]) (by decide)).flatten.symm) (fun z hz => Or.inr (Or.inr (hRo z (by obtain ⟨x, hx, rfl⟩ := hz; exact ⟨x, hx, rfl⟩)))) (fun v H6 locs6 S1 hQ hz6 hW6 => ?_)
  obtain ⟨rfl, e2, rfl⟩ := hQ
  have hW6 : Ws G A s ([[(q, .inr (12, [.ref e2, .int (nI (h + 38)), .int (nI h)]))], [(e2, .inl (G.2.2.1 4, 74, .inr (.inr (.inr (.inr (dq 74 (h + 38) (ds ++ [e0])))))))]]) H6 locs6 := hW6
  clear hW5
  refine W.eq (g2 := F0 m 50 ls1 []) rfl ?_
  exact k_vret C hW6 rfl ⟨rfl, _, rfl⟩ (by omega) (by omega) dJ4_addLast_50

def Q_ctJ4_sub_a (G : GT) (h n cp : Nat) : Option Value → List va_W → Prop := fun v S1 => v = some (.int (nI n)) ∧ S1 = []
set_option maxHeartbeats 4000000 in
set_option maxRecDepth 100000 in
theorem ctJ4_sub_a (l : Launch) (G : GT) (h n cp : Nat) (hC : cp < 2 ^ 26) (hr : h + n < cp) : Ct l G yJ4_sub cJ4_sub 3 (some .int) 0 0 0 0 [.int (nI (h + n)), .int (nI h), .int (nI cp)] ([]) noR (Q_ctJ4_sub_a G h n cp) := by
  refine Ct.of (by decide +kernel) (Nat.le_of_ble_eq_true rfl) ?_
  intro p e s m below meth c A ls C hW hRo hl
  have hl : lv_has ls 3 [(0, .int (nI (h + n))), (1, .int (nI h)), (2, .int (nI cp))] := hl
  refine lv_iload_n C.hx C.hb dJ4_sub_0 rfl (lv_at hl 0 rfl) ?_
  refine lv_iload_n C.hx C.hb dJ4_sub_1 rfl (lv_at hl 1 rfl) ?_
  refine kn_isub C (by omega) dJ4_sub_2 ?_
  refine lv_dup C.hx C.hb dJ4_sub_3 rfl ?_
  refine lv_istore_n (lv' := [(0, .int (nI ((h + n) - h))), (1, .int (nI h)), (2, .int (nI cp))]) C.hx C.hb dJ4_sub_4 rfl hl (Nat.le_of_ble_eq_true rfl) rfl (fun ls1 hl1 => ?_)
  clear hl
  refine kn_if_ge (tgt := 12) C (by omega) dJ4_sub_5 (by decide) ?_
  refine lv_iload_n C.hx C.hb dJ4_sub_12 rfl (lv_at hl1 0 rfl) ?_
  exact k_iret C hW rfl ⟨by rw [show h + n - h = n by omega], rfl⟩ (Nat.le_refl _) (Nat.le_refl _) dJ4_sub_13

def Q_ctJ4_sub_b (G : GT) (h n cp : Nat) : Option Value → List va_W → Prop := fun v S1 => v = some (.int (nI n)) ∧ S1 = []
set_option maxHeartbeats 4000000 in
set_option maxRecDepth 100000 in
theorem ctJ4_sub_b (l : Launch) (G : GT) (h n cp : Nat) (hC : cp < 2 ^ 26) (hn : n < cp) (hh : h < cp) (hr : cp ≤ h + n) : Ct l G yJ4_sub cJ4_sub 3 (some .int) 0 0 0 0 [.int (nI (h + n - cp)), .int (nI h), .int (nI cp)] ([]) noR (Q_ctJ4_sub_b G h n cp) := by
  refine Ct.of (by decide +kernel) (Nat.le_of_ble_eq_true rfl) ?_
  intro p e s m below meth c A ls C hW hRo hl
  have hl : lv_has ls 3 [(0, .int (nI (h + n - cp))), (1, .int (nI h)), (2, .int (nI cp))] := hl
  refine lv_iload_n C.hx C.hb dJ4_sub_0 rfl (lv_at hl 0 rfl) ?_
  refine lv_iload_n C.hx C.hb dJ4_sub_1 rfl (lv_at hl 1 rfl) ?_
  refine lv_isub C.hx C.hb dJ4_sub_2 ?_
  refine lv_dup C.hx C.hb dJ4_sub_3 rfl ?_
  refine lv_istore_n (lv' := [(0, .int (HSub.hSub (nI (h + n - cp)) (nI h))), (1, .int (nI h)), (2, .int (nI cp))]) C.hx C.hb dJ4_sub_4 rfl hl (Nat.le_of_ble_eq_true rfl) rfl (fun ls1 hl1 => ?_)
  clear hl
  refine lv_if_ge (tgt := 12) C.hx C.hb dJ4_sub_5 (by decide) (fun c5 => (absurd c5 (sub_neg hC hn hh hr))) (fun c5 => ?_)
  refine lv_iload_n C.hx C.hb dJ4_sub_8 rfl (lv_at hl1 0 rfl) ?_
  refine lv_iload_n C.hx C.hb dJ4_sub_9 rfl (lv_at hl1 2 rfl) ?_
  refine lv_iadd C.hx C.hb dJ4_sub_10 ?_
  refine k_op (y := .int (nI n)) (by rw [sub_add hn hr hh]) ?_
  refine lv_istore_n (lv' := [(0, .int (nI n)), (1, .int (nI h)), (2, .int (nI cp))]) C.hx C.hb dJ4_sub_11 rfl hl1 (Nat.le_of_ble_eq_true rfl) rfl (fun ls2 hl2 => ?_)
  clear hl1
  refine lv_iload_n C.hx C.hb dJ4_sub_12 rfl (lv_at hl2 0 rfl) ?_
  exact k_iret C hW rfl ⟨rfl, rfl⟩ (Nat.le_refl _) (Nat.le_refl _) dJ4_sub_13
