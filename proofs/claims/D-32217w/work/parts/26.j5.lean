def Q_ctJ2_add_2e (G : GT) (a e0 : Nat) (md : Int32) : Option Value → List va_W → Prop := fun v S1 => v = none ∧ ∃ q, S1 = [[(a, .inr (10, [.int md, .ref q, .int (nI 1)]))], [(q, .inl (G.2.2.1 4, 10, .inr (.inr (.inr (.inr (fun i => ([e0])[i]?))))))]]
set_option maxHeartbeats 4000000 in
set_option maxRecDepth 100000 in
theorem ctJ2_add_2e (l : Launch) (G : GT) (a e0 : Nat) (md : Int32)  : Ct l G yJ2_add_2 cJ2_add_2 4 none 3 64 1 10 [.ref a, .ref e0, .ref (G.2.2.2 2), .int (nI 0)] ([[(a, .inr (10, [.int md, .ref (G.2.2.2 2), .int (nI 0)]))]]) ((fun z => z = .inr e0)) (Q_ctJ2_add_2e G a e0 md) := by
  refine Ct.of (by decide +kernel) (Nat.le_of_ble_eq_true rfl) ?_
  intro p e s m below meth c A ls C hW hRo hl
  have hl : lv_has ls 4 [(0, .ref a), (1, .ref e0), (2, .ref (G.2.2.2 2)), (3, .int (nI 0))] := hl
  refine lv_iload_n C.hx C.hb dJ2_add_2_0 rfl (lv_at hl 3 rfl) ?_
  refine lv_aload_n C.hx C.hb dJ2_add_2_1 rfl (lv_at hl 2 rfl) ?_
  refine k_alen C 4 rfl ((Ro.const C.hX hW.2.2.2.2 (List.mem_cons_of_mem _ List.mem_cons_self)).at hW) dJ2_add_2_2 ?_
  refine kn_icmp_ne (tgt := 11) C (by decide) (by decide) dJ2_add_2_3 (by decide) (fun cq => absurd cq (by decide)) (fun cq => ?_)
  refine lv_aload_n C.hx C.hb dJ2_add_2_6 rfl (lv_at hl 0 rfl) ?_
  refine k_callV (Sc := [[(a, .inr (10, [.int md, .ref (G.2.2.2 2), .int (nI 0)]))]]) (Sr := []) (As := []) (rest := []) C (ctJ2_grow_e l G a md) hW clJ2 (hW.get 0 0 rfl rfl) q1676 q1678 qs27 q75 q1679 rfl rfl ⟨by decide, by decide, Eq.trans (b := some 0) (by decide +kernel) rfl⟩ (Nat.le_of_ble_eq_true rfl) (Nat.le_of_ble_eq_true rfl) (show 0 + 1 ≤ 1 by omega) (show 0 + 10 ≤ 10 by omega) hl.1 rfl (Nat.le_of_ble_eq_true rfl) dJ2_add_2_7 ((pick_perm [[(a, .inr (10, [.int md, .ref (G.2.2.2 2), .int (nI 0)]))]] 1 rfl (is := [0]) (by decide)).flatten.symm) (fun _ h => h.elim) (fun v H1 locs1 S1 hQ hz1 hW1 => ?_)
  obtain ⟨q, rfl, rfl⟩ := hQ
  have hW1 : Ws G A s ([[(a, .inr (10, [.int md, .ref q, .int (nI 0)]))], [(q, .inl (G.2.2.1 4, 10, .inr (.inr (.inr (.inr (fun _ => none))))))]]) H1 locs1 := hW1
  clear hW
  refine W.eq (g2 := F0 m 10 ls [.ref q]) rfl ?_
  refine lv_astore_n (lv' := [(2, .ref q), (0, .ref a), (1, .ref e0), (3, .int (nI 0))]) C.hx C.hb dJ2_add_2_10 rfl hl (Nat.le_of_ble_eq_true rfl) rfl (fun ls2 hl2 => ?_)
  clear hl
  refine lv_aload_n C.hx C.hb dJ2_add_2_11 rfl (lv_at hl2 0 rfl) ?_
  refine lv_iload_n C.hx C.hb dJ2_add_2_12 rfl (lv_at hl2 3 rfl) ?_
  refine lv_aload_n C.hx C.hb dJ2_add_2_13 rfl (lv_at hl2 2 rfl) ?_
  refine k_aast (S' := [[(a, .inr (10, [.int md, .ref q, .int (nI 0)]))], [(q, .inl (G.2.2.1 4, 10, .inr (.inr (.inr (.inr (va_up (fun _ => none) 0 (some e0)))))))]]) C hW1 1 0 rfl rfl rfl ((hRo (.inr e0) rfl).atI hW1) (by decide) (by decide) dJ2_add_2_14 rfl (fun H3 locs3 hW3 => ?_)
  clear hW1
  refine lv_aload_n C.hx C.hb dJ2_add_2_15 rfl (lv_at hl2 1 rfl) ?_
  refine lv_iload_n C.hx C.hb dJ2_add_2_16 rfl (lv_at hl2 3 rfl) ?_
  refine kn_iconst (a := 1) C (by decide) dJ2_add_2_17 ?_
  refine kn_iadd C  dJ2_add_2_18 ?_
  refine k_put (S' := [[(a, .inr (10, [.int md, .ref q, .int (nI (0 + 1))]))], [(q, .inl (G.2.2.1 4, 10, .inr (.inr (.inr (.inr (va_up (fun _ => none) 0 (some e0)))))))]]) C clJ2 hW3 0 0 rfl rfl 2 (Nat.le_of_ble_eq_true rfl) rfl q154 rfl (fun _ h => h) (Or.inl rfl) (fty := .int) (v := .int (nI (0 + 1))) (by decide +kernel) rfl rfl (Nat.le_of_ble_eq_true rfl) dJ2_add_2_19 rfl (fun H4 locs4 hW4 => ?_)
  clear hW3
  exact k_vret C hW4 rfl ⟨rfl, q, by rw [show (va_up (fun _ => none) 0 (some e0) : Nat → Option Nat) = (fun i => [e0][i]?) from up_app [] e0 0 rfl]⟩ (by omega) (by omega) dJ2_add_2_22

def Q_ctJ2_add_2r (G : GT) (a q n cap e0 : Nat) (md : Int32) (xs : List Nat) : Option Value → List va_W → Prop := fun v S1 => v = none ∧ S1 = [[(a, .inr (10, [.int md, .ref q, .int (nI (n + 1))]))], [(q, .inl (G.2.2.1 4, cap, .inr (.inr (.inr (.inr (fun i => (xs ++ [e0])[i]?))))))]]
set_option maxHeartbeats 4000000 in
set_option maxRecDepth 100000 in
theorem ctJ2_add_2r (l : Launch) (G : GT) (a q n cap e0 : Nat) (md : Int32) (xs : List Nat) (hx : xs.length = n) (h1 : n < cap) (h2 : cap < 2 ^ 26) : Ct l G yJ2_add_2 cJ2_add_2 4 none 0 0 0 0 [.ref a, .ref e0, .ref q, .int (nI n)] ([[(a, .inr (10, [.int md, .ref q, .int (nI n)]))], [(q, .inl (G.2.2.1 4, cap, .inr (.inr (.inr (.inr (fun i => xs[i]?))))))]]) ((fun z => z = .inr e0)) (Q_ctJ2_add_2r G a q n cap e0 md xs) := by
  refine Ct.of (by decide +kernel) (Nat.le_of_ble_eq_true rfl) ?_
  intro p e s m below meth c A ls C hW hRo hl
  have hl : lv_has ls 4 [(0, .ref a), (1, .ref e0), (2, .ref q), (3, .int (nI n))] := hl
  refine lv_iload_n C.hx C.hb dJ2_add_2_0 rfl (lv_at hl 3 rfl) ?_
  refine lv_aload_n C.hx C.hb dJ2_add_2_1 rfl (lv_at hl 2 rfl) ?_
  refine k_alen C 4 rfl (hW.get 1 0 rfl rfl) dJ2_add_2_2 ?_
  refine kn_icmp_ne (tgt := 11) C (by omega) (by omega) dJ2_add_2_3 (by decide) (fun c3 => ?_) (fun c3 => (absurd c3 (by omega)))
  refine lv_aload_n C.hx C.hb dJ2_add_2_11 rfl (lv_at hl 2 rfl) ?_
  refine lv_iload_n C.hx C.hb dJ2_add_2_12 rfl (lv_at hl 3 rfl) ?_
  refine lv_aload_n C.hx C.hb dJ2_add_2_13 rfl (lv_at hl 1 rfl) ?_
  refine k_aast (S' := [[(a, .inr (10, [.int md, .ref q, .int (nI n)]))], [(q, .inl (G.2.2.1 4, cap, .inr (.inr (.inr (.inr (va_up (fun i => xs[i]?) n (some e0)))))))]]) C hW 1 0 rfl rfl rfl ((hRo (.inr e0) rfl).atI hW) (by omega) (by omega) dJ2_add_2_14 rfl (fun H1 locs1 hW1 => ?_)
  clear hW
  refine lv_aload_n C.hx C.hb dJ2_add_2_15 rfl (lv_at hl 0 rfl) ?_
  refine lv_iload_n C.hx C.hb dJ2_add_2_16 rfl (lv_at hl 3 rfl) ?_
  refine kn_iconst (a := 1) C (by decide) dJ2_add_2_17 ?_
  refine kn_iadd C  dJ2_add_2_18 ?_
  refine k_put (S' := [[(a, .inr (10, [.int md, .ref q, .int (nI (n + 1))]))], [(q, .inl (G.2.2.1 4, cap, .inr (.inr (.inr (.inr (va_up (fun i => xs[i]?) n (some e0)))))))]]) C clJ2 hW1 0 0 rfl rfl 2 (Nat.le_of_ble_eq_true rfl) rfl q154 rfl (fun _ h => h) (Or.inl rfl) (fty := .int) (v := .int (nI (n + 1))) (by decide +kernel) rfl rfl (Nat.le_of_ble_eq_true rfl) dJ2_add_2_19 rfl (fun H2 locs2 hW2 => ?_)
  clear hW1
  exact k_vret C hW2 rfl ⟨rfl, by rw [show (va_up (fun i => xs[i]?) n (some e0) : Nat → Option Nat) = (fun i => (xs ++ [e0])[i]?) from up_app xs e0 n hx]⟩ (Nat.le_refl _) (Nat.le_refl _) dJ2_add_2_22

def Q_ctJ2_add_2g (G : GT) (a q n e0 : Nat) (md : Int32) (xs : List Nat) : Option Value → List va_W → Prop := fun v S1 => v = none ∧ ∃ q2, S1 = [[(a, .inr (10, [.int md, .ref q2, .int (nI (n + 1))]))], [(q2, .inl (G.2.2.1 4, (n + n / 2), .inr (.inr (.inr (.inr (fun i => (xs ++ [e0])[i]?))))))]]
set_option maxHeartbeats 4000000 in
set_option maxRecDepth 100000 in
theorem ctJ2_add_2g (l : Launch) (G : GT) (a q n e0 : Nat) (md : Int32) (xs : List Nat) (hx : xs.length = n) (h1 : 10 ≤ n) (h2 : n < 2 ^ 25) : Ct l G yJ2_add_2 cJ2_add_2 4 none 5 116 1 ((n + n / 2)) [.ref a, .ref e0, .ref q, .int (nI n)] ([[(a, .inr (10, [.int md, .ref q, .int (nI n)]))], [(q, .inl (G.2.2.1 4, n, .inr (.inr (.inr (.inr (fun i => xs[i]?))))))]]) ((fun z => ∃ x ∈ e0 :: xs, z = .inr x)) (Q_ctJ2_add_2g G a q n e0 md xs) := by
  refine Ct.of (by decide +kernel) (Nat.le_of_ble_eq_true rfl) ?_
  intro p e s m below meth c A ls C hW hRo hl
  have hl : lv_has ls 4 [(0, .ref a), (1, .ref e0), (2, .ref q), (3, .int (nI n))] := hl
  refine lv_iload_n C.hx C.hb dJ2_add_2_0 rfl (lv_at hl 3 rfl) ?_
  refine lv_aload_n C.hx C.hb dJ2_add_2_1 rfl (lv_at hl 2 rfl) ?_
  refine k_alen C 4 rfl (hW.get 1 0 rfl rfl) dJ2_add_2_2 ?_
  refine kn_icmp_ne (tgt := 11) C (by omega) (by omega) dJ2_add_2_3 (by decide) (fun c3 => (absurd rfl c3)) (fun c3 => ?_)
  refine lv_aload_n C.hx C.hb dJ2_add_2_6 rfl (lv_at hl 0 rfl) ?_
  refine k_callV (Sc := [[(a, .inr (10, [.int md, .ref q, .int (nI n)]))], [(q, .inl (G.2.2.1 4, n, .inr (.inr (.inr (.inr (fun i => xs[i]?))))))]]) (Sr := []) (As := []) (rest := []) C (ctJ2_grow_g l G a q n md xs hx h1 h2) hW clJ2 (hW.get 0 0 rfl rfl) q1676 q1678 qs27 q75 q1679 rfl rfl ⟨by decide, by decide, Eq.trans (b := some 0) (by decide +kernel) rfl⟩ (Nat.le_of_ble_eq_true rfl) (Nat.le_of_ble_eq_true rfl) (show 0 + 1 ≤ 1 by omega) (show 0 + (n + n / 2) ≤ (n + n / 2) by omega) hl.1 rfl (Nat.le_of_ble_eq_true rfl) dJ2_add_2_7 ((pick_perm [[(a, .inr (10, [.int md, .ref q, .int (nI n)]))], [(q, .inl (G.2.2.1 4, n, .inr (.inr (.inr (.inr (fun i => xs[i]?))))))]] 2 rfl (is := [0, 1]) (by decide)).flatten.symm) (fun z hz => Or.inr (Or.inr (hRo z (by obtain ⟨x, hx, rfl⟩ := hz; exact ⟨x, List.mem_cons_of_mem _ hx, rfl⟩)))) (fun v H1 locs1 S1 hQ hz1 hW1 => ?_)
  obtain ⟨q2, rfl, rfl⟩ := hQ
  have hW1 : Ws G A s ([[(a, .inr (10, [.int md, .ref q2, .int (nI n)]))], [(q2, .inl (G.2.2.1 4, (n + n / 2), .inr (.inr (.inr (.inr (fun i => xs[i]?))))))]]) H1 locs1 := hW1
  clear hW
  refine W.eq (g2 := F0 m 10 ls [.ref q2]) rfl ?_
  refine lv_astore_n (lv' := [(2, .ref q2), (0, .ref a), (1, .ref e0), (3, .int (nI n))]) C.hx C.hb dJ2_add_2_10 rfl hl (Nat.le_of_ble_eq_true rfl) rfl (fun ls2 hl2 => ?_)
  clear hl
  refine lv_aload_n C.hx C.hb dJ2_add_2_11 rfl (lv_at hl2 0 rfl) ?_
  refine lv_iload_n C.hx C.hb dJ2_add_2_12 rfl (lv_at hl2 3 rfl) ?_
  refine lv_aload_n C.hx C.hb dJ2_add_2_13 rfl (lv_at hl2 2 rfl) ?_
  refine k_aast (S' := [[(a, .inr (10, [.int md, .ref q2, .int (nI n)]))], [(q2, .inl (G.2.2.1 4, (n + n / 2), .inr (.inr (.inr (.inr (va_up (fun i => xs[i]?) n (some e0)))))))]]) C hW1 1 0 rfl rfl rfl ((hRo (.inr e0) ⟨e0, List.mem_cons_self, rfl⟩).atI hW1) (by omega) (by omega) dJ2_add_2_14 rfl (fun H3 locs3 hW3 => ?_)
  clear hW1
  refine lv_aload_n C.hx C.hb dJ2_add_2_15 rfl (lv_at hl2 1 rfl) ?_
  refine lv_iload_n C.hx C.hb dJ2_add_2_16 rfl (lv_at hl2 3 rfl) ?_
  refine kn_iconst (a := 1) C (by decide) dJ2_add_2_17 ?_
  refine kn_iadd C  dJ2_add_2_18 ?_
  refine k_put (S' := [[(a, .inr (10, [.int md, .ref q2, .int (nI (n + 1))]))], [(q2, .inl (G.2.2.1 4, (n + n / 2), .inr (.inr (.inr (.inr (va_up (fun i => xs[i]?) n (some e0)))))))]]) C clJ2 hW3 0 0 rfl rfl 2 (Nat.le_of_ble_eq_true rfl) rfl q154 rfl (fun _ h => h) (Or.inl rfl) (fty := .int) (v := .int (nI (n + 1))) (by decide +kernel) rfl rfl (Nat.le_of_ble_eq_true rfl) dJ2_add_2_19 rfl (fun H4 locs4 hW4 => ?_)
  clear hW3
  exact k_vret C hW4 rfl ⟨rfl, q2, by rw [show (va_up (fun i => xs[i]?) n (some e0) : Nat → Option Nat) = (fun i => (xs ++ [e0])[i]?) from up_app xs e0 n hx]⟩ (by omega) (by omega) dJ2_add_2_22

def Q_ctJ2_add_e (G : GT) (a e0 : Nat) (md : Int32) : Option Value → List va_W → Prop := fun v S1 => v = some (.int (nI 1)) ∧ ∃ q2, S1 = [[(a, .inr (10, [.int (md + 1), .ref q2, .int (nI 1)]))], [(q2, .inl (G.2.2.1 4, 10, .inr (.inr (.inr (.inr (fun i => ([e0])[i]?))))))]]
set_option maxHeartbeats 4000000 in
set_option maxRecDepth 100000 in
theorem ctJ2_add_e (l : Launch) (G : GT) (a e0 : Nat) (md : Int32)  : Ct l G yJ2_add cJ2_add 2 (some .boolean) 4 87 1 10 [.ref a, .ref e0] ([[(a, .inr (10, [.int md, .ref (G.2.2.2 2), .int (nI 0)]))]]) ((fun z => z = .inr e0)) (Q_ctJ2_add_e G a e0 md) := by
  refine Ct.of (by decide +kernel) (Nat.le_of_ble_eq_true rfl) ?_
  intro p e s m below meth c A ls C hW hRo hl
  have hl : lv_has ls 2 [(0, .ref a), (1, .ref e0)] := hl
  refine lv_aload_n C.hx C.hb dJ2_add_0 rfl (lv_at hl 0 rfl) ?_
  refine lv_dup C.hx C.hb dJ2_add_1 rfl ?_
  refine k_getS (v := .int md) C clJ2 (hW.get 0 0 rfl rfl) 0 (Nat.le_of_ble_eq_true rfl) rfl q162 q159 k_same rfl rfl dJ2_add_2 ?_
  refine kn_iconst (a := 1) C (by decide) dJ2_add_5 ?_
  refine lv_iadd C.hx C.hb dJ2_add_6 ?_
  refine k_put (S' := [[(a, .inr (10, [.int (md + (nI 1)), .ref (G.2.2.2 2), .int (nI 0)]))]]) C clJ2 hW 0 0 rfl rfl 0 (Nat.le_of_ble_eq_true rfl) rfl q162 rfl (k_same (C.hts _ q159)) (Or.inl rfl) (fty := .int) (v := .int (md + (nI 1))) (by decide +kernel) rfl rfl (Nat.le_of_ble_eq_true rfl) dJ2_add_7 rfl (fun H1 locs1 hW1 => ?_)
  clear hW
  refine lv_aload_n C.hx C.hb dJ2_add_10 rfl (lv_at hl 0 rfl) ?_
  refine lv_aload_n C.hx C.hb dJ2_add_11 rfl (lv_at hl 1 rfl) ?_
  refine lv_aload_n C.hx C.hb dJ2_add_12 rfl (lv_at hl 0 rfl) ?_
  refine k_get (v := .ref (G.2.2.2 2)) C clJ2 (hW1.get 0 0 rfl rfl) 1 (Nat.le_of_ble_eq_true rfl) rfl q151 rfl rfl dJ2_add_13 ?_
  refine lv_aload_n C.hx C.hb dJ2_add_16 rfl (lv_at hl 0 rfl) ?_
  refine k_get (v := .int (nI 0)) C clJ2 (hW1.get 0 0 rfl rfl) 2 (Nat.le_of_ble_eq_true rfl) rfl q154 rfl rfl dJ2_add_17 ?_
  refine k_callV (Sc := [[(a, .inr (10, [.int (md + (nI 1)), .ref (G.2.2.2 2), .int (nI 0)]))]]) (Sr := []) (As := [.ref e0, .ref (G.2.2.2 2), .int (nI 0)]) (rest := []) C (ctJ2_add_2e l G a e0 (md + 1)) hW1 clJ2 (hW1.get 0 0 rfl rfl) q1672 q1674 qs26 q75 q1675 rfl rfl ⟨by decide, by decide, Eq.trans (b := some 3) (by decide +kernel) rfl⟩ (Nat.le_of_ble_eq_true rfl) (Nat.le_of_ble_eq_true rfl) (show 0 + 1 ≤ 1 by omega) (show 0 + 10 ≤ 10 by omega) hl.1 rfl (Nat.le_of_ble_eq_true rfl) dJ2_add_20 ((pick_perm [[(a, .inr (10, [.int (md + (nI 1)), .ref (G.2.2.2 2), .int (nI 0)]))]] 1 rfl (is := [0]) (by decide)).flatten.symm) (fun z hz => Or.inr (Or.inr (hRo z hz))) (fun v H2 locs2 S1 hQ hz2 hW2 => ?_)
  obtain ⟨rfl, q2, rfl⟩ := hQ
  have hW2 : Ws G A s ([[(a, .inr (10, [.int (md + 1), .ref q2, .int (nI 1)]))], [(q2, .inl (G.2.2.1 4, 10, .inr (.inr (.inr (.inr (fun i => ([e0])[i]?))))))]]) H2 locs2 := hW2
  clear hW1
  refine W.eq (g2 := F0 m 23 ls []) rfl ?_
  refine kn_iconst (a := 1) C (by decide) dJ2_add_23 ?_
  exact k_zret C hW2 rfl (by decide) ⟨rfl, _, rfl⟩ (by omega) (by omega) dJ2_add_24

def Q_ctJ2_add_r (G : GT) (a q n cap e0 : Nat) (md : Int32) (xs : List Nat) : Option Value → List va_W → Prop := fun v S1 => v = some (.int (nI 1)) ∧ S1 = [[(a, .inr (10, [.int (md + 1), .ref q, .int (nI (n + 1))]))], [(q, .inl (G.2.2.1 4, cap, .inr (.inr (.inr (.inr (fun i => (xs ++ [e0])[i]?))))))]]
set_option maxHeartbeats 4000000 in
set_option maxRecDepth 100000 in
theorem ctJ2_add_r (l : Launch) (G : GT) (a q n cap e0 : Nat) (md : Int32) (xs : List Nat) (hx : xs.length = n) (h1 : n < cap) (h2 : cap < 2 ^ 26) : Ct l G yJ2_add cJ2_add 2 (some .boolean) 1 23 0 0 [.ref a, .ref e0] ([[(a, .inr (10, [.int md, .ref q, .int (nI n)]))], [(q, .inl (G.2.2.1 4, cap, .inr (.inr (.inr (.inr (fun i => xs[i]?))))))]]) ((fun z => z = .inr e0)) (Q_ctJ2_add_r G a q n cap e0 md xs) := by
  refine Ct.of (by decide +kernel) (Nat.le_of_ble_eq_true rfl) ?_
  intro p e s m below meth c A ls C hW hRo hl
  have hl : lv_has ls 2 [(0, .ref a), (1, .ref e0)] := hl
  refine lv_aload_n C.hx C.hb dJ2_add_0 rfl (lv_at hl 0 rfl) ?_
  refine lv_dup C.hx C.hb dJ2_add_1 rfl ?_
  refine k_getS (v := .int md) C clJ2 (hW.get 0 0 rfl rfl) 0 (Nat.le_of_ble_eq_true rfl) rfl q162 q159 k_same rfl rfl dJ2_add_2 ?_
  refine kn_iconst (a := 1) C (by decide) dJ2_add_5 ?_
  refine lv_iadd C.hx C.hb dJ2_add_6 ?_
  refine k_put (S' := [[(a, .inr (10, [.int (md + (nI 1)), .ref q, .int (nI n)]))], [(q, .inl (G.2.2.1 4, cap, .inr (.inr (.inr (.inr (fun i => xs[i]?))))))]]) C clJ2 hW 0 0 rfl rfl 0 (Nat.le_of_ble_eq_true rfl) rfl q162 rfl (k_same (C.hts _ q159)) (Or.inl rfl) (fty := .int) (v := .int (md + (nI 1))) (by decide +kernel) rfl rfl (Nat.le_of_ble_eq_true rfl) dJ2_add_7 rfl (fun H1 locs1 hW1 => ?_)
  clear hW
  refine lv_aload_n C.hx C.hb dJ2_add_10 rfl (lv_at hl 0 rfl) ?_
  refine lv_aload_n C.hx C.hb dJ2_add_11 rfl (lv_at hl 1 rfl) ?_
  refine lv_aload_n C.hx C.hb dJ2_add_12 rfl (lv_at hl 0 rfl) ?_
  refine k_get (v := .ref q) C clJ2 (hW1.get 0 0 rfl rfl) 1 (Nat.le_of_ble_eq_true rfl) rfl q151 rfl rfl dJ2_add_13 ?_
  refine lv_aload_n C.hx C.hb dJ2_add_16 rfl (lv_at hl 0 rfl) ?_
  refine k_get (v := .int (nI n)) C clJ2 (hW1.get 0 0 rfl rfl) 2 (Nat.le_of_ble_eq_true rfl) rfl q154 rfl rfl dJ2_add_17 ?_
  refine k_callV (Sc := [[(a, .inr (10, [.int (md + (nI 1)), .ref q, .int (nI n)]))], [(q, .inl (G.2.2.1 4, cap, .inr (.inr (.inr (.inr (fun i => xs[i]?))))))]]) (Sr := []) (As := [.ref e0, .ref q, .int (nI n)]) (rest := []) C (ctJ2_add_2r l G a q n cap e0 (md + 1) xs hx h1 h2) hW1 clJ2 (hW1.get 0 0 rfl rfl) q1672 q1674 qs26 q75 q1675 rfl rfl ⟨by decide, by decide, Eq.trans (b := some 3) (by decide +kernel) rfl⟩ (Nat.le_of_ble_eq_true rfl) (Nat.le_of_ble_eq_true rfl) (Nat.le_refl _) (Nat.le_refl _) hl.1 rfl (Nat.le_of_ble_eq_true rfl) dJ2_add_20 ((pick_perm [[(a, .inr (10, [.int (md + (nI 1)), .ref q, .int (nI n)]))], [(q, .inl (G.2.2.1 4, cap, .inr (.inr (.inr (.inr (fun i => xs[i]?))))))]] 2 rfl (is := [0, 1]) (by decide)).flatten.symm) (fun z hz => Or.inr (Or.inr (hRo z hz))) (fun v H2 locs2 S1 hQ hz2 hW2 => ?_)
  obtain ⟨rfl, rfl⟩ := hQ
  have hW2 : Ws G A s ([[(a, .inr (10, [.int (md + 1), .ref q, .int (nI (n + 1))]))], [(q, .inl (G.2.2.1 4, cap, .inr (.inr (.inr (.inr (fun i => (xs ++ [e0])[i]?))))))]]) H2 locs2 := hW2
  clear hW1
  refine W.eq (g2 := F0 m 23 ls []) rfl ?_
  refine kn_iconst (a := 1) C (by decide) dJ2_add_23 ?_
  exact k_zret C hW2 rfl (by decide) ⟨rfl, rfl⟩ (Nat.le_refl _) (Nat.le_refl _) dJ2_add_24

def Q_ctJ2_add_g (G : GT) (a q n e0 : Nat) (md : Int32) (xs : List Nat) : Option Value → List va_W → Prop := fun v S1 => v = some (.int (nI 1)) ∧ ∃ q2, S1 = [[(a, .inr (10, [.int (md + 1), .ref q2, .int (nI (n + 1))]))], [(q2, .inl (G.2.2.1 4, (n + n / 2), .inr (.inr (.inr (.inr (fun i => (xs ++ [e0])[i]?))))))]]
set_option maxHeartbeats 4000000 in
set_option maxRecDepth 100000 in
theorem ctJ2_add_g (l : Launch) (G : GT) (a q n e0 : Nat) (md : Int32) (xs : List Nat) (hx : xs.length = n) (h1 : 10 ≤ n) (h2 : n < 2 ^ 25) : Ct l G yJ2_add cJ2_add 2 (some .boolean) 6 139 1 ((n + n / 2)) [.ref a, .ref e0] ([[(a, .inr (10, [.int md, .ref q, .int (nI n)]))], [(q, .inl (G.2.2.1 4, n, .inr (.inr (.inr (.inr (fun i => xs[i]?))))))]]) ((fun z => ∃ x ∈ e0 :: xs, z = .inr x)) (Q_ctJ2_add_g G a q n e0 md xs) := by
  refine Ct.of (by decide +kernel) (Nat.le_of_ble_eq_true rfl) ?_
  intro p e s m below meth c A ls C hW hRo hl
  have hl : lv_has ls 2 [(0, .ref a), (1, .ref e0)] := hl
  refine lv_aload_n C.hx C.hb dJ2_add_0 rfl (lv_at hl 0 rfl) ?_
  refine lv_dup C.hx C.hb dJ2_add_1 rfl ?_
  refine k_getS (v := .int md) C clJ2 (hW.get 0 0 rfl rfl) 0 (Nat.le_of_ble_eq_true rfl) rfl q162 q159 k_same rfl rfl dJ2_add_2 ?_
  refine kn_iconst (a := 1) C (by decide) dJ2_add_5 ?_
  refine lv_iadd C.hx C.hb dJ2_add_6 ?_
  refine k_put (S' := [[(a, .inr (10, [.int (md + (nI 1)), .ref q, .int (nI n)]))], [(q, .inl (G.2.2.1 4, n, .inr (.inr (.inr (.inr (fun i => xs[i]?))))))]]) C clJ2 hW 0 0 rfl rfl 0 (Nat.le_of_ble_eq_true rfl) rfl q162 rfl (k_same (C.hts _ q159)) (Or.inl rfl) (fty := .int) (v := .int (md + (nI 1))) (by decide +kernel) rfl rfl (Nat.le_of_ble_eq_true rfl) dJ2_add_7 rfl (fun H1 locs1 hW1 => ?_)
  clear hW
  refine lv_aload_n C.hx C.hb dJ2_add_10 rfl (lv_at hl 0 rfl) ?_
  refine lv_aload_n C.hx C.hb dJ2_add_11 rfl (lv_at hl 1 rfl) ?_
  refine lv_aload_n C.hx C.hb dJ2_add_12 rfl (lv_at hl 0 rfl) ?_
  refine k_get (v := .ref q) C clJ2 (hW1.get 0 0 rfl rfl) 1 (Nat.le_of_ble_eq_true rfl) rfl q151 rfl rfl dJ2_add_13 ?_
  refine lv_aload_n C.hx C.hb dJ2_add_16 rfl (lv_at hl 0 rfl) ?_
  refine k_get (v := .int (nI n)) C clJ2 (hW1.get 0 0 rfl rfl) 2 (Nat.le_of_ble_eq_true rfl) rfl q154 rfl rfl dJ2_add_17 ?_
  refine k_callV (Sc := [[(a, .inr (10, [.int (md + (nI 1)), .ref q, .int (nI n)]))], [(q, .inl (G.2.2.1 4, n, .inr (.inr (.inr (.inr (fun i => xs[i]?))))))]]) (Sr := []) (As := [.ref e0, .ref q, .int (nI n)]) (rest := []) C (ctJ2_add_2g l G a q n e0 (md + 1) xs hx h1 h2) hW1 clJ2 (hW1.get 0 0 rfl rfl) q1672 q1674 qs26 q75 q1675 rfl rfl ⟨by decide, by decide, Eq.trans (b := some 3) (by decide +kernel) rfl⟩ (Nat.le_of_ble_eq_true rfl) (Nat.le_of_ble_eq_true rfl) (show 0 + 1 ≤ 1 by omega) (show 0 + (n + n / 2) ≤ (n + n / 2) by omega) hl.1 rfl (Nat.le_of_ble_eq_true rfl) dJ2_add_20 ((pick_perm [[(a, .inr (10, [.int (md + (nI 1)), .ref q, .int (nI n)]))], [(q, .inl (G.2.2.1 4, n, .inr (.inr (.inr (.inr (fun i => xs[i]?))))))]] 2 rfl (is := [0, 1]) (by decide)).flatten.symm) (fun z hz => Or.inr (Or.inr (hRo z hz))) (fun v H2 locs2 S1 hQ hz2 hW2 => ?_)
  obtain ⟨rfl, q2, rfl⟩ := hQ
  have hW2 : Ws G A s ([[(a, .inr (10, [.int (md + 1), .ref q2, .int (nI (n + 1))]))], [(q2, .inl (G.2.2.1 4, (n + n / 2), .inr (.inr (.inr (.inr (fun i => (xs ++ [e0])[i]?))))))]]) H2 locs2 := hW2
  clear hW1
  refine W.eq (g2 := F0 m 23 ls []) rfl ?_
  refine kn_iconst (a := 1) C (by decide) dJ2_add_23 ?_
  exact k_zret C hW2 rfl (by decide) ⟨rfl, _, rfl⟩ (by omega) (by omega) dJ2_add_24

def Q_ctJ2_elementData (G : GT) (a q n cap i x : Nat) (md : Int32) (xs : List Nat) : Option Value → List va_W → Prop := fun v S1 => v = some (.ref x) ∧ S1 = []
set_option maxHeartbeats 4000000 in
set_option maxRecDepth 100000 in
theorem ctJ2_elementData (l : Launch) (G : GT) (a q n cap i x : Nat) (md : Int32) (xs : List Nat) (hi : xs[i]? = some x) (hx : xs.length = n) (h1 : n ≤ cap) (h2 : cap < 2 ^ 26) : Ct l G yJ2_elementData cJ2_elementData 2 (some (.object "java/lang/Object")) 0 0 0 0 [.ref a, .int (nI i)] ([]) ((fun z => z = .inl (a, .inr (10, [.int md, .ref q, .int (nI n)])) ∨ z = .inl (q, .inl (G.2.2.1 4, cap, .inr (.inr (.inr (.inr (fun i => xs[i]?)))))))) (Q_ctJ2_elementData G a q n cap i x md xs) := by
  refine Ct.of (by decide +kernel) (Nat.le_of_ble_eq_true rfl) ?_
  intro p e s m below meth c A ls C hW hRo hl
  have hl : lv_has ls 2 [(0, .ref a), (1, .int (nI i))] := hl
  have hin : i < n := by rw [← hx]; exact (List.getElem?_eq_some_iff.mp hi).1
  refine lv_aload_n C.hx C.hb dJ2_elementData_0 rfl (lv_at hl 0 rfl) ?_
  refine k_get (v := .ref q) C clJ2 ((hRo _ (Or.inl rfl)).at hW) 1 (Nat.le_of_ble_eq_true rfl) rfl q151 rfl rfl dJ2_elementData_1 ?_
  refine lv_iload_n C.hx C.hb dJ2_elementData_4 rfl (lv_at hl 1 rfl) ?_
  refine k_aaldS C (f := (fun i => xs[i]?)) 4 rfl ((hRo _ (Or.inr rfl)).at hW) (by omega) (by omega) hi dJ2_elementData_5 ?_
  exact k_aret C hW rfl (Or.inl ⟨_, rfl⟩) (Or.inr ⟨_, rfl⟩) ⟨rfl, rfl⟩ (Nat.le_refl _) (Nat.le_refl _) dJ2_elementData_6

def Q_ctJ25_checkIndex (G : GT) (i n : Nat) : Option Value → List va_W → Prop := fun v S1 => v = some (.int (nI i)) ∧ S1 = []
set_option maxHeartbeats 4000000 in
set_option maxRecDepth 100000 in
theorem ctJ25_checkIndex (l : Launch) (G : GT) (i n : Nat) (hi : i < n) (hn : n < 2 ^ 31) : Ct l G yJ25_checkIndex cJ25_checkIndex 3 (some .int) 0 0 0 0 [.int (nI i), .int (nI n), .null] ([]) noR (Q_ctJ25_checkIndex G i n) := by
  refine Ct.of (by decide +kernel) (Nat.le_of_ble_eq_true rfl) ?_
  intro p e s m below meth c A ls C hW hRo hl
  have hl : lv_has ls 3 [(0, .int (nI i)), (1, .int (nI n)), (2, .null)] := hl
  refine lv_iload_n C.hx C.hb dJ25_checkIndex_0 rfl (lv_at hl 0 rfl) ?_
  refine kn_if_lt (tgt := 9) C (by omega) dJ25_checkIndex_1 (by decide) ?_
  refine lv_iload_n C.hx C.hb dJ25_checkIndex_4 rfl (lv_at hl 0 rfl) ?_
  refine lv_iload_n C.hx C.hb dJ25_checkIndex_5 rfl (lv_at hl 1 rfl) ?_
  refine kn_icmp_lt (tgt := 16) C (by omega) (by omega) dJ25_checkIndex_6 (by decide) (fun c6 => ?_) (fun c6 => (absurd hi c6))
  refine lv_iload_n C.hx C.hb dJ25_checkIndex_16 rfl (lv_at hl 0 rfl) ?_
  exact k_iret C hW rfl ⟨rfl, rfl⟩ (Nat.le_refl _) (Nat.le_refl _) dJ25_checkIndex_17

def Q_ctJ17_checkIndex (G : GT) (i n : Nat) : Option Value → List va_W → Prop := fun v S1 => v = some (.int (nI i)) ∧ S1 = []
set_option maxHeartbeats 4000000 in
set_option maxRecDepth 100000 in
theorem ctJ17_checkIndex (l : Launch) (G : GT) (i n : Nat) (hi : i < n) (hn : n < 2 ^ 31) : Ct l G yJ17_checkIndex cJ17_checkIndex 2 (some .int) 1 22 0 0 [.int (nI i), .int (nI n)] ([]) noR (Q_ctJ17_checkIndex G i n) := by
  refine Ct.of (by decide +kernel) (Nat.le_of_ble_eq_true rfl) ?_
  intro p e s m below meth c A ls C hW hRo hl
  have hl : lv_has ls 2 [(0, .int (nI i)), (1, .int (nI n))] := hl
  refine lv_iload_n C.hx C.hb dJ17_checkIndex_0 rfl (lv_at hl 0 rfl) ?_
  refine lv_iload_n C.hx C.hb dJ17_checkIndex_1 rfl (lv_at hl 1 rfl) ?_
  refine lv_null C.hx C.hb dJ17_checkIndex_2 ?_
  refine k_callS (Sc := []) (Sr := []) (As := [.int (nI i), .int (nI n), .null]) (rest := []) C (ctJ25_checkIndex l G i n hi hn) hW q884 q885 q103 q886 rfl ⟨by decide, by decide, Eq.trans (b := some 3) (by decide +kernel) rfl⟩ (Nat.le_of_ble_eq_true rfl) (Nat.le_of_ble_eq_true rfl) (Nat.le_refl _) (Nat.le_refl _) hl.1 rfl (Nat.le_of_ble_eq_true rfl) dJ17_checkIndex_3 (k_permR _) (fun _ h => h.elim) (fun v H1 locs1 S1 hQ hz1 hW1 => ?_)
  obtain ⟨rfl, rfl⟩ := hQ
  have hW1 : Ws G A s ([]) H1 locs1 := hW1
  clear hW
  refine W.eq (g2 := F0 m 6 ls [.int (nI i)]) rfl ?_
  exact k_iret C hW1 rfl ⟨rfl, rfl⟩ (Nat.le_refl _) (Nat.le_refl _) dJ17_checkIndex_6

def Q_ctJ2_get (G : GT) (a q n cap i x : Nat) (md : Int32) (xs : List Nat) : Option Value → List va_W → Prop := fun v S1 => v = some (.ref x) ∧ S1 = []
set_option maxHeartbeats 4000000 in
set_option maxRecDepth 100000 in
theorem ctJ2_get (l : Launch) (G : GT) (a q n cap i x : Nat) (md : Int32) (xs : List Nat) (hi : xs[i]? = some x) (hx : xs.length = n) (h1 : n ≤ cap) (h2 : cap < 2 ^ 26) : Ct l G yJ2_get cJ2_get 2 (some (.object "java/lang/Object")) 2 43 0 0 [.ref a, .int (nI i)] ([]) ((fun z => z = .inl (a, .inr (10, [.int md, .ref q, .int (nI n)])) ∨ z = .inl (q, .inl (G.2.2.1 4, cap, .inr (.inr (.inr (.inr (fun i => xs[i]?)))))))) (Q_ctJ2_get G a q n cap i x md xs) := by
  refine Ct.of (by decide +kernel) (Nat.le_of_ble_eq_true rfl) ?_
  intro p e s m below meth c A ls C hW hRo hl
  have hl : lv_has ls 2 [(0, .ref a), (1, .int (nI i))] := hl
  have hin : i < n := by rw [← hx]; exact (List.getElem?_eq_some_iff.mp hi).1
  refine lv_iload_n C.hx C.hb dJ2_get_0 rfl (lv_at hl 1 rfl) ?_
  refine lv_aload_n C.hx C.hb dJ2_get_1 rfl (lv_at hl 0 rfl) ?_
  refine k_get (v := .int (nI n)) C clJ2 ((hRo _ (Or.inl rfl)).at hW) 2 (Nat.le_of_ble_eq_true rfl) rfl q154 rfl rfl dJ2_get_2 ?_
  refine k_callS (Sc := []) (Sr := []) (As := [.int (nI i), .int (nI n)]) (rest := []) C (ctJ17_checkIndex l G i n hin (by omega)) hW q881 q882 q94 q883 rfl ⟨by decide, by decide, Eq.trans (b := some 2) (by decide +kernel) rfl⟩ (Nat.le_of_ble_eq_true rfl) (Nat.le_of_ble_eq_true rfl) (Nat.le_refl _) (Nat.le_refl _) hl.1 rfl (Nat.le_of_ble_eq_true rfl) dJ2_get_5 (k_permR _) (fun _ h => h.elim) (fun v H1 locs1 S1 hQ hz1 hW1 => ?_)
  obtain ⟨rfl, rfl⟩ := hQ
  have hW1 : Ws G A s ([]) H1 locs1 := hW1
  clear hW
  refine W.eq (g2 := F0 m 8 ls [.int (nI i)]) rfl ?_
  refine lv_pop C.hx C.hb dJ2_get_8 rfl ?_
  refine lv_aload_n C.hx C.hb dJ2_get_9 rfl (lv_at hl 0 rfl) ?_
  refine lv_iload_n C.hx C.hb dJ2_get_10 rfl (lv_at hl 1 rfl) ?_
  refine k_callV (Sc := []) (Sr := []) (As := [.int (nI i)]) (rest := []) C (ctJ2_elementData l G a q n cap i x md xs hi hx h1 h2) hW1 clJ2 ((hRo _ (Or.inl rfl)).at hW1) q887 q888 q889 q75 q890 rfl rfl ⟨by decide, by decide, Eq.trans (b := some 1) (by decide +kernel) rfl⟩ (Nat.le_of_ble_eq_true rfl) (Nat.le_of_ble_eq_true rfl) (Nat.le_refl _) (Nat.le_refl _) hl.1 rfl (Nat.le_of_ble_eq_true rfl) dJ2_get_11 (k_permR _) (fun z => (fun hz => hz.elim (fun e => by cases e; exact Or.inr (Or.inr (hRo _ (Or.inl rfl)))) (fun e => by cases e; exact Or.inr (Or.inr (hRo _ (Or.inr rfl)))))) (fun v H2 locs2 S1 hQ hz2 hW2 => ?_)
  obtain ⟨rfl, rfl⟩ := hQ
  have hW2 : Ws G A s ([]) H2 locs2 := hW2
  clear hW1
  refine W.eq (g2 := F0 m 14 ls [.ref x]) rfl ?_
  exact k_aret C hW2 rfl (Or.inl ⟨_, rfl⟩) (Or.inr ⟨_, rfl⟩) ⟨rfl, rfl⟩ (Nat.le_refl _) (Nat.le_refl _) dJ2_get_14

def Q_ctJ2_size (G : GT) (a n : Nat) (md : Int32) (qo : Option Nat) : Option Value → List va_W → Prop := fun v S1 => v = some (.int (nI n)) ∧ S1 = []
set_option maxHeartbeats 4000000 in
set_option maxRecDepth 100000 in
theorem ctJ2_size (l : Launch) (G : GT) (a n : Nat) (md : Int32) (qo : Option Nat)  : Ct l G yJ2_size cJ2_size 1 (some .int) 0 0 0 0 [.ref a] ([]) ((fun z => z = .inl (a, .inr (10, [.int md, vr qo, .int (nI n)])))) (Q_ctJ2_size G a n md qo) := by
  refine Ct.of (by decide +kernel) (Nat.le_of_ble_eq_true rfl) ?_
  intro p e s m below meth c A ls C hW hRo hl
  have hl : lv_has ls 1 [(0, .ref a)] := hl
  refine lv_aload_n C.hx C.hb dJ2_size_0 rfl (lv_at hl 0 rfl) ?_
  refine k_get (v := .int (nI n)) C clJ2 ((hRo _ rfl).at hW) 2 (Nat.le_of_ble_eq_true rfl) rfl q154 rfl rfl dJ2_size_1 ?_
  exact k_iret C hW rfl ⟨rfl, rfl⟩ (Nat.le_refl _) (Nat.le_refl _) dJ2_size_4

def Q_ctJ32_init (G : GT) (q0 a n : Nat) (md : Int32) (qo : Option Nat) : Option Value → List va_W → Prop := fun v S1 => v = none ∧ S1 = [[(q0, .inr (21, [.int 0, .int (nI NONE), .int md, .ref a]))]]
set_option maxHeartbeats 4000000 in
set_option maxRecDepth 100000 in
theorem ctJ32_init (l : Launch) (G : GT) (q0 a n : Nat) (md : Int32) (qo : Option Nat)  : Ct l G yJ32_init cJ32_init 2 none 1 20 0 0 [.ref q0, .ref a] ([[(q0, .inr (21, [.int 0, .int 0, .int 0, .null]))]]) ((fun z => z = .inl (a, .inr (10, [.int md, vr qo, .int (nI n)])))) (Q_ctJ32_init G q0 a n md qo) := by
  refine Ct.of (by decide +kernel) (Nat.le_of_ble_eq_true rfl) ?_
  intro p e s m below meth c A ls C hW hRo hl
  have hl : lv_has ls 2 [(0, .ref q0), (1, .ref a)] := hl
  refine lv_aload_n C.hx C.hb dJ32_init_0 rfl (lv_at hl 0 rfl) ?_
  refine lv_aload_n C.hx C.hb dJ32_init_1 rfl (lv_at hl 1 rfl) ?_
  refine k_put (S' := [[(q0, .inr (21, [.int 0, .int 0, .int 0, .ref a]))]]) C clJ32 hW 0 0 rfl rfl 3 (Nat.le_of_ble_eq_true rfl) rfl q390 rfl (fun _ h => h) (Or.inr ⟨rfl, rfl⟩) (fty := (.object "java/util/ArrayList")) (v := .ref a) (by decide +kernel) rfl rfl (Nat.le_of_ble_eq_true rfl) dJ32_init_2 rfl (fun H1 locs1 hW1 => ?_)
  clear hW
  refine lv_aload_n C.hx C.hb dJ32_init_5 rfl (lv_at hl 0 rfl) ?_
  refine W.objInit C.hx C.hb C.hown (C.hts _ q384) (C.hts _ q133) (C.hts _ q134) rfl (by rw [C.hml]; exact hl.1) rfl dJ32_init_6 (Nat.le_of_ble_eq_true rfl) (Nat.le_of_ble_eq_true rfl) ?_
  refine W.eq (g2 := F0 m 9 ls []) rfl ?_
  refine lv_aload_n C.hx C.hb dJ32_init_9 rfl (lv_at hl 0 rfl) ?_
  refine lv_iconst (v := nI NONE) C.hx C.hb dJ32_init_10 (by decide) ?_
  refine k_put (S' := [[(q0, .inr (21, [.int 0, .int (nI NONE), .int 0, .ref a]))]]) C clJ32 hW1 0 0 rfl rfl 1 (Nat.le_of_ble_eq_true rfl) rfl q388 rfl (fun _ h => h) (Or.inr ⟨rfl, rfl⟩) (fty := .int) (v := .int (nI NONE)) (by decide +kernel) rfl rfl (Nat.le_of_ble_eq_true rfl) dJ32_init_11 rfl (fun H2 locs2 hW2 => ?_)
  clear hW1
  refine lv_aload_n C.hx C.hb dJ32_init_14 rfl (lv_at hl 0 rfl) ?_
  refine lv_aload_n C.hx C.hb dJ32_init_15 rfl (lv_at hl 0 rfl) ?_
  refine k_get (v := .ref a) C clJ32 (hW2.get 0 0 rfl rfl) 3 (Nat.le_of_ble_eq_true rfl) rfl q390 rfl rfl dJ32_init_16 ?_
  refine k_getS (v := .int md) C clJ2 ((hRo _ rfl).at hW2) 0 (Nat.le_of_ble_eq_true rfl) rfl q158 q159 k_same rfl rfl dJ32_init_19 ?_
  refine k_put (S' := [[(q0, .inr (21, [.int 0, .int (nI NONE), .int md, .ref a]))]]) C clJ32 hW2 0 0 rfl rfl 2 (Nat.le_of_ble_eq_true rfl) rfl q389 rfl (fun _ h => h) (Or.inr ⟨rfl, rfl⟩) (fty := .int) (v := .int md) (by decide +kernel) rfl rfl (Nat.le_of_ble_eq_true rfl) dJ32_init_22 rfl (fun H3 locs3 hW3 => ?_)
  clear hW2
  exact k_vret C hW3 rfl ⟨rfl, rfl⟩ (Nat.le_refl _) (Nat.le_refl _) dJ32_init_25

def Q_ctJ2_iterator (G : GT) (a n : Nat) (md : Int32) (qo : Option Nat) : Option Value → List va_W → Prop := fun v S1 => ∃ q0, v = some (.ref q0) ∧ S1 = [[(q0, .inr (21, [.int (nI 0), .int (nI NONE), .int md, .ref a]))]]
set_option maxHeartbeats 4000000 in
set_option maxRecDepth 100000 in
theorem ctJ2_iterator (l : Launch) (G : GT) (a n : Nat) (md : Int32) (qo : Option Nat)  : Ct l G yJ2_iterator cJ2_iterator 1 (some (.object "java/util/Iterator")) 2 41 1 4 [.ref a] ([]) ((fun z => z = .inl (a, .inr (10, [.int md, vr qo, .int (nI n)])))) (Q_ctJ2_iterator G a n md qo) := by
  refine Ct.of (by decide +kernel) (Nat.le_of_ble_eq_true rfl) ?_
  intro p e s m below meth c A ls C hW hRo hl
  have hl : lv_has ls 1 [(0, .ref a)] := hl
  refine k_new (fs := [.int 0, .int 0, .int 0, .null]) C clJ32 hW q379 rfl q380 q114 (fun j hj => (by have := co_dec (P := fun j => defaultValue (tyJ32 j) = vp_V [.int 0, .int 0, .int 0, .null] j) (N := 4) (by decide +kernel) hj; exact this)) (show 0 + 1 ≤ 1 by omega) (show 0 + 4 ≤ 4 by omega) dJ2_iterator_0 (fun q1 H1 hW1 => ?_)
  have hW1 : Ws G A s [[(q1, .inr (21, [.int 0, .int 0, .int 0, .null]))]] H1 [] := hW1
  clear hW
  refine lv_dup C.hx C.hb dJ2_iterator_3 rfl ?_
  refine lv_aload_n C.hx C.hb dJ2_iterator_4 rfl (lv_at hl 0 rfl) ?_
  refine k_callI (Sc := [[(q1, .inr (21, [.int 0, .int 0, .int 0, .null]))]]) (Sr := []) (As := [.ref a]) (rest := [.ref q1]) C (ctJ32_init l G q1 a n md qo) hW1 q381 q382 q114 q383 rfl rfl ⟨by decide, by decide, Eq.trans (b := some 1) (by decide +kernel) rfl⟩ (Nat.le_of_ble_eq_true rfl) (Nat.le_of_ble_eq_true rfl) (show 1 + 0 ≤ 1 by omega) (show 4 + 0 ≤ 4 by omega) hl.1 rfl (Nat.le_of_ble_eq_true rfl) dJ2_iterator_5 ((pick_perm [[(q1, .inr (21, [.int 0, .int 0, .int 0, .null]))]] 1 rfl (is := [0]) (by decide)).flatten.symm) (fun z hz => by cases hz; exact Or.inr (Or.inr (hRo _ rfl))) (fun v H2 locs2 S1 hQ hz2 hW2 => ?_)
  obtain ⟨rfl, rfl⟩ := hQ
  have hW2 : Ws G A s ([[(q1, .inr (21, [.int (nI 0), .int (nI NONE), .int md, .ref a]))]]) H2 locs2 := hW2
  clear hW1
  refine W.eq (g2 := F0 m 8 ls [.ref q1]) rfl ?_
  exact k_aret C hW2 rfl (Or.inl ⟨_, rfl⟩) (Or.inr ⟨_, rfl⟩) ⟨_, rfl, rfl⟩ (by omega) (by omega) dJ2_iterator_8

def Q_ctJ32_hasNext (G : GT) (q0 a n i lr : Nat) (md : Int32) (qo : Option Nat) : Option Value → List va_W → Prop := fun v S1 => v = some (.int (b01 (i ≠ n))) ∧ S1 = [[(q0, .inr (21, [.int (nI i), .int (nI lr), .int md, .ref a]))]]
set_option maxHeartbeats 4000000 in
set_option maxRecDepth 100000 in
theorem ctJ32_hasNext (l : Launch) (G : GT) (q0 a n i lr : Nat) (md : Int32) (qo : Option Nat) (hi : i < 2 ^ 31) (hn : n < 2 ^ 31) : Ct l G yJ32_hasNext cJ32_hasNext 1 (some .boolean) 0 0 0 0 [.ref q0] ([[(q0, .inr (21, [.int (nI i), .int (nI lr), .int md, .ref a]))]]) ((fun z => z = .inl (a, .inr (10, [.int md, vr qo, .int (nI n)])))) (Q_ctJ32_hasNext G q0 a n i lr md qo) := by
  refine Ct.of (by decide +kernel) (Nat.le_of_ble_eq_true rfl) ?_
  intro p e s m below meth c A ls C hW hRo hl
  have hl : lv_has ls 1 [(0, .ref q0)] := hl
  refine lv_aload_n C.hx C.hb dJ32_hasNext_0 rfl (lv_at hl 0 rfl) ?_
  refine k_get (v := .int (nI i)) C clJ32 (hW.get 0 0 rfl rfl) 0 (Nat.le_of_ble_eq_true rfl) rfl q387 rfl rfl dJ32_hasNext_1 ?_
  refine lv_aload_n C.hx C.hb dJ32_hasNext_4 rfl (lv_at hl 0 rfl) ?_
  refine k_get (v := .ref a) C clJ32 (hW.get 0 0 rfl rfl) 3 (Nat.le_of_ble_eq_true rfl) rfl q390 rfl rfl dJ32_hasNext_5 ?_
  refine k_getN (v := .int (nI n)) C clJ2 ((hRo _ rfl).at hW) 2 (Nat.le_of_ble_eq_true rfl) rfl q153 rfl rfl dJ32_hasNext_8 ?_
  refine kn_icmp_eq (tgt := 18) C (by omega) (by omega) dJ32_hasNext_11 (by decide) (fun c11 => ?_) (fun c11 => ?_)
  · refine kn_iconst (a := 0) C (by decide) dJ32_hasNext_18 ?_
    exact k_zret C hW rfl (by decide) ⟨by simp [b01, c11]; rfl, rfl⟩ (Nat.le_refl _) (Nat.le_refl _) dJ32_hasNext_19
  · refine kn_iconst (a := 1) C (by decide) dJ32_hasNext_14 ?_
    refine lv_goto (tgt := 19) C.hx C.hb dJ32_hasNext_15 (by decide) ?_
    exact k_zret C hW rfl (by decide) ⟨by simp [b01, c11]; rfl, rfl⟩ (Nat.le_refl _) (Nat.le_refl _) dJ32_hasNext_19

def Q_ctJ32_checkForComodification (G : GT) (q0 a n i lr : Nat) (md : Int32) (qo : Option Nat) : Option Value → List va_W → Prop := fun v S1 => v = none ∧ S1 = [[(q0, .inr (21, [.int (nI i), .int (nI lr), .int md, .ref a]))]]
set_option maxHeartbeats 4000000 in
set_option maxRecDepth 100000 in
theorem ctJ32_checkForComodification (l : Launch) (G : GT) (q0 a n i lr : Nat) (md : Int32) (qo : Option Nat)  : Ct l G yJ32_checkForComodification cJ32_checkForComodification 1 none 0 0 0 0 [.ref q0] ([[(q0, .inr (21, [.int (nI i), .int (nI lr), .int md, .ref a]))]]) ((fun z => z = .inl (a, .inr (10, [.int md, vr qo, .int (nI n)])))) (Q_ctJ32_checkForComodification G q0 a n i lr md qo) := by
  refine Ct.of (by decide +kernel) (Nat.le_of_ble_eq_true rfl) ?_
  intro p e s m below meth c A ls C hW hRo hl
  have hl : lv_has ls 1 [(0, .ref q0)] := hl
  refine lv_aload_n C.hx C.hb dJ32_checkForComodification_0 rfl (lv_at hl 0 rfl) ?_
  refine k_get (v := .ref a) C clJ32 (hW.get 0 0 rfl rfl) 3 (Nat.le_of_ble_eq_true rfl) rfl q390 rfl rfl dJ32_checkForComodification_1 ?_
  refine k_getS (v := .int md) C clJ2 ((hRo _ rfl).at hW) 0 (Nat.le_of_ble_eq_true rfl) rfl q158 q159 k_same rfl rfl dJ32_checkForComodification_4 ?_
  refine lv_aload_n C.hx C.hb dJ32_checkForComodification_7 rfl (lv_at hl 0 rfl) ?_
  refine k_get (v := .int md) C clJ32 (hW.get 0 0 rfl rfl) 2 (Nat.le_of_ble_eq_true rfl) rfl q389 rfl rfl dJ32_checkForComodification_8 ?_
  refine lv_icmp_eq (tgt := 22) C.hx C.hb dJ32_checkForComodification_11 (by decide) (fun c11 => ?_) (fun c11 => (absurd rfl c11))
  exact k_vret C hW rfl ⟨rfl, rfl⟩ (Nat.le_refl _) (Nat.le_refl _) dJ32_checkForComodification_22

def Q_ctJ32_next (G : GT) (q0 a q n cap i lr x : Nat) (md : Int32) (xs : List Nat) : Option Value → List va_W → Prop := fun v S1 => v = some (.ref x) ∧ S1 = [[(q0, .inr (21, [.int (nI (i + 1)), .int (nI i), .int md, .ref a]))]]
set_option maxHeartbeats 4000000 in
set_option maxRecDepth 100000 in
theorem ctJ32_next (l : Launch) (G : GT) (q0 a q n cap i lr x : Nat) (md : Int32) (xs : List Nat) (hi : xs[i]? = some x) (hx : xs.length = n) (h1 : n ≤ cap) (h2 : cap < 2 ^ 26) : Ct l G yJ32_next cJ32_next 3 (some (.object "java/lang/Object")) 1 20 0 0 [.ref q0] ([[(q0, .inr (21, [.int (nI i), .int (nI lr), .int md, .ref a]))]]) ((fun z => z = .inl (a, .inr (10, [.int md, .ref q, .int (nI n)])) ∨ z = .inl (q, .inl (G.2.2.1 4, cap, .inr (.inr (.inr (.inr (fun i => xs[i]?)))))))) (Q_ctJ32_next G q0 a q n cap i lr x md xs) := by
  refine Ct.of (by decide +kernel) (Nat.le_of_ble_eq_true rfl) ?_
  intro p e s m below meth c A ls C hW hRo hl
  have hl : lv_has ls 3 [(0, .ref q0)] := hl
  have hin : i < n := by rw [← hx]; exact (List.getElem?_eq_some_iff.mp hi).1
  refine lv_aload_n C.hx C.hb dJ32_next_0 rfl (lv_at hl 0 rfl) ?_
  refine k_callV (Sc := [[(q0, .inr (21, [.int (nI i), .int (nI lr), .int md, .ref a]))]]) (Sr := []) (As := []) (rest := []) C (ctJ32_checkForComodification l G q0 a n i lr md (some q)) hW clJ32 (hW.get 0 0 rfl rfl) q1022 q1023 q1024 q114 q1027 rfl rfl ⟨by decide, by decide, Eq.trans (b := some 0) (by decide +kernel) rfl⟩ (Nat.le_of_ble_eq_true rfl) (Nat.le_of_ble_eq_true rfl) (Nat.le_refl _) (Nat.le_refl _) hl.1 rfl (Nat.le_of_ble_eq_true rfl) dJ32_next_1 ((pick_perm [[(q0, .inr (21, [.int (nI i), .int (nI lr), .int md, .ref a]))]] 1 rfl (is := [0]) (by decide)).flatten.symm) (fun z hz => by cases hz; exact Or.inr (Or.inr (hRo _ (Or.inl rfl)))) (fun v H1 locs1 S1 hQ hz1 hW1 => ?_)
  obtain ⟨rfl, rfl⟩ := hQ
  have hW1 : Ws G A s ([[(q0, .inr (21, [.int (nI i), .int (nI lr), .int md, .ref a]))]]) H1 locs1 := hW1
  clear hW
  refine W.eq (g2 := F0 m 4 ls []) rfl ?_
  refine lv_aload_n C.hx C.hb dJ32_next_4 rfl (lv_at hl 0 rfl) ?_
  refine k_get (v := .int (nI i)) C clJ32 (hW1.get 0 0 rfl rfl) 0 (Nat.le_of_ble_eq_true rfl) rfl q387 rfl rfl dJ32_next_5 ?_
  refine lv_istore_n (lv' := [(1, .int (nI i)), (0, .ref q0)]) C.hx C.hb dJ32_next_8 rfl hl (Nat.le_of_ble_eq_true rfl) rfl (fun ls2 hl2 => ?_)
  clear hl
  refine lv_iload_n C.hx C.hb dJ32_next_9 rfl (lv_at hl2 0 rfl) ?_
  refine lv_aload_n C.hx C.hb dJ32_next_10 rfl (lv_at hl2 1 rfl) ?_
  refine k_get (v := .ref a) C clJ32 (hW1.get 0 0 rfl rfl) 3 (Nat.le_of_ble_eq_true rfl) rfl q390 rfl rfl dJ32_next_11 ?_
  refine k_getN (v := .int (nI n)) C clJ2 ((hRo _ (Or.inl rfl)).at hW1) 2 (Nat.le_of_ble_eq_true rfl) rfl q153 rfl rfl dJ32_next_14 ?_
  refine kn_icmp_lt (tgt := 28) C (by omega) (by omega) dJ32_next_17 (by decide) (fun c17 => ?_) (fun c17 => (absurd hin c17))
  refine lv_aload_n C.hx C.hb dJ32_next_28 rfl (lv_at hl2 1 rfl) ?_
  refine k_get (v := .ref a) C clJ32 (hW1.get 0 0 rfl rfl) 3 (Nat.le_of_ble_eq_true rfl) rfl q390 rfl rfl dJ32_next_29 ?_
  refine k_get (v := .ref q) C clJ2 ((hRo _ (Or.inl rfl)).at hW1) 1 (Nat.le_of_ble_eq_true rfl) rfl q152 rfl rfl dJ32_next_32 ?_
  refine lv_astore_n (lv' := [(2, .ref q), (1, .int (nI i)), (0, .ref q0)]) C.hx C.hb dJ32_next_35 rfl hl2 (Nat.le_of_ble_eq_true rfl) rfl (fun ls3 hl3 => ?_)
  clear hl2
  refine lv_iload_n C.hx C.hb dJ32_next_36 rfl (lv_at hl3 1 rfl) ?_
  refine lv_aload_n C.hx C.hb dJ32_next_37 rfl (lv_at hl3 0 rfl) ?_
  refine k_alen C 4 rfl ((hRo _ (Or.inr rfl)).at hW1) dJ32_next_38 ?_
  refine kn_icmp_lt (tgt := 50) C (by omega) (by omega) dJ32_next_39 (by decide) (fun c39 => ?_) (fun c39 => (absurd (by omega : i < cap) c39))
  refine lv_aload_n C.hx C.hb dJ32_next_50 rfl (lv_at hl3 2 rfl) ?_
  refine lv_iload_n C.hx C.hb dJ32_next_51 rfl (lv_at hl3 1 rfl) ?_
  refine kn_iconst (a := 1) C (by decide) dJ32_next_52 ?_
  refine kn_iadd C  dJ32_next_53 ?_
  refine k_put (S' := [[(q0, .inr (21, [.int (nI (i + 1)), .int (nI lr), .int md, .ref a]))]]) C clJ32 hW1 0 0 rfl rfl 0 (Nat.le_of_ble_eq_true rfl) rfl q387 rfl (fun _ h => h) (Or.inl rfl) (fty := .int) (v := .int (nI (i + 1))) (by decide +kernel) rfl rfl (Nat.le_of_ble_eq_true rfl) dJ32_next_54 rfl (fun H4 locs4 hW4 => ?_)
  clear hW1
  refine lv_aload_n C.hx C.hb dJ32_next_57 rfl (lv_at hl3 0 rfl) ?_
  refine lv_aload_n C.hx C.hb dJ32_next_58 rfl (lv_at hl3 2 rfl) ?_
  refine lv_iload_n C.hx C.hb dJ32_next_59 rfl (lv_at hl3 1 rfl) ?_
  refine lv_dup_x1 C.hx C.hb dJ32_next_60 rfl rfl ?_
  refine k_put (S' := [[(q0, .inr (21, [.int (nI (i + 1)), .int (nI i), .int md, .ref a]))]]) C clJ32 hW4 0 0 rfl rfl 1 (Nat.le_of_ble_eq_true rfl) rfl q388 rfl (fun _ h => h) (Or.inl rfl) (fty := .int) (v := .int (nI i)) (by decide +kernel) rfl rfl (Nat.le_of_ble_eq_true rfl) dJ32_next_61 rfl (fun H5 locs5 hW5 => ?_)
  clear hW4
  refine k_aaldS C (f := (fun i => xs[i]?)) 4 rfl ((hRo _ (Or.inr rfl)).at hW5) (by omega) (by omega) hi dJ32_next_64 ?_
  exact k_aret C hW5 rfl (Or.inl ⟨_, rfl⟩) (Or.inr ⟨_, rfl⟩) ⟨rfl, rfl⟩ (Nat.le_refl _) (Nat.le_refl _) dJ32_next_65
