def Q_ctJ0_init_L (G : GT) (a : Nat) (z0 z1 : Int32) (z2 z3 : Option Nat) : Option Value → List va_W → Prop := fun v S1 => v = none ∧ S1 = []
set_option maxHeartbeats 4000000 in
set_option maxRecDepth 100000 in
theorem ctJ0_init_L (l : Launch) (G : GT) (a : Nat) (z0 z1 : Int32) (z2 z3 : Option Nat)  : Ct l G yJ0_init cJ0_init 1 none 1 20 0 0 [.ref a] ([]) noR (Q_ctJ0_init_L G a z0 z1 z2 z3) := by
  refine Ct.of (by decide +kernel) (Nat.le_of_ble_eq_true rfl) ?_
  intro p e s m below meth c A ls C hW hRo hl
  have hl : lv_has ls 1 [(0, .ref a)] := hl
  refine lv_aload_n C.hx C.hb dJ0_init_0 rfl (lv_at hl 0 rfl) ?_
  refine W.objInit C.hx C.hb C.hown (C.hts _ q148) (C.hts _ q133) (C.hts _ q134) rfl (by rw [C.hml]; exact hl.1) rfl dJ0_init_1 (Nat.le_of_ble_eq_true rfl) (Nat.le_of_ble_eq_true rfl) ?_
  refine W.eq (g2 := F0 m 4 ls []) rfl ?_
  exact k_vret C hW rfl ⟨rfl, rfl⟩ (Nat.le_refl _) (Nat.le_refl _) dJ0_init_4

def Q_ctJ1_init_L (G : GT) (a : Nat) (z0 z1 : Int32) (z2 z3 : Option Nat) : Option Value → List va_W → Prop := fun v S1 => v = none ∧ S1 = [[(a, .inr (14, [.int (nI 0), .int z1, vr z2, vr z3]))]]
set_option maxHeartbeats 4000000 in
set_option maxRecDepth 100000 in
theorem ctJ1_init_L (l : Launch) (G : GT) (a : Nat) (z0 z1 : Int32) (z2 z3 : Option Nat)  : Ct l G yJ1_init cJ1_init 1 none 2 40 0 0 [.ref a] ([[(a, .inr (14, [.int z0, .int z1, vr z2, vr z3]))]]) noR (Q_ctJ1_init_L G a z0 z1 z2 z3) := by
  refine Ct.of (by decide +kernel) (Nat.le_of_ble_eq_true rfl) ?_
  intro p e s m below meth c A ls C hW hRo hl
  have hl : lv_has ls 1 [(0, .ref a)] := hl
  refine lv_aload_n C.hx C.hb dJ1_init_0 rfl (lv_at hl 0 rfl) ?_
  refine k_callI (Sc := []) (Sr := [[(a, .inr (14, [.int z0, .int z1, vr z2, vr z3]))]]) (As := []) (rest := []) C (ctJ0_init_L l G a z0 z1 z2 z3) hW q145 q146 q73 q147 rfl rfl ⟨by decide, by decide, Eq.trans (b := some 0) (by decide +kernel) rfl⟩ (Nat.le_of_ble_eq_true rfl) (Nat.le_of_ble_eq_true rfl) (Nat.le_refl _) (Nat.le_refl _) hl.1 rfl (Nat.le_of_ble_eq_true rfl) dJ1_init_1 (k_permR _) (fun _ h => h.elim) (fun v H1 locs1 S1 hQ hz1 hW1 => ?_)
  obtain ⟨rfl, rfl⟩ := hQ
  have hW1 : Ws G A s ([[(a, .inr (14, [.int z0, .int z1, vr z2, vr z3]))]]) H1 locs1 := hW1
  clear hW
  refine W.eq (g2 := F0 m 4 ls []) rfl ?_
  refine lv_aload_n C.hx C.hb dJ1_init_4 rfl (lv_at hl 0 rfl) ?_
  refine kn_iconst (a := 0) C (by decide) dJ1_init_5 ?_
  refine k_put (S' := [[(a, .inr (14, [.int (nI 0), .int z1, vr z2, vr z3]))]]) C clJ8 hW1 0 0 rfl rfl 0 (Nat.le_of_ble_eq_true rfl) rfl q155 rfl (fun _ h => h) (Or.inr ⟨rfl, rfl⟩) (fty := .int) (v := .int (nI 0)) (by decide +kernel) rfl rfl (Nat.le_of_ble_eq_true rfl) dJ1_init_6 rfl (fun H2 locs2 hW2 => ?_)
  clear hW1
  exact k_vret C hW2 rfl ⟨rfl, rfl⟩ (Nat.le_refl _) (Nat.le_refl _) dJ1_init_9

def Q_ctJ0_init_A (G : GT) (a : Nat) (z0 z1 : Int32) (z2 z3 : Option Nat) : Option Value → List va_W → Prop := fun v S1 => v = none ∧ S1 = []
set_option maxHeartbeats 4000000 in
set_option maxRecDepth 100000 in
theorem ctJ0_init_A (l : Launch) (G : GT) (a : Nat) (z0 z1 : Int32) (z2 z3 : Option Nat)  : Ct l G yJ0_init cJ0_init 1 none 1 20 0 0 [.ref a] ([]) noR (Q_ctJ0_init_A G a z0 z1 z2 z3) := by
  refine Ct.of (by decide +kernel) (Nat.le_of_ble_eq_true rfl) ?_
  intro p e s m below meth c A ls C hW hRo hl
  have hl : lv_has ls 1 [(0, .ref a)] := hl
  refine lv_aload_n C.hx C.hb dJ0_init_0 rfl (lv_at hl 0 rfl) ?_
  refine W.objInit C.hx C.hb C.hown (C.hts _ q148) (C.hts _ q133) (C.hts _ q134) rfl (by rw [C.hml]; exact hl.1) rfl dJ0_init_1 (Nat.le_of_ble_eq_true rfl) (Nat.le_of_ble_eq_true rfl) ?_
  refine W.eq (g2 := F0 m 4 ls []) rfl ?_
  exact k_vret C hW rfl ⟨rfl, rfl⟩ (Nat.le_refl _) (Nat.le_refl _) dJ0_init_4

def Q_ctJ1_init_A (G : GT) (a : Nat) (z0 z1 : Int32) (z2 z3 : Option Nat) : Option Value → List va_W → Prop := fun v S1 => v = none ∧ S1 = [[(a, .inr (10, [.int (nI 0), vr z2, .int z1]))]]
set_option maxHeartbeats 4000000 in
set_option maxRecDepth 100000 in
theorem ctJ1_init_A (l : Launch) (G : GT) (a : Nat) (z0 z1 : Int32) (z2 z3 : Option Nat)  : Ct l G yJ1_init cJ1_init 1 none 2 40 0 0 [.ref a] ([[(a, .inr (10, [.int z0, vr z2, .int z1]))]]) noR (Q_ctJ1_init_A G a z0 z1 z2 z3) := by
  refine Ct.of (by decide +kernel) (Nat.le_of_ble_eq_true rfl) ?_
  intro p e s m below meth c A ls C hW hRo hl
  have hl : lv_has ls 1 [(0, .ref a)] := hl
  refine lv_aload_n C.hx C.hb dJ1_init_0 rfl (lv_at hl 0 rfl) ?_
  refine k_callI (Sc := []) (Sr := [[(a, .inr (10, [.int z0, vr z2, .int z1]))]]) (As := []) (rest := []) C (ctJ0_init_A l G a z0 z1 z2 z3) hW q145 q146 q73 q147 rfl rfl ⟨by decide, by decide, Eq.trans (b := some 0) (by decide +kernel) rfl⟩ (Nat.le_of_ble_eq_true rfl) (Nat.le_of_ble_eq_true rfl) (Nat.le_refl _) (Nat.le_refl _) hl.1 rfl (Nat.le_of_ble_eq_true rfl) dJ1_init_1 (k_permR _) (fun _ h => h.elim) (fun v H1 locs1 S1 hQ hz1 hW1 => ?_)
  obtain ⟨rfl, rfl⟩ := hQ
  have hW1 : Ws G A s ([[(a, .inr (10, [.int z0, vr z2, .int z1]))]]) H1 locs1 := hW1
  clear hW
  refine W.eq (g2 := F0 m 4 ls []) rfl ?_
  refine lv_aload_n C.hx C.hb dJ1_init_4 rfl (lv_at hl 0 rfl) ?_
  refine kn_iconst (a := 0) C (by decide) dJ1_init_5 ?_
  refine k_put (S' := [[(a, .inr (10, [.int (nI 0), vr z2, .int z1]))]]) C clJ2 hW1 0 0 rfl rfl 0 (Nat.le_of_ble_eq_true rfl) rfl q155 rfl (fun _ h => h) (Or.inr ⟨rfl, rfl⟩) (fty := .int) (v := .int (nI 0)) (by decide +kernel) rfl rfl (Nat.le_of_ble_eq_true rfl) dJ1_init_6 rfl (fun H2 locs2 hW2 => ?_)
  clear hW1
  exact k_vret C hW2 rfl ⟨rfl, rfl⟩ (Nat.le_refl _) (Nat.le_refl _) dJ1_init_9

def Q_ctJ7_init (G : GT) (a : Nat) : Option Value → List va_W → Prop := fun v S1 => v = none ∧ S1 = [[(a, .inr (14, [.int (nI 0), .int 0, .null, .null]))]]
set_option maxHeartbeats 4000000 in
set_option maxRecDepth 100000 in
theorem ctJ7_init (l : Launch) (G : GT) (a : Nat)  : Ct l G yJ7_init cJ7_init 1 none 3 60 0 0 [.ref a] ([[(a, .inr (14, [.int 0, .int 0, .null, .null]))]]) noR (Q_ctJ7_init G a) := by
  refine Ct.of (by decide +kernel) (Nat.le_of_ble_eq_true rfl) ?_
  intro p e s m below meth c A ls C hW hRo hl
  have hl : lv_has ls 1 [(0, .ref a)] := hl
  refine lv_aload_n C.hx C.hb dJ7_init_0 rfl (lv_at hl 0 rfl) ?_
  refine k_callI (Sc := [[(a, .inr (14, [.int 0, .int 0, .null, .null]))]]) (Sr := []) (As := []) (rest := []) C (ctJ1_init_L l G a 0 0 none none) hW q262 q143 q74 q144 rfl rfl ⟨by decide, by decide, Eq.trans (b := some 0) (by decide +kernel) rfl⟩ (Nat.le_of_ble_eq_true rfl) (Nat.le_of_ble_eq_true rfl) (Nat.le_refl _) (Nat.le_refl _) hl.1 rfl (Nat.le_of_ble_eq_true rfl) dJ7_init_1 ((pick_perm [[(a, .inr (14, [.int 0, .int 0, .null, .null]))]] 1 rfl (is := [0]) (by decide)).flatten.symm) (fun _ h => h.elim) (fun v H1 locs1 S1 hQ hz1 hW1 => ?_)
  obtain ⟨rfl, rfl⟩ := hQ
  have hW1 : Ws G A s ([[(a, .inr (14, [.int (nI 0), .int 0, .null, .null]))]]) H1 locs1 := hW1
  clear hW
  refine W.eq (g2 := F0 m 4 ls []) rfl ?_
  exact k_vret C hW1 rfl ⟨rfl, rfl⟩ (Nat.le_refl _) (Nat.le_refl _) dJ7_init_4

def Q_ctJ8_init (G : GT) (a : Nat) : Option Value → List va_W → Prop := fun v S1 => v = none ∧ S1 = [[(a, .inr (14, [.int (nI 0), .int (nI 0), .null, .null]))]]
set_option maxHeartbeats 4000000 in
set_option maxRecDepth 100000 in
theorem ctJ8_init (l : Launch) (G : GT) (a : Nat)  : Ct l G yJ8_init cJ8_init 1 none 4 80 0 0 [.ref a] ([[(a, .inr (14, [.int 0, .int 0, .null, .null]))]]) noR (Q_ctJ8_init G a) := by
  refine Ct.of (by decide +kernel) (Nat.le_of_ble_eq_true rfl) ?_
  intro p e s m below meth c A ls C hW hRo hl
  have hl : lv_has ls 1 [(0, .ref a)] := hl
  refine lv_aload_n C.hx C.hb dJ8_init_0 rfl (lv_at hl 0 rfl) ?_
  refine k_callI (Sc := [[(a, .inr (14, [.int 0, .int 0, .null, .null]))]]) (Sr := []) (As := []) (rest := []) C (ctJ7_init l G a) hW q259 q260 q81 q261 rfl rfl ⟨by decide, by decide, Eq.trans (b := some 0) (by decide +kernel) rfl⟩ (Nat.le_of_ble_eq_true rfl) (Nat.le_of_ble_eq_true rfl) (Nat.le_refl _) (Nat.le_refl _) hl.1 rfl (Nat.le_of_ble_eq_true rfl) dJ8_init_1 ((pick_perm [[(a, .inr (14, [.int 0, .int 0, .null, .null]))]] 1 rfl (is := [0]) (by decide)).flatten.symm) (fun _ h => h.elim) (fun v H1 locs1 S1 hQ hz1 hW1 => ?_)
  obtain ⟨rfl, rfl⟩ := hQ
  have hW1 : Ws G A s ([[(a, .inr (14, [.int (nI 0), .int 0, .null, .null]))]]) H1 locs1 := hW1
  clear hW
  refine W.eq (g2 := F0 m 4 ls []) rfl ?_
  refine lv_aload_n C.hx C.hb dJ8_init_4 rfl (lv_at hl 0 rfl) ?_
  refine kn_iconst (a := 0) C (by decide) dJ8_init_5 ?_
  refine k_put (S' := [[(a, .inr (14, [.int (nI 0), .int (nI 0), .null, .null]))]]) C clJ8 hW1 0 0 rfl rfl 1 (Nat.le_of_ble_eq_true rfl) rfl q263 rfl (fun _ h => h) (Or.inr ⟨rfl, rfl⟩) (fty := .int) (v := .int (nI 0)) (by decide +kernel) rfl rfl (Nat.le_of_ble_eq_true rfl) dJ8_init_6 rfl (fun H2 locs2 hW2 => ?_)
  clear hW1
  exact k_vret C hW2 rfl ⟨rfl, rfl⟩ (Nat.le_refl _) (Nat.le_refl _) dJ8_init_9

def Q_ctJ30_init (G : GT) (n x : Nat) (pv nx : Option Nat) : Option Value → List va_W → Prop := fun v S1 => v = none ∧ S1 = [[(n, .inr (19, [.ref x, vr nx, vr pv]))]]
set_option maxHeartbeats 4000000 in
set_option maxRecDepth 100000 in
theorem ctJ30_init (l : Launch) (G : GT) (n x : Nat) (pv nx : Option Nat)  : Ct l G yJ30_init cJ30_init 4 none 1 20 0 0 [.ref n, vr pv, .ref x, vr nx] ([[(n, .inr (19, [.null, .null, .null]))]]) noR (Q_ctJ30_init G n x pv nx) := by
  refine Ct.of (by decide +kernel) (by simp [lg_sl, vr_cat, ref_cat, null_cat, int_cat, long_cat]) ?_
  intro p e s m below meth c A ls C hW hRo hl
  have hl : lv_has ls 4 [(0, .ref n), (1, vr pv), (2, .ref x), (3, vr nx)] := by
    simp only [lv_args, vr_cat] at hl
    exact hl
  refine lv_aload_n C.hx C.hb dJ30_init_0 rfl (lv_at hl 0 rfl) ?_
  refine W.objInit C.hx C.hb C.hown (C.hts _ q1710) (C.hts _ q133) (C.hts _ q134) rfl (by rw [C.hml]; exact hl.1) rfl dJ30_init_1 (Nat.le_of_ble_eq_true rfl) (Nat.le_of_ble_eq_true rfl) ?_
  refine W.eq (g2 := F0 m 4 ls []) rfl ?_
  refine lv_aload_n C.hx C.hb dJ30_init_4 rfl (lv_at hl 0 rfl) ?_
  refine lv_aload_n C.hx C.hb dJ30_init_5 rfl (lv_at hl 2 rfl) ?_
  refine k_put (S' := [[(n, .inr (19, [.ref x, .null, .null]))]]) C clJ30 hW 0 0 rfl rfl 0 (Nat.le_of_ble_eq_true rfl) rfl q1711 rfl (fun _ h => h) (Or.inr ⟨rfl, rfl⟩) (fty := (.object "java/lang/Object")) (v := .ref x) (by decide +kernel) rfl rfl (Nat.le_of_ble_eq_true rfl) dJ30_init_6 rfl (fun H1 locs1 hW1 => ?_)
  clear hW
  refine lv_aload_n C.hx C.hb dJ30_init_9 rfl (lv_at hl 0 rfl) ?_
  refine lv_aload_nq C.hx C.hb dJ30_init_10 rfl (lv_at hl 3 rfl) ?_
  refine k_put (S' := [[(n, .inr (19, [.ref x, vr nx, .null]))]]) C clJ30 hW1 0 0 rfl rfl 1 (Nat.le_of_ble_eq_true rfl) rfl q1714 rfl (fun _ h => h) (Or.inr ⟨rfl, rfl⟩) (fty := (.object "java/util/LinkedList$Node")) (v := vr nx) (by decide +kernel) (vr_nar _ _) (vr_fit _ _) (Nat.le_of_ble_eq_true rfl) dJ30_init_11 rfl (fun H2 locs2 hW2 => ?_)
  clear hW1
  refine lv_aload_n C.hx C.hb dJ30_init_14 rfl (lv_at hl 0 rfl) ?_
  refine lv_aload_nq C.hx C.hb dJ30_init_15 rfl (lv_at hl 1 rfl) ?_
  refine k_put (S' := [[(n, .inr (19, [.ref x, vr nx, vr pv]))]]) C clJ30 hW2 0 0 rfl rfl 2 (Nat.le_of_ble_eq_true rfl) rfl q1717 rfl (fun _ h => h) (Or.inr ⟨rfl, rfl⟩) (fty := (.object "java/util/LinkedList$Node")) (v := vr pv) (by decide +kernel) (vr_nar _ _) (vr_fit _ _) (Nat.le_of_ble_eq_true rfl) dJ30_init_16 rfl (fun H3 locs3 hW3 => ?_)
  clear hW2
  exact k_vret C hW3 rfl ⟨rfl, rfl⟩ (Nat.le_refl _) (Nat.le_refl _) dJ30_init_19

def Q_ctJ8_linkLast_0 (G : GT) (a e0 : Nat) (md : Int32) : Option Value → List va_W → Prop := fun v S1 => v = none ∧ ∃ q, S1 = [[(a, .inr (14, [.int (md + 1), .int (nI 1), .ref q, .ref q]))], [(q, .inr (19, [.ref e0, .null, .null]))]]
set_option maxHeartbeats 4000000 in
set_option maxRecDepth 100000 in
theorem ctJ8_linkLast_0 (l : Launch) (G : GT) (a e0 : Nat) (md : Int32)  : Ct l G yJ8_linkLast cJ8_linkLast 4 none 2 43 1 3 [.ref a, .ref e0] ([[(a, .inr (14, [.int md, .int (nI 0), .null, .null]))]]) noR (Q_ctJ8_linkLast_0 G a e0 md) := by
  refine Ct.of (by decide +kernel) (Nat.le_of_ble_eq_true rfl) ?_
  intro p e s m below meth c A ls C hW hRo hl
  have hl : lv_has ls 4 [(0, .ref a), (1, .ref e0)] := hl
  refine lv_aload_n C.hx C.hb dJ8_linkLast_0 rfl (lv_at hl 0 rfl) ?_
  refine k_get (v := .null) C clJ8 (hW.get 0 0 rfl rfl) 3 (Nat.le_of_ble_eq_true rfl) rfl q266 rfl rfl dJ8_linkLast_1 ?_
  refine lv_astore_nN (lv' := [(2, .null), (0, .ref a), (1, .ref e0)]) C.hx C.hb dJ8_linkLast_4 rfl hl (Nat.le_of_ble_eq_true rfl) rfl (fun ls1 hl1 => ?_)
  clear hl
  refine k_new (fs := [.null, .null, .null]) C clJ30 hW q1705 rfl q1706 q111 (fun j hj => (by have := co_dec (P := fun j => defaultValue (tyJ30 j) = vp_V [.null, .null, .null] j) (N := 3) (by decide +kernel) hj; exact this)) (show 0 + 1 ≤ 1 by omega) (show 0 + 3 ≤ 3 by omega) dJ8_linkLast_5 (fun q2 H2 hW2 => ?_)
  have hW2 : Ws G A s [[(a, .inr (14, [.int md, .int (nI 0), .null, .null]))], [(q2, .inr (19, [.null, .null, .null]))]] H2 [] := hW2
  clear hW
  refine lv_dup C.hx C.hb dJ8_linkLast_8 rfl ?_
  refine lv_aload_nN C.hx C.hb dJ8_linkLast_9 rfl (lv_at hl1 0 rfl) ?_
  refine lv_aload_n C.hx C.hb dJ8_linkLast_10 rfl (lv_at hl1 2 rfl) ?_
  refine lv_null C.hx C.hb dJ8_linkLast_11 ?_
  refine k_callI (Sc := [[(q2, .inr (19, [.null, .null, .null]))]]) (Sr := [[(a, .inr (14, [.int md, .int (nI 0), .null, .null]))]]) (As := [.null, .ref e0, .null]) (rest := [.ref q2]) C (ctJ30_init l G q2 e0 none none) hW2 q1707 q1708 q111 q1709 rfl rfl ⟨by decide, by decide, Eq.trans (b := some 3) (by decide +kernel) rfl⟩ (Nat.le_of_ble_eq_true rfl) (Nat.le_of_ble_eq_true rfl) (show 1 + 0 ≤ 1 by omega) (show 3 + 0 ≤ 3 by omega) hl1.1 rfl (Nat.le_of_ble_eq_true rfl) dJ8_linkLast_12 ((pick_perm [[(a, .inr (14, [.int md, .int (nI 0), .null, .null]))], [(q2, .inr (19, [.null, .null, .null]))]] 2 rfl (is := [0, 1]) (by decide)).flatten.symm) (fun _ h => h.elim) (fun v H3 locs3 S1 hQ hz3 hW3 => ?_)
  obtain ⟨rfl, rfl⟩ := hQ
  have hW3 : Ws G A s ([[(a, .inr (14, [.int md, .int (nI 0), .null, .null]))], [(q2, .inr (19, [.ref e0, .null, .null]))]]) H3 locs3 := hW3
  clear hW2
  refine W.eq (g2 := F0 m 15 ls1 [.ref q2]) rfl ?_
  refine lv_astore_n (lv' := [(3, .ref q2), (2, .null), (0, .ref a), (1, .ref e0)]) C.hx C.hb dJ8_linkLast_15 rfl hl1 (Nat.le_of_ble_eq_true rfl) rfl (fun ls4 hl4 => ?_)
  clear hl1
  refine lv_aload_n C.hx C.hb dJ8_linkLast_16 rfl (lv_at hl4 2 rfl) ?_
  refine lv_aload_n C.hx C.hb dJ8_linkLast_17 rfl (lv_at hl4 0 rfl) ?_
  refine k_put (S' := [[(a, .inr (14, [.int md, .int (nI 0), .null, .ref q2]))], [(q2, .inr (19, [.ref e0, .null, .null]))]]) C clJ8 hW3 0 0 rfl rfl 3 (Nat.le_of_ble_eq_true rfl) rfl q266 rfl (fun _ h => h) (Or.inl rfl) (fty := (.object "java/util/LinkedList$Node")) (v := .ref q2) (by decide +kernel) rfl rfl (Nat.le_of_ble_eq_true rfl) dJ8_linkLast_18 rfl (fun H5 locs5 hW5 => ?_)
  clear hW3
  refine lv_aload_nN C.hx C.hb dJ8_linkLast_21 rfl (lv_at hl4 1 rfl) ?_
  refine lv_ifnonnullN C.hx C.hb dJ8_linkLast_22 ?_
  refine lv_aload_n C.hx C.hb dJ8_linkLast_25 rfl (lv_at hl4 2 rfl) ?_
  refine lv_aload_n C.hx C.hb dJ8_linkLast_26 rfl (lv_at hl4 0 rfl) ?_
  refine k_put (S' := [[(a, .inr (14, [.int md, .int (nI 0), .ref q2, .ref q2]))], [(q2, .inr (19, [.ref e0, .null, .null]))]]) C clJ8 hW5 0 0 rfl rfl 2 (Nat.le_of_ble_eq_true rfl) rfl q265 rfl (fun _ h => h) (Or.inl rfl) (fty := (.object "java/util/LinkedList$Node")) (v := .ref q2) (by decide +kernel) rfl rfl (Nat.le_of_ble_eq_true rfl) dJ8_linkLast_27 rfl (fun H6 locs6 hW6 => ?_)
  clear hW5
  refine lv_goto (tgt := 38) C.hx C.hb dJ8_linkLast_30 (by decide) ?_
  refine lv_aload_n C.hx C.hb dJ8_linkLast_38 rfl (lv_at hl4 2 rfl) ?_
  refine lv_dup C.hx C.hb dJ8_linkLast_39 rfl ?_
  refine k_get (v := .int (nI 0)) C clJ8 (hW6.get 0 0 rfl rfl) 1 (Nat.le_of_ble_eq_true rfl) rfl q263 rfl rfl dJ8_linkLast_40 ?_
  refine kn_iconst (a := 1) C (by decide) dJ8_linkLast_43 ?_
  refine kn_iadd C  dJ8_linkLast_44 ?_
  refine k_put (S' := [[(a, .inr (14, [.int md, .int (nI (0 + 1)), .ref q2, .ref q2]))], [(q2, .inr (19, [.ref e0, .null, .null]))]]) C clJ8 hW6 0 0 rfl rfl 1 (Nat.le_of_ble_eq_true rfl) rfl q263 rfl (fun _ h => h) (Or.inl rfl) (fty := .int) (v := .int (nI (0 + 1))) (by decide +kernel) rfl rfl (Nat.le_of_ble_eq_true rfl) dJ8_linkLast_45 rfl (fun H7 locs7 hW7 => ?_)
  clear hW6
  refine lv_aload_n C.hx C.hb dJ8_linkLast_48 rfl (lv_at hl4 2 rfl) ?_
  refine lv_dup C.hx C.hb dJ8_linkLast_49 rfl ?_
  refine k_getS (v := .int md) C clJ8 (hW7.get 0 0 rfl rfl) 0 (Nat.le_of_ble_eq_true rfl) rfl q161 q157 k_same rfl rfl dJ8_linkLast_50 ?_
  refine kn_iconst (a := 1) C (by decide) dJ8_linkLast_53 ?_
  refine lv_iadd C.hx C.hb dJ8_linkLast_54 ?_
  refine k_put (S' := [[(a, .inr (14, [.int (md + (nI 1)), .int (nI (0 + 1)), .ref q2, .ref q2]))], [(q2, .inr (19, [.ref e0, .null, .null]))]]) C clJ8 hW7 0 0 rfl rfl 0 (Nat.le_of_ble_eq_true rfl) rfl q161 rfl (k_same (C.hts _ q157)) (Or.inl rfl) (fty := .int) (v := .int (md + (nI 1))) (by decide +kernel) rfl rfl (Nat.le_of_ble_eq_true rfl) dJ8_linkLast_55 rfl (fun H8 locs8 hW8 => ?_)
  clear hW7
  exact k_vret C hW8 rfl ⟨rfl, _, rfl⟩ (by omega) (by omega) dJ8_linkLast_58

def Q_ctJ8_linkLast_1 (G : GT) (a e0 n x k : Nat) (md : Int32) (f pv : Option Nat) : Option Value → List va_W → Prop := fun v S1 => v = none ∧ ∃ q, S1 = [[(a, .inr (14, [.int (md + 1), .int (nI (k + 1)), vr f, .ref q]))], [(n, .inr (19, [.ref x, .ref q, vr pv]))], [(q, .inr (19, [.ref e0, .null, .ref n]))]]
set_option maxHeartbeats 4000000 in
set_option maxRecDepth 100000 in
theorem ctJ8_linkLast_1 (l : Launch) (G : GT) (a e0 n x k : Nat) (md : Int32) (f pv : Option Nat)  : Ct l G yJ8_linkLast cJ8_linkLast 4 none 2 43 1 3 [.ref a, .ref e0] ([[(a, .inr (14, [.int md, .int (nI k), vr f, .ref n]))], [(n, .inr (19, [.ref x, .null, vr pv]))]]) noR (Q_ctJ8_linkLast_1 G a e0 n x k md f pv) := by
  refine Ct.of (by decide +kernel) (Nat.le_of_ble_eq_true rfl) ?_
  intro p e s m below meth c A ls C hW hRo hl
  have hl : lv_has ls 4 [(0, .ref a), (1, .ref e0)] := hl
  refine lv_aload_n C.hx C.hb dJ8_linkLast_0 rfl (lv_at hl 0 rfl) ?_
  refine k_get (v := .ref n) C clJ8 (hW.get 0 0 rfl rfl) 3 (Nat.le_of_ble_eq_true rfl) rfl q266 rfl rfl dJ8_linkLast_1 ?_
  refine lv_astore_n (lv' := [(2, .ref n), (0, .ref a), (1, .ref e0)]) C.hx C.hb dJ8_linkLast_4 rfl hl (Nat.le_of_ble_eq_true rfl) rfl (fun ls1 hl1 => ?_)
  clear hl
  refine k_new (fs := [.null, .null, .null]) C clJ30 hW q1705 rfl q1706 q111 (fun j hj => (by have := co_dec (P := fun j => defaultValue (tyJ30 j) = vp_V [.null, .null, .null] j) (N := 3) (by decide +kernel) hj; exact this)) (show 0 + 1 ≤ 1 by omega) (show 0 + 3 ≤ 3 by omega) dJ8_linkLast_5 (fun q2 H2 hW2 => ?_)
  have hW2 : Ws G A s [[(a, .inr (14, [.int md, .int (nI k), vr f, .ref n]))], [(n, .inr (19, [.ref x, .null, vr pv]))], [(q2, .inr (19, [.null, .null, .null]))]] H2 [] := hW2
  clear hW
  refine lv_dup C.hx C.hb dJ8_linkLast_8 rfl ?_
  refine lv_aload_n C.hx C.hb dJ8_linkLast_9 rfl (lv_at hl1 0 rfl) ?_
  refine lv_aload_n C.hx C.hb dJ8_linkLast_10 rfl (lv_at hl1 2 rfl) ?_
  refine lv_null C.hx C.hb dJ8_linkLast_11 ?_
  refine k_callI (Sc := [[(q2, .inr (19, [.null, .null, .null]))]]) (Sr := [[(a, .inr (14, [.int md, .int (nI k), vr f, .ref n]))], [(n, .inr (19, [.ref x, .null, vr pv]))]]) (As := [.ref n, .ref e0, .null]) (rest := [.ref q2]) C (ctJ30_init l G q2 e0 (some n) none) hW2 q1707 q1708 q111 q1709 rfl rfl ⟨by decide, by decide, Eq.trans (b := some 3) (by decide +kernel) rfl⟩ (Nat.le_of_ble_eq_true rfl) (Nat.le_of_ble_eq_true rfl) (show 1 + 0 ≤ 1 by omega) (show 3 + 0 ≤ 3 by omega) hl1.1 rfl (Nat.le_of_ble_eq_true rfl) dJ8_linkLast_12 ((pick_perm [[(a, .inr (14, [.int md, .int (nI k), vr f, .ref n]))], [(n, .inr (19, [.ref x, .null, vr pv]))], [(q2, .inr (19, [.null, .null, .null]))]] 3 rfl (is := [0, 1, 2]) (by decide)).flatten.symm) (fun _ h => h.elim) (fun v H3 locs3 S1 hQ hz3 hW3 => ?_)
  obtain ⟨rfl, rfl⟩ := hQ
  have hW3 : Ws G A s ([[(a, .inr (14, [.int md, .int (nI k), vr f, .ref n]))], [(n, .inr (19, [.ref x, .null, vr pv]))], [(q2, .inr (19, [.ref e0, .null, .ref n]))]]) H3 locs3 := hW3
  clear hW2
  refine W.eq (g2 := F0 m 15 ls1 [.ref q2]) rfl ?_
  refine lv_astore_n (lv' := [(3, .ref q2), (2, .ref n), (0, .ref a), (1, .ref e0)]) C.hx C.hb dJ8_linkLast_15 rfl hl1 (Nat.le_of_ble_eq_true rfl) rfl (fun ls4 hl4 => ?_)
  clear hl1
  refine lv_aload_n C.hx C.hb dJ8_linkLast_16 rfl (lv_at hl4 2 rfl) ?_
  refine lv_aload_n C.hx C.hb dJ8_linkLast_17 rfl (lv_at hl4 0 rfl) ?_
  refine k_put (S' := [[(a, .inr (14, [.int md, .int (nI k), vr f, .ref q2]))], [(n, .inr (19, [.ref x, .null, vr pv]))], [(q2, .inr (19, [.ref e0, .null, .ref n]))]]) C clJ8 hW3 0 0 rfl rfl 3 (Nat.le_of_ble_eq_true rfl) rfl q266 rfl (fun _ h => h) (Or.inl rfl) (fty := (.object "java/util/LinkedList$Node")) (v := .ref q2) (by decide +kernel) rfl rfl (Nat.le_of_ble_eq_true rfl) dJ8_linkLast_18 rfl (fun H5 locs5 hW5 => ?_)
  clear hW3
  refine lv_aload_n C.hx C.hb dJ8_linkLast_21 rfl (lv_at hl4 1 rfl) ?_
  refine lv_ifnonnull (tgt := 33) C.hx C.hb dJ8_linkLast_22 (by decide) ?_
  refine lv_aload_n C.hx C.hb dJ8_linkLast_33 rfl (lv_at hl4 1 rfl) ?_
  refine lv_aload_n C.hx C.hb dJ8_linkLast_34 rfl (lv_at hl4 0 rfl) ?_
  refine k_put (S' := [[(a, .inr (14, [.int md, .int (nI k), vr f, .ref q2]))], [(n, .inr (19, [.ref x, .ref q2, vr pv]))], [(q2, .inr (19, [.ref e0, .null, .ref n]))]]) C clJ30 hW5 1 0 rfl rfl 1 (Nat.le_of_ble_eq_true rfl) rfl q1716 rfl (fun _ h => h) (Or.inl rfl) (fty := (.object "java/util/LinkedList$Node")) (v := .ref q2) (by decide +kernel) rfl rfl (Nat.le_of_ble_eq_true rfl) dJ8_linkLast_35 rfl (fun H6 locs6 hW6 => ?_)
  clear hW5
  refine lv_aload_n C.hx C.hb dJ8_linkLast_38 rfl (lv_at hl4 2 rfl) ?_
  refine lv_dup C.hx C.hb dJ8_linkLast_39 rfl ?_
  refine k_get (v := .int (nI k)) C clJ8 (hW6.get 0 0 rfl rfl) 1 (Nat.le_of_ble_eq_true rfl) rfl q263 rfl rfl dJ8_linkLast_40 ?_
  refine kn_iconst (a := 1) C (by decide) dJ8_linkLast_43 ?_
  refine kn_iadd C  dJ8_linkLast_44 ?_
  refine k_put (S' := [[(a, .inr (14, [.int md, .int (nI (k + 1)), vr f, .ref q2]))], [(n, .inr (19, [.ref x, .ref q2, vr pv]))], [(q2, .inr (19, [.ref e0, .null, .ref n]))]]) C clJ8 hW6 0 0 rfl rfl 1 (Nat.le_of_ble_eq_true rfl) rfl q263 rfl (fun _ h => h) (Or.inl rfl) (fty := .int) (v := .int (nI (k + 1))) (by decide +kernel) rfl rfl (Nat.le_of_ble_eq_true rfl) dJ8_linkLast_45 rfl (fun H7 locs7 hW7 => ?_)
  clear hW6
  refine lv_aload_n C.hx C.hb dJ8_linkLast_48 rfl (lv_at hl4 2 rfl) ?_
  refine lv_dup C.hx C.hb dJ8_linkLast_49 rfl ?_
  refine k_getS (v := .int md) C clJ8 (hW7.get 0 0 rfl rfl) 0 (Nat.le_of_ble_eq_true rfl) rfl q161 q157 k_same rfl rfl dJ8_linkLast_50 ?_
  refine kn_iconst (a := 1) C (by decide) dJ8_linkLast_53 ?_
  refine lv_iadd C.hx C.hb dJ8_linkLast_54 ?_
  refine k_put (S' := [[(a, .inr (14, [.int (md + (nI 1)), .int (nI (k + 1)), vr f, .ref q2]))], [(n, .inr (19, [.ref x, .ref q2, vr pv]))], [(q2, .inr (19, [.ref e0, .null, .ref n]))]]) C clJ8 hW7 0 0 rfl rfl 0 (Nat.le_of_ble_eq_true rfl) rfl q161 rfl (k_same (C.hts _ q157)) (Or.inl rfl) (fty := .int) (v := .int (md + (nI 1))) (by decide +kernel) rfl rfl (Nat.le_of_ble_eq_true rfl) dJ8_linkLast_55 rfl (fun H8 locs8 hW8 => ?_)
  clear hW7
  exact k_vret C hW8 rfl ⟨rfl, _, rfl⟩ (by omega) (by omega) dJ8_linkLast_58

def Q_ctJ8_unlinkFirst_0 (G : GT) (a n x : Nat) (md : Int32) : Option Value → List va_W → Prop := fun v S1 => v = some (.ref x) ∧ S1 = [[(a, .inr (14, [.int (md + 1), .int (nI 0), .null, .null]))]]
set_option maxHeartbeats 4000000 in
set_option maxRecDepth 100000 in
theorem ctJ8_unlinkFirst_0 (l : Launch) (G : GT) (a n x : Nat) (md : Int32)  : Ct l G yJ8_unlinkFirst cJ8_unlinkFirst 4 (some (.object "java/lang/Object")) 0 0 0 0 [.ref a, .ref n] ([[(a, .inr (14, [.int md, .int (nI 1), .ref n, .ref n]))], [(n, .inr (19, [.ref x, .null, .null]))]]) noR (Q_ctJ8_unlinkFirst_0 G a n x md) := by
  refine Ct.of (by decide +kernel) (Nat.le_of_ble_eq_true rfl) ?_
  intro p e s m below meth c A ls C hW hRo hl
  have hl : lv_has ls 4 [(0, .ref a), (1, .ref n)] := hl
  refine lv_aload_n C.hx C.hb dJ8_unlinkFirst_0 rfl (lv_at hl 1 rfl) ?_
  refine k_get (v := .ref x) C clJ30 (hW.get 1 0 rfl rfl) 0 (Nat.le_of_ble_eq_true rfl) rfl q1713 rfl rfl dJ8_unlinkFirst_1 ?_
  refine lv_astore_n (lv' := [(2, .ref x), (0, .ref a), (1, .ref n)]) C.hx C.hb dJ8_unlinkFirst_4 rfl hl (Nat.le_of_ble_eq_true rfl) rfl (fun ls1 hl1 => ?_)
  clear hl
  refine lv_aload_n C.hx C.hb dJ8_unlinkFirst_5 rfl (lv_at hl1 2 rfl) ?_
  refine k_get (v := .null) C clJ30 (hW.get 1 0 rfl rfl) 1 (Nat.le_of_ble_eq_true rfl) rfl q1716 rfl rfl dJ8_unlinkFirst_6 ?_
  refine lv_astore_nN (lv' := [(3, .null), (2, .ref x), (0, .ref a), (1, .ref n)]) C.hx C.hb dJ8_unlinkFirst_9 rfl hl1 (Nat.le_of_ble_eq_true rfl) rfl (fun ls2 hl2 => ?_)
  clear hl1
  refine lv_aload_n C.hx C.hb dJ8_unlinkFirst_10 rfl (lv_at hl2 3 rfl) ?_
  refine lv_null C.hx C.hb dJ8_unlinkFirst_11 ?_
  refine k_put (S' := [[(a, .inr (14, [.int md, .int (nI 1), .ref n, .ref n]))], [(n, .inr (19, [.null, .null, .null]))]]) C clJ30 hW 1 0 rfl rfl 0 (Nat.le_of_ble_eq_true rfl) rfl q1713 rfl (fun _ h => h) (Or.inl rfl) (fty := (.object "java/lang/Object")) (v := .null) (by decide +kernel) rfl rfl (Nat.le_of_ble_eq_true rfl) dJ8_unlinkFirst_12 rfl (fun H3 locs3 hW3 => ?_)
  clear hW
  refine lv_aload_n C.hx C.hb dJ8_unlinkFirst_15 rfl (lv_at hl2 3 rfl) ?_
  refine lv_null C.hx C.hb dJ8_unlinkFirst_16 ?_
  refine k_put (S' := [[(a, .inr (14, [.int md, .int (nI 1), .ref n, .ref n]))], [(n, .inr (19, [.null, .null, .null]))]]) C clJ30 hW3 1 0 rfl rfl 1 (Nat.le_of_ble_eq_true rfl) rfl q1716 rfl (fun _ h => h) (Or.inl rfl) (fty := (.object "java/util/LinkedList$Node")) (v := .null) (by decide +kernel) rfl rfl (Nat.le_of_ble_eq_true rfl) dJ8_unlinkFirst_17 rfl (fun H4 locs4 hW4 => ?_)
  clear hW3
  refine lv_aload_n C.hx C.hb dJ8_unlinkFirst_20 rfl (lv_at hl2 2 rfl) ?_
  refine lv_aload_nN C.hx C.hb dJ8_unlinkFirst_21 rfl (lv_at hl2 0 rfl) ?_
  refine k_put (S' := [[(a, .inr (14, [.int md, .int (nI 1), .null, .ref n]))], [(n, .inr (19, [.null, .null, .null]))]]) C clJ8 hW4 0 0 rfl rfl 2 (Nat.le_of_ble_eq_true rfl) rfl q265 rfl (fun _ h => h) (Or.inl rfl) (fty := (.object "java/util/LinkedList$Node")) (v := .null) (by decide +kernel) rfl rfl (Nat.le_of_ble_eq_true rfl) dJ8_unlinkFirst_22 rfl (fun H5 locs5 hW5 => ?_)
  clear hW4
  refine lv_aload_nN C.hx C.hb dJ8_unlinkFirst_25 rfl (lv_at hl2 0 rfl) ?_
  refine lv_ifnonnullN C.hx C.hb dJ8_unlinkFirst_26 ?_
  refine lv_aload_n C.hx C.hb dJ8_unlinkFirst_29 rfl (lv_at hl2 2 rfl) ?_
  refine lv_null C.hx C.hb dJ8_unlinkFirst_30 ?_
  refine k_put (S' := [[(a, .inr (14, [.int md, .int (nI 1), .null, .null]))], [(n, .inr (19, [.null, .null, .null]))]]) C clJ8 hW5 0 0 rfl rfl 3 (Nat.le_of_ble_eq_true rfl) rfl q266 rfl (fun _ h => h) (Or.inl rfl) (fty := (.object "java/util/LinkedList$Node")) (v := .null) (by decide +kernel) rfl rfl (Nat.le_of_ble_eq_true rfl) dJ8_unlinkFirst_31 rfl (fun H6 locs6 hW6 => ?_)
  clear hW5
  refine lv_goto (tgt := 42) C.hx C.hb dJ8_unlinkFirst_34 (by decide) ?_
  refine lv_aload_n C.hx C.hb dJ8_unlinkFirst_42 rfl (lv_at hl2 2 rfl) ?_
  refine lv_dup C.hx C.hb dJ8_unlinkFirst_43 rfl ?_
  refine k_get (v := .int (nI 1)) C clJ8 (hW6.get 0 0 rfl rfl) 1 (Nat.le_of_ble_eq_true rfl) rfl q263 rfl rfl dJ8_unlinkFirst_44 ?_
  refine kn_iconst (a := 1) C (by decide) dJ8_unlinkFirst_47 ?_
  refine kn_isub C (by omega) dJ8_unlinkFirst_48 ?_
  refine k_put (S' := [[(a, .inr (14, [.int md, .int (nI (1 - 1)), .null, .null]))], [(n, .inr (19, [.null, .null, .null]))]]) C clJ8 hW6 0 0 rfl rfl 1 (Nat.le_of_ble_eq_true rfl) rfl q263 rfl (fun _ h => h) (Or.inl rfl) (fty := .int) (v := .int (nI (1 - 1))) (by decide +kernel) rfl rfl (Nat.le_of_ble_eq_true rfl) dJ8_unlinkFirst_49 rfl (fun H7 locs7 hW7 => ?_)
  clear hW6
  refine lv_aload_n C.hx C.hb dJ8_unlinkFirst_52 rfl (lv_at hl2 2 rfl) ?_
  refine lv_dup C.hx C.hb dJ8_unlinkFirst_53 rfl ?_
  refine k_getS (v := .int md) C clJ8 (hW7.get 0 0 rfl rfl) 0 (Nat.le_of_ble_eq_true rfl) rfl q161 q157 k_same rfl rfl dJ8_unlinkFirst_54 ?_
  refine kn_iconst (a := 1) C (by decide) dJ8_unlinkFirst_57 ?_
  refine lv_iadd C.hx C.hb dJ8_unlinkFirst_58 ?_
  refine k_put (S' := [[(a, .inr (14, [.int (md + (nI 1)), .int (nI (1 - 1)), .null, .null]))], [(n, .inr (19, [.null, .null, .null]))]]) C clJ8 hW7 0 0 rfl rfl 0 (Nat.le_of_ble_eq_true rfl) rfl q161 rfl (k_same (C.hts _ q157)) (Or.inl rfl) (fty := .int) (v := .int (md + (nI 1))) (by decide +kernel) rfl rfl (Nat.le_of_ble_eq_true rfl) dJ8_unlinkFirst_59 rfl (fun H8 locs8 hW8 => ?_)
  clear hW7
  refine lv_aload_n C.hx C.hb dJ8_unlinkFirst_62 rfl (lv_at hl2 1 rfl) ?_
  have hW9 : Ws G A s [[(a, .inr (14, [.int (md + (nI 1)), .int (nI (1 - 1)), .null, .null]))], [(n, .inr (19, [.null, .null, .null]))]] H8 locs8 := hW8.pick 2 rfl [0, 1] (by decide) rfl
  clear hW8
  have hW10 : Ws G A s [[(a, .inr (14, [.int (md + (nI 1)), .int (nI (1 - 1)), .null, .null]))]] H8 locs8 := hW9.drop (S2 := [[(n, .inr (19, [.null, .null, .null]))]]) rfl
  clear hW9
  exact k_aret C hW10 rfl (Or.inl ⟨_, rfl⟩) (Or.inr ⟨_, rfl⟩) ⟨rfl, rfl⟩ (Nat.le_refl _) (Nat.le_refl _) dJ8_unlinkFirst_63

def Q_ctJ8_unlinkFirst_1 (G : GT) (a n x m1 y1 k : Nat) (md : Int32) (lf nx : Option Nat) : Option Value → List va_W → Prop := fun v S1 => v = some (.ref x) ∧ S1 = [[(a, .inr (14, [.int (md + 1), .int (nI k), .ref m1, vr lf]))], [(m1, .inr (19, [.ref y1, vr nx, .null]))]]
set_option maxHeartbeats 4000000 in
set_option maxRecDepth 100000 in
theorem ctJ8_unlinkFirst_1 (l : Launch) (G : GT) (a n x m1 y1 k : Nat) (md : Int32) (lf nx : Option Nat)  : Ct l G yJ8_unlinkFirst cJ8_unlinkFirst 4 (some (.object "java/lang/Object")) 0 0 0 0 [.ref a, .ref n] ([[(a, .inr (14, [.int md, .int (nI (k + 1)), .ref n, vr lf]))], [(n, .inr (19, [.ref x, .ref m1, .null]))], [(m1, .inr (19, [.ref y1, vr nx, .ref n]))]]) noR (Q_ctJ8_unlinkFirst_1 G a n x m1 y1 k md lf nx) := by
  refine Ct.of (by decide +kernel) (Nat.le_of_ble_eq_true rfl) ?_
  intro p e s m below meth c A ls C hW hRo hl
  have hl : lv_has ls 4 [(0, .ref a), (1, .ref n)] := hl
  refine lv_aload_n C.hx C.hb dJ8_unlinkFirst_0 rfl (lv_at hl 1 rfl) ?_
  refine k_get (v := .ref x) C clJ30 (hW.get 1 0 rfl rfl) 0 (Nat.le_of_ble_eq_true rfl) rfl q1713 rfl rfl dJ8_unlinkFirst_1 ?_
  refine lv_astore_n (lv' := [(2, .ref x), (0, .ref a), (1, .ref n)]) C.hx C.hb dJ8_unlinkFirst_4 rfl hl (Nat.le_of_ble_eq_true rfl) rfl (fun ls1 hl1 => ?_)
  clear hl
  refine lv_aload_n C.hx C.hb dJ8_unlinkFirst_5 rfl (lv_at hl1 2 rfl) ?_
  refine k_get (v := .ref m1) C clJ30 (hW.get 1 0 rfl rfl) 1 (Nat.le_of_ble_eq_true rfl) rfl q1716 rfl rfl dJ8_unlinkFirst_6 ?_
  refine lv_astore_n (lv' := [(3, .ref m1), (2, .ref x), (0, .ref a), (1, .ref n)]) C.hx C.hb dJ8_unlinkFirst_9 rfl hl1 (Nat.le_of_ble_eq_true rfl) rfl (fun ls2 hl2 => ?_)
  clear hl1
  refine lv_aload_n C.hx C.hb dJ8_unlinkFirst_10 rfl (lv_at hl2 3 rfl) ?_
  refine lv_null C.hx C.hb dJ8_unlinkFirst_11 ?_
  refine k_put (S' := [[(a, .inr (14, [.int md, .int (nI (k + 1)), .ref n, vr lf]))], [(n, .inr (19, [.null, .ref m1, .null]))], [(m1, .inr (19, [.ref y1, vr nx, .ref n]))]]) C clJ30 hW 1 0 rfl rfl 0 (Nat.le_of_ble_eq_true rfl) rfl q1713 rfl (fun _ h => h) (Or.inl rfl) (fty := (.object "java/lang/Object")) (v := .null) (by decide +kernel) rfl rfl (Nat.le_of_ble_eq_true rfl) dJ8_unlinkFirst_12 rfl (fun H3 locs3 hW3 => ?_)
  clear hW
  refine lv_aload_n C.hx C.hb dJ8_unlinkFirst_15 rfl (lv_at hl2 3 rfl) ?_
  refine lv_null C.hx C.hb dJ8_unlinkFirst_16 ?_
  refine k_put (S' := [[(a, .inr (14, [.int md, .int (nI (k + 1)), .ref n, vr lf]))], [(n, .inr (19, [.null, .null, .null]))], [(m1, .inr (19, [.ref y1, vr nx, .ref n]))]]) C clJ30 hW3 1 0 rfl rfl 1 (Nat.le_of_ble_eq_true rfl) rfl q1716 rfl (fun _ h => h) (Or.inl rfl) (fty := (.object "java/util/LinkedList$Node")) (v := .null) (by decide +kernel) rfl rfl (Nat.le_of_ble_eq_true rfl) dJ8_unlinkFirst_17 rfl (fun H4 locs4 hW4 => ?_)
  clear hW3
  refine lv_aload_n C.hx C.hb dJ8_unlinkFirst_20 rfl (lv_at hl2 2 rfl) ?_
  refine lv_aload_n C.hx C.hb dJ8_unlinkFirst_21 rfl (lv_at hl2 0 rfl) ?_
  refine k_put (S' := [[(a, .inr (14, [.int md, .int (nI (k + 1)), .ref m1, vr lf]))], [(n, .inr (19, [.null, .null, .null]))], [(m1, .inr (19, [.ref y1, vr nx, .ref n]))]]) C clJ8 hW4 0 0 rfl rfl 2 (Nat.le_of_ble_eq_true rfl) rfl q265 rfl (fun _ h => h) (Or.inl rfl) (fty := (.object "java/util/LinkedList$Node")) (v := .ref m1) (by decide +kernel) rfl rfl (Nat.le_of_ble_eq_true rfl) dJ8_unlinkFirst_22 rfl (fun H5 locs5 hW5 => ?_)
  clear hW4
  refine lv_aload_n C.hx C.hb dJ8_unlinkFirst_25 rfl (lv_at hl2 0 rfl) ?_
  refine lv_ifnonnull (tgt := 37) C.hx C.hb dJ8_unlinkFirst_26 (by decide) ?_
  refine lv_aload_n C.hx C.hb dJ8_unlinkFirst_37 rfl (lv_at hl2 0 rfl) ?_
  refine lv_null C.hx C.hb dJ8_unlinkFirst_38 ?_
  refine k_put (S' := [[(a, .inr (14, [.int md, .int (nI (k + 1)), .ref m1, vr lf]))], [(n, .inr (19, [.null, .null, .null]))], [(m1, .inr (19, [.ref y1, vr nx, .null]))]]) C clJ30 hW5 2 0 rfl rfl 2 (Nat.le_of_ble_eq_true rfl) rfl q1718 rfl (fun _ h => h) (Or.inl rfl) (fty := (.object "java/util/LinkedList$Node")) (v := .null) (by decide +kernel) rfl rfl (Nat.le_of_ble_eq_true rfl) dJ8_unlinkFirst_39 rfl (fun H6 locs6 hW6 => ?_)
  clear hW5
  refine lv_aload_n C.hx C.hb dJ8_unlinkFirst_42 rfl (lv_at hl2 2 rfl) ?_
  refine lv_dup C.hx C.hb dJ8_unlinkFirst_43 rfl ?_
  refine k_get (v := .int (nI (k + 1))) C clJ8 (hW6.get 0 0 rfl rfl) 1 (Nat.le_of_ble_eq_true rfl) rfl q263 rfl rfl dJ8_unlinkFirst_44 ?_
  refine kn_iconst (a := 1) C (by decide) dJ8_unlinkFirst_47 ?_
  refine kn_isub C (by omega) dJ8_unlinkFirst_48 ?_
  refine k_put (S' := [[(a, .inr (14, [.int md, .int (nI ((k + 1) - 1)), .ref m1, vr lf]))], [(n, .inr (19, [.null, .null, .null]))], [(m1, .inr (19, [.ref y1, vr nx, .null]))]]) C clJ8 hW6 0 0 rfl rfl 1 (Nat.le_of_ble_eq_true rfl) rfl q263 rfl (fun _ h => h) (Or.inl rfl) (fty := .int) (v := .int (nI ((k + 1) - 1))) (by decide +kernel) rfl rfl (Nat.le_of_ble_eq_true rfl) dJ8_unlinkFirst_49 rfl (fun H7 locs7 hW7 => ?_)
  clear hW6
  refine lv_aload_n C.hx C.hb dJ8_unlinkFirst_52 rfl (lv_at hl2 2 rfl) ?_
  refine lv_dup C.hx C.hb dJ8_unlinkFirst_53 rfl ?_
  refine k_getS (v := .int md) C clJ8 (hW7.get 0 0 rfl rfl) 0 (Nat.le_of_ble_eq_true rfl) rfl q161 q157 k_same rfl rfl dJ8_unlinkFirst_54 ?_
  refine kn_iconst (a := 1) C (by decide) dJ8_unlinkFirst_57 ?_
  refine lv_iadd C.hx C.hb dJ8_unlinkFirst_58 ?_
  refine k_put (S' := [[(a, .inr (14, [.int (md + (nI 1)), .int (nI ((k + 1) - 1)), .ref m1, vr lf]))], [(n, .inr (19, [.null, .null, .null]))], [(m1, .inr (19, [.ref y1, vr nx, .null]))]]) C clJ8 hW7 0 0 rfl rfl 0 (Nat.le_of_ble_eq_true rfl) rfl q161 rfl (k_same (C.hts _ q157)) (Or.inl rfl) (fty := .int) (v := .int (md + (nI 1))) (by decide +kernel) rfl rfl (Nat.le_of_ble_eq_true rfl) dJ8_unlinkFirst_59 rfl (fun H8 locs8 hW8 => ?_)
  clear hW7
  refine lv_aload_n C.hx C.hb dJ8_unlinkFirst_62 rfl (lv_at hl2 1 rfl) ?_
  have hW9 : Ws G A s [[(a, .inr (14, [.int (md + (nI 1)), .int (nI ((k + 1) - 1)), .ref m1, vr lf]))], [(m1, .inr (19, [.ref y1, vr nx, .null]))], [(n, .inr (19, [.null, .null, .null]))]] H8 locs8 := hW8.pick 3 rfl [0, 2, 1] (by decide) rfl
  clear hW8
  have hW10 : Ws G A s [[(a, .inr (14, [.int (md + (nI 1)), .int (nI ((k + 1) - 1)), .ref m1, vr lf]))], [(m1, .inr (19, [.ref y1, vr nx, .null]))]] H8 locs8 := hW9.drop (S2 := [[(n, .inr (19, [.null, .null, .null]))]]) rfl
  clear hW9
  exact k_aret C hW10 rfl (Or.inl ⟨_, rfl⟩) (Or.inr ⟨_, rfl⟩) ⟨rfl, rfl⟩ (Nat.le_refl _) (Nat.le_refl _) dJ8_unlinkFirst_63

def Q_ctJ8_pollFirst_n (G : GT) (a : Nat) (md : Int32) : Option Value → List va_W → Prop := fun v S1 => v = some .null ∧ S1 = [[(a, .inr (14, [.int md, .int (nI 0), .null, .null]))]]
set_option maxHeartbeats 4000000 in
set_option maxRecDepth 100000 in
theorem ctJ8_pollFirst_n (l : Launch) (G : GT) (a : Nat) (md : Int32)  : Ct l G yJ8_pollFirst cJ8_pollFirst 2 (some (.object "java/lang/Object")) 0 0 0 0 [.ref a] ([[(a, .inr (14, [.int md, .int (nI 0), .null, .null]))]]) noR (Q_ctJ8_pollFirst_n G a md) := by
  refine Ct.of (by decide +kernel) (Nat.le_of_ble_eq_true rfl) ?_
  intro p e s m below meth c A ls C hW hRo hl
  have hl : lv_has ls 2 [(0, .ref a)] := hl
  refine lv_aload_n C.hx C.hb dJ8_pollFirst_0 rfl (lv_at hl 0 rfl) ?_
  refine k_get (v := .null) C clJ8 (hW.get 0 0 rfl rfl) 2 (Nat.le_of_ble_eq_true rfl) rfl q265 rfl rfl dJ8_pollFirst_1 ?_
  refine lv_astore_nN (lv' := [(1, .null), (0, .ref a)]) C.hx C.hb dJ8_pollFirst_4 rfl hl (Nat.le_of_ble_eq_true rfl) rfl (fun ls1 hl1 => ?_)
  clear hl
  refine lv_aload_nN C.hx C.hb dJ8_pollFirst_5 rfl (lv_at hl1 0 rfl) ?_
  refine lv_ifnonnullN C.hx C.hb dJ8_pollFirst_6 ?_
  refine lv_null C.hx C.hb dJ8_pollFirst_9 ?_
  refine lv_goto (tgt := 18) C.hx C.hb dJ8_pollFirst_10 (by decide) ?_
  exact k_aret C hW rfl (Or.inl ⟨_, rfl⟩) (Or.inl rfl) ⟨rfl, rfl⟩ (Nat.le_refl _) (Nat.le_refl _) dJ8_pollFirst_18

def Q_ctJ8_pollFirst_0 (G : GT) (a n x : Nat) (md : Int32) : Option Value → List va_W → Prop := fun v S1 => v = some (.ref x) ∧ S1 = [[(a, .inr (14, [.int (md + 1), .int (nI 0), .null, .null]))]]
set_option maxHeartbeats 4000000 in
set_option maxRecDepth 100000 in
theorem ctJ8_pollFirst_0 (l : Launch) (G : GT) (a n x : Nat) (md : Int32)  : Ct l G yJ8_pollFirst cJ8_pollFirst 2 (some (.object "java/lang/Object")) 1 23 0 0 [.ref a] ([[(a, .inr (14, [.int md, .int (nI 1), .ref n, .ref n]))], [(n, .inr (19, [.ref x, .null, .null]))]]) noR (Q_ctJ8_pollFirst_0 G a n x md) := by
  refine Ct.of (by decide +kernel) (Nat.le_of_ble_eq_true rfl) ?_
  intro p e s m below meth c A ls C hW hRo hl
  have hl : lv_has ls 2 [(0, .ref a)] := hl
  refine lv_aload_n C.hx C.hb dJ8_pollFirst_0 rfl (lv_at hl 0 rfl) ?_
  refine k_get (v := .ref n) C clJ8 (hW.get 0 0 rfl rfl) 2 (Nat.le_of_ble_eq_true rfl) rfl q265 rfl rfl dJ8_pollFirst_1 ?_
  refine lv_astore_n (lv' := [(1, .ref n), (0, .ref a)]) C.hx C.hb dJ8_pollFirst_4 rfl hl (Nat.le_of_ble_eq_true rfl) rfl (fun ls1 hl1 => ?_)
  clear hl
  refine lv_aload_n C.hx C.hb dJ8_pollFirst_5 rfl (lv_at hl1 0 rfl) ?_
  refine lv_ifnonnull (tgt := 13) C.hx C.hb dJ8_pollFirst_6 (by decide) ?_
  refine lv_aload_n C.hx C.hb dJ8_pollFirst_13 rfl (lv_at hl1 1 rfl) ?_
  refine lv_aload_n C.hx C.hb dJ8_pollFirst_14 rfl (lv_at hl1 0 rfl) ?_
  refine k_callV (Sc := [[(a, .inr (14, [.int md, .int (nI 1), .ref n, .ref n]))], [(n, .inr (19, [.ref x, .null, .null]))]]) (Sr := []) (As := [.ref n]) (rest := []) C (ctJ8_unlinkFirst_0 l G a n x md) hW clJ8 (hW.get 0 0 rfl rfl) q1574 q1576 qs20 q82 q1577 rfl rfl ⟨by decide, by decide, Eq.trans (b := some 1) (by decide +kernel) rfl⟩ (Nat.le_of_ble_eq_true rfl) (Nat.le_of_ble_eq_true rfl) (Nat.le_refl _) (Nat.le_refl _) hl1.1 rfl (Nat.le_of_ble_eq_true rfl) dJ8_pollFirst_15 ((pick_perm [[(a, .inr (14, [.int md, .int (nI 1), .ref n, .ref n]))], [(n, .inr (19, [.ref x, .null, .null]))]] 2 rfl (is := [0, 1]) (by decide)).flatten.symm) (fun _ h => h.elim) (fun v H2 locs2 S1 hQ hz2 hW2 => ?_)
  obtain ⟨rfl, rfl⟩ := hQ
  have hW2 : Ws G A s ([[(a, .inr (14, [.int (md + 1), .int (nI 0), .null, .null]))]]) H2 locs2 := hW2
  clear hW
  refine W.eq (g2 := F0 m 18 ls1 [.ref x]) rfl ?_
  exact k_aret C hW2 rfl (Or.inl ⟨_, rfl⟩) (Or.inr ⟨_, rfl⟩) ⟨rfl, rfl⟩ (Nat.le_refl _) (Nat.le_refl _) dJ8_pollFirst_18

def Q_ctJ8_pollFirst_1 (G : GT) (a n x m1 y1 k : Nat) (md : Int32) (lf nx : Option Nat) : Option Value → List va_W → Prop := fun v S1 => v = some (.ref x) ∧ S1 = [[(a, .inr (14, [.int (md + 1), .int (nI k), .ref m1, vr lf]))], [(m1, .inr (19, [.ref y1, vr nx, .null]))]]
set_option maxHeartbeats 4000000 in
set_option maxRecDepth 100000 in
theorem ctJ8_pollFirst_1 (l : Launch) (G : GT) (a n x m1 y1 k : Nat) (md : Int32) (lf nx : Option Nat)  : Ct l G yJ8_pollFirst cJ8_pollFirst 2 (some (.object "java/lang/Object")) 1 23 0 0 [.ref a] ([[(a, .inr (14, [.int md, .int (nI (k + 1)), .ref n, vr lf]))], [(n, .inr (19, [.ref x, .ref m1, .null]))], [(m1, .inr (19, [.ref y1, vr nx, .ref n]))]]) noR (Q_ctJ8_pollFirst_1 G a n x m1 y1 k md lf nx) := by
  refine Ct.of (by decide +kernel) (Nat.le_of_ble_eq_true rfl) ?_
  intro p e s m below meth c A ls C hW hRo hl
  have hl : lv_has ls 2 [(0, .ref a)] := hl
  refine lv_aload_n C.hx C.hb dJ8_pollFirst_0 rfl (lv_at hl 0 rfl) ?_
  refine k_get (v := .ref n) C clJ8 (hW.get 0 0 rfl rfl) 2 (Nat.le_of_ble_eq_true rfl) rfl q265 rfl rfl dJ8_pollFirst_1 ?_
  refine lv_astore_n (lv' := [(1, .ref n), (0, .ref a)]) C.hx C.hb dJ8_pollFirst_4 rfl hl (Nat.le_of_ble_eq_true rfl) rfl (fun ls1 hl1 => ?_)
  clear hl
  refine lv_aload_n C.hx C.hb dJ8_pollFirst_5 rfl (lv_at hl1 0 rfl) ?_
  refine lv_ifnonnull (tgt := 13) C.hx C.hb dJ8_pollFirst_6 (by decide) ?_
  refine lv_aload_n C.hx C.hb dJ8_pollFirst_13 rfl (lv_at hl1 1 rfl) ?_
  refine lv_aload_n C.hx C.hb dJ8_pollFirst_14 rfl (lv_at hl1 0 rfl) ?_
  refine k_callV (Sc := [[(a, .inr (14, [.int md, .int (nI (k + 1)), .ref n, vr lf]))], [(n, .inr (19, [.ref x, .ref m1, .null]))], [(m1, .inr (19, [.ref y1, vr nx, .ref n]))]]) (Sr := []) (As := [.ref n]) (rest := []) C (ctJ8_unlinkFirst_1 l G a n x m1 y1 k md lf nx) hW clJ8 (hW.get 0 0 rfl rfl) q1574 q1576 qs20 q82 q1577 rfl rfl ⟨by decide, by decide, Eq.trans (b := some 1) (by decide +kernel) rfl⟩ (Nat.le_of_ble_eq_true rfl) (Nat.le_of_ble_eq_true rfl) (Nat.le_refl _) (Nat.le_refl _) hl1.1 rfl (Nat.le_of_ble_eq_true rfl) dJ8_pollFirst_15 ((pick_perm [[(a, .inr (14, [.int md, .int (nI (k + 1)), .ref n, vr lf]))], [(n, .inr (19, [.ref x, .ref m1, .null]))], [(m1, .inr (19, [.ref y1, vr nx, .ref n]))]] 3 rfl (is := [0, 1, 2]) (by decide)).flatten.symm) (fun _ h => h.elim) (fun v H2 locs2 S1 hQ hz2 hW2 => ?_)
  obtain ⟨rfl, rfl⟩ := hQ
  have hW2 : Ws G A s ([[(a, .inr (14, [.int (md + 1), .int (nI k), .ref m1, vr lf]))], [(m1, .inr (19, [.ref y1, vr nx, .null]))]]) H2 locs2 := hW2
  clear hW
  refine W.eq (g2 := F0 m 18 ls1 [.ref x]) rfl ?_
  exact k_aret C hW2 rfl (Or.inl ⟨_, rfl⟩) (Or.inr ⟨_, rfl⟩) ⟨rfl, rfl⟩ (Nat.le_refl _) (Nat.le_refl _) dJ8_pollFirst_18

def Q_ctJ8_addLast_0 (G : GT) (a e0 : Nat) (md : Int32) : Option Value → List va_W → Prop := fun v S1 => v = none ∧ ∃ q, S1 = [[(a, .inr (14, [.int (md + 1), .int (nI 1), .ref q, .ref q]))], [(q, .inr (19, [.ref e0, .null, .null]))]]
set_option maxHeartbeats 4000000 in
set_option maxRecDepth 100000 in
theorem ctJ8_addLast_0 (l : Launch) (G : GT) (a e0 : Nat) (md : Int32)  : Ct l G yJ8_addLast cJ8_addLast 2 none 3 66 1 3 [.ref a, .ref e0] ([[(a, .inr (14, [.int md, .int (nI 0), .null, .null]))]]) noR (Q_ctJ8_addLast_0 G a e0 md) := by
  refine Ct.of (by decide +kernel) (Nat.le_of_ble_eq_true rfl) ?_
  intro p e s m below meth c A ls C hW hRo hl
  have hl : lv_has ls 2 [(0, .ref a), (1, .ref e0)] := hl
  refine lv_aload_n C.hx C.hb dJ8_addLast_0 rfl (lv_at hl 0 rfl) ?_
  refine lv_aload_n C.hx C.hb dJ8_addLast_1 rfl (lv_at hl 1 rfl) ?_
  refine k_callV (Sc := [[(a, .inr (14, [.int md, .int (nI 0), .null, .null]))]]) (Sr := []) (As := [.ref e0]) (rest := []) C (ctJ8_linkLast_0 l G a e0 md) hW clJ8 (hW.get 0 0 rfl rfl) q1701 q1702 q1703 q82 q1704 rfl rfl ⟨by decide, by decide, Eq.trans (b := some 1) (by decide +kernel) rfl⟩ (Nat.le_of_ble_eq_true rfl) (Nat.le_of_ble_eq_true rfl) (show 0 + 1 ≤ 1 by omega) (show 0 + 3 ≤ 3 by omega) hl.1 rfl (Nat.le_of_ble_eq_true rfl) dJ8_addLast_2 ((pick_perm [[(a, .inr (14, [.int md, .int (nI 0), .null, .null]))]] 1 rfl (is := [0]) (by decide)).flatten.symm) (fun _ h => h.elim) (fun v H1 locs1 S1 hQ hz1 hW1 => ?_)
  obtain ⟨rfl, q, rfl⟩ := hQ
  have hW1 : Ws G A s ([[(a, .inr (14, [.int (md + 1), .int (nI 1), .ref q, .ref q]))], [(q, .inr (19, [.ref e0, .null, .null]))]]) H1 locs1 := hW1
  clear hW
  refine W.eq (g2 := F0 m 5 ls []) rfl ?_
  exact k_vret C hW1 rfl ⟨rfl, _, rfl⟩ (by omega) (by omega) dJ8_addLast_5

def Q_ctJ8_addLast_1 (G : GT) (a e0 n x k : Nat) (md : Int32) (f pv : Option Nat) : Option Value → List va_W → Prop := fun v S1 => v = none ∧ ∃ q, S1 = [[(a, .inr (14, [.int (md + 1), .int (nI (k + 1)), vr f, .ref q]))], [(n, .inr (19, [.ref x, .ref q, vr pv]))], [(q, .inr (19, [.ref e0, .null, .ref n]))]]
set_option maxHeartbeats 4000000 in
set_option maxRecDepth 100000 in
theorem ctJ8_addLast_1 (l : Launch) (G : GT) (a e0 n x k : Nat) (md : Int32) (f pv : Option Nat)  : Ct l G yJ8_addLast cJ8_addLast 2 none 3 66 1 3 [.ref a, .ref e0] ([[(a, .inr (14, [.int md, .int (nI k), vr f, .ref n]))], [(n, .inr (19, [.ref x, .null, vr pv]))]]) noR (Q_ctJ8_addLast_1 G a e0 n x k md f pv) := by
  refine Ct.of (by decide +kernel) (Nat.le_of_ble_eq_true rfl) ?_
  intro p e s m below meth c A ls C hW hRo hl
  have hl : lv_has ls 2 [(0, .ref a), (1, .ref e0)] := hl
  refine lv_aload_n C.hx C.hb dJ8_addLast_0 rfl (lv_at hl 0 rfl) ?_
  refine lv_aload_n C.hx C.hb dJ8_addLast_1 rfl (lv_at hl 1 rfl) ?_
  refine k_callV (Sc := [[(a, .inr (14, [.int md, .int (nI k), vr f, .ref n]))], [(n, .inr (19, [.ref x, .null, vr pv]))]]) (Sr := []) (As := [.ref e0]) (rest := []) C (ctJ8_linkLast_1 l G a e0 n x k md f pv) hW clJ8 (hW.get 0 0 rfl rfl) q1701 q1702 q1703 q82 q1704 rfl rfl ⟨by decide, by decide, Eq.trans (b := some 1) (by decide +kernel) rfl⟩ (Nat.le_of_ble_eq_true rfl) (Nat.le_of_ble_eq_true rfl) (show 0 + 1 ≤ 1 by omega) (show 0 + 3 ≤ 3 by omega) hl.1 rfl (Nat.le_of_ble_eq_true rfl) dJ8_addLast_2 ((pick_perm [[(a, .inr (14, [.int md, .int (nI k), vr f, .ref n]))], [(n, .inr (19, [.ref x, .null, vr pv]))]] 2 rfl (is := [0, 1]) (by decide)).flatten.symm) (fun _ h => h.elim) (fun v H1 locs1 S1 hQ hz1 hW1 => ?_)
  obtain ⟨rfl, q, rfl⟩ := hQ
  have hW1 : Ws G A s ([[(a, .inr (14, [.int (md + 1), .int (nI (k + 1)), vr f, .ref q]))], [(n, .inr (19, [.ref x, .ref q, vr pv]))], [(q, .inr (19, [.ref e0, .null, .ref n]))]]) H1 locs1 := hW1
  clear hW
  refine W.eq (g2 := F0 m 5 ls []) rfl ?_
  exact k_vret C hW1 rfl ⟨rfl, _, rfl⟩ (by omega) (by omega) dJ8_addLast_5

def Q_ctJ8_size (G : GT) (a k : Nat) (md : Int32) (f lf : Option Nat) : Option Value → List va_W → Prop := fun v S1 => v = some (.int (nI k)) ∧ S1 = []
set_option maxHeartbeats 4000000 in
set_option maxRecDepth 100000 in
theorem ctJ8_size (l : Launch) (G : GT) (a k : Nat) (md : Int32) (f lf : Option Nat)  : Ct l G yJ8_size cJ8_size 1 (some .int) 0 0 0 0 [.ref a] ([]) ((fun z => z = .inl (a, .inr (14, [.int md, .int (nI k), vr f, vr lf])))) (Q_ctJ8_size G a k md f lf) := by
  refine Ct.of (by decide +kernel) (Nat.le_of_ble_eq_true rfl) ?_
  intro p e s m below meth c A ls C hW hRo hl
  have hl : lv_has ls 1 [(0, .ref a)] := hl
  refine lv_aload_n C.hx C.hb dJ8_size_0 rfl (lv_at hl 0 rfl) ?_
  refine k_get (v := .int (nI k)) C clJ8 ((hRo _ rfl).at hW) 1 (Nat.le_of_ble_eq_true rfl) rfl q263 rfl rfl dJ8_size_1 ?_
  exact k_iret C hW rfl ⟨rfl, rfl⟩ (Nat.le_refl _) (Nat.le_refl _) dJ8_size_4

def Q_ctJ0_isEmpty_L (G : GT) (a k : Nat) (md : Int32) (f lf : Option Nat) : Option Value → List va_W → Prop := fun v S1 => v = some (.int (b01 (k = 0))) ∧ S1 = []
set_option maxHeartbeats 4000000 in
set_option maxRecDepth 100000 in
theorem ctJ0_isEmpty_L (l : Launch) (G : GT) (a k : Nat) (md : Int32) (f lf : Option Nat) (hk : k < 2 ^ 31) : Ct l G yJ0_isEmpty cJ0_isEmpty 1 (some .boolean) 1 20 0 0 [.ref a] ([]) ((fun z => z = .inl (a, .inr (14, [.int md, .int (nI k), vr f, vr lf])))) (Q_ctJ0_isEmpty_L G a k md f lf) := by
  refine Ct.of (by decide +kernel) (Nat.le_of_ble_eq_true rfl) ?_
  intro p e s m below meth c A ls C hW hRo hl
  have hl : lv_has ls 1 [(0, .ref a)] := hl
  refine lv_aload_n C.hx C.hb dJ0_isEmpty_0 rfl (lv_at hl 0 rfl) ?_
  refine k_callA (owner := "java/util/AbstractCollection") (Sc := []) (Sr := []) (As := []) (rest := []) C (ctJ8_size l G a k md f lf) hW clJ8 ((hRo _ rfl).at hW) q1564 q2668 q2671 q838 q82 q839 q833 rfl ⟨by decide, by decide, Eq.trans (b := some 0) (by decide +kernel) rfl⟩ (Nat.le_of_ble_eq_true rfl) (Nat.le_of_ble_eq_true rfl) (Nat.le_refl _) (Nat.le_refl _) hl.1 rfl (Nat.le_of_ble_eq_true rfl) dJ0_isEmpty_1 (k_permR _) (fun z hz => by cases hz; exact Or.inr (Or.inr (hRo _ rfl))) (fun v H1 locs1 S1 hQ hz1 hW1 => ?_)
  obtain ⟨rfl, rfl⟩ := hQ
  have hW1 : Ws G A s ([]) H1 locs1 := hW1
  clear hW
  refine W.eq (g2 := F0 m 4 ls [.int (nI k)]) rfl ?_
  refine kn_if_ne (tgt := 11) C (by omega) dJ0_isEmpty_4 (by decide) (fun c4 => ?_) (fun c4 => ?_)
  · refine kn_iconst (a := 0) C (by decide) dJ0_isEmpty_11 ?_
    exact k_zret C hW1 rfl (by decide) ⟨by simp [b01, c4]; rfl, rfl⟩ (Nat.le_refl _) (Nat.le_refl _) dJ0_isEmpty_12
  · refine kn_iconst (a := 1) C (by decide) dJ0_isEmpty_7 ?_
    refine lv_goto (tgt := 12) C.hx C.hb dJ0_isEmpty_8 (by decide) ?_
    exact k_zret C hW1 rfl (by decide) ⟨by simp [b01, c4]; rfl, rfl⟩ (Nat.le_refl _) (Nat.le_refl _) dJ0_isEmpty_12

def Q_ctJ8_isPositionIndex (G : GT) (a k : Nat) (md : Int32) (f lf : Option Nat) : Option Value → List va_W → Prop := fun v S1 => v = some (.int (nI 1)) ∧ S1 = []
set_option maxHeartbeats 4000000 in
set_option maxRecDepth 100000 in
theorem ctJ8_isPositionIndex (l : Launch) (G : GT) (a k : Nat) (md : Int32) (f lf : Option Nat) (hk : k < 2 ^ 31) : Ct l G yJ8_isPositionIndex cJ8_isPositionIndex 2 (some .boolean) 0 0 0 0 [.ref a, .int (nI 0)] ([]) ((fun z => z = .inl (a, .inr (14, [.int md, .int (nI k), vr f, vr lf])))) (Q_ctJ8_isPositionIndex G a k md f lf) := by
  refine Ct.of (by decide +kernel) (Nat.le_of_ble_eq_true rfl) ?_
  intro p e s m below meth c A ls C hW hRo hl
  have hl : lv_has ls 2 [(0, .ref a), (1, .int (nI 0))] := hl
  refine lv_iload_n C.hx C.hb dJ8_isPositionIndex_0 rfl (lv_at hl 1 rfl) ?_
  refine kn_if_lt (tgt := 16) C (by decide) dJ8_isPositionIndex_1 (by decide) ?_
  refine lv_iload_n C.hx C.hb dJ8_isPositionIndex_4 rfl (lv_at hl 1 rfl) ?_
  refine lv_aload_n C.hx C.hb dJ8_isPositionIndex_5 rfl (lv_at hl 0 rfl) ?_
  refine k_get (v := .int (nI k)) C clJ8 ((hRo _ rfl).at hW) 1 (Nat.le_of_ble_eq_true rfl) rfl q263 rfl rfl dJ8_isPositionIndex_6 ?_
  refine kn_icmp_gt (tgt := 16) C (by decide) (by omega) dJ8_isPositionIndex_9 (by decide) (fun c9 => (absurd c9 (Nat.not_lt_zero _))) (fun c9 => ?_)
  refine kn_iconst (a := 1) C (by decide) dJ8_isPositionIndex_12 ?_
  refine lv_goto (tgt := 17) C.hx C.hb dJ8_isPositionIndex_13 (by decide) ?_
  exact k_zret C hW rfl (by decide) ⟨rfl, rfl⟩ (Nat.le_refl _) (Nat.le_refl _) dJ8_isPositionIndex_17

def Q_ctJ8_checkPositionIndex (G : GT) (a k : Nat) (md : Int32) (f lf : Option Nat) : Option Value → List va_W → Prop := fun v S1 => v = none ∧ S1 = []
set_option maxHeartbeats 4000000 in
set_option maxRecDepth 100000 in
theorem ctJ8_checkPositionIndex (l : Launch) (G : GT) (a k : Nat) (md : Int32) (f lf : Option Nat) (hk : k < 2 ^ 31) : Ct l G yJ8_checkPositionIndex cJ8_checkPositionIndex 2 none 1 21 0 0 [.ref a, .int (nI 0)] ([]) ((fun z => z = .inl (a, .inr (14, [.int md, .int (nI k), vr f, vr lf])))) (Q_ctJ8_checkPositionIndex G a k md f lf) := by
  refine Ct.of (by decide +kernel) (Nat.le_of_ble_eq_true rfl) ?_
  intro p e s m below meth c A ls C hW hRo hl
  have hl : lv_has ls 2 [(0, .ref a), (1, .int (nI 0))] := hl
  refine lv_aload_n C.hx C.hb dJ8_checkPositionIndex_0 rfl (lv_at hl 0 rfl) ?_
  refine lv_iload_n C.hx C.hb dJ8_checkPositionIndex_1 rfl (lv_at hl 1 rfl) ?_
  refine k_callV (Sc := []) (Sr := []) (As := [.int (nI 0)]) (rest := []) C (ctJ8_isPositionIndex l G a k md f lf hk) hW clJ8 ((hRo _ rfl).at hW) q777 q779 qs5 q82 q780 rfl rfl ⟨by decide, by decide, Eq.trans (b := some 1) (by decide +kernel) rfl⟩ (Nat.le_of_ble_eq_true rfl) (Nat.le_of_ble_eq_true rfl) (Nat.le_refl _) (Nat.le_refl _) hl.1 rfl (Nat.le_of_ble_eq_true rfl) dJ8_checkPositionIndex_2 (k_permR _) (fun z hz => by cases hz; exact Or.inr (Or.inr (hRo _ rfl))) (fun v H1 locs1 S1 hQ hz1 hW1 => ?_)
  obtain ⟨rfl, rfl⟩ := hQ
  have hW1 : Ws G A s ([]) H1 locs1 := hW1
  clear hW
  refine W.eq (g2 := F0 m 5 ls [.int (nI 1)]) rfl ?_
  refine kn_if_ne (tgt := 21) C (by decide) dJ8_checkPositionIndex_5 (by decide) (fun cq => ?_) (fun cq => absurd cq (by decide))
  exact k_vret C hW1 rfl ⟨rfl, rfl⟩ (Nat.le_refl _) (Nat.le_refl _) dJ8_checkPositionIndex_21

def Q_ctJ8_node (G : GT) (a k f0 l0 : Nat) (md : Int32) : Option Value → List va_W → Prop := fun v S1 => v = some (.ref f0) ∧ S1 = []
set_option maxHeartbeats 4000000 in
set_option maxRecDepth 100000 in
theorem ctJ8_node (l : Launch) (G : GT) (a k f0 l0 : Nat) (md : Int32) (hk : k + 1 < 2 ^ 31) (hf : k = 0 → l0 = f0) : Ct l G yJ8_node cJ8_node 4 (some (.object "java/util/LinkedList$Node")) 0 0 0 0 [.ref a, .int (nI 0)] ([]) ((fun z => z = .inl (a, .inr (14, [.int md, .int (nI (k + 1)), .ref f0, .ref l0])))) (Q_ctJ8_node G a k f0 l0 md) := by
  refine Ct.of (by decide +kernel) (Nat.le_of_ble_eq_true rfl) ?_
  intro p e s m below meth c A ls C hW hRo hl
  have hl : lv_has ls 4 [(0, .ref a), (1, .int (nI 0))] := hl
  refine lv_iload_n C.hx C.hb dJ8_node_0 rfl (lv_at hl 1 rfl) ?_
  refine lv_aload_n C.hx C.hb dJ8_node_1 rfl (lv_at hl 0 rfl) ?_
  refine k_get (v := .int (nI (k + 1))) C clJ8 ((hRo _ rfl).at hW) 1 (Nat.le_of_ble_eq_true rfl) rfl q263 rfl rfl dJ8_node_2 ?_
  refine kn_iconst (a := 1) C (by decide) dJ8_node_5 ?_
  refine kn_ishr1 C (by omega) dJ8_node_6 ?_
  refine kn_icmp_ge (tgt := 35) C (by decide) (by omega) dJ8_node_7 (by decide) (fun c7 => ?_) (fun c7 => ?_)
  · refine lv_aload_n C.hx C.hb dJ8_node_35 rfl (lv_at hl 0 rfl) ?_
    refine k_get (v := .ref l0) C clJ8 ((hRo _ rfl).at hW) 3 (Nat.le_of_ble_eq_true rfl) rfl q266 rfl rfl dJ8_node_36 ?_
    refine lv_astore_n (lv' := [(2, .ref l0), (0, .ref a), (1, .int (nI 0))]) C.hx C.hb dJ8_node_39 rfl hl (Nat.le_of_ble_eq_true rfl) rfl (fun ls1 hl1 => ?_)
    clear hl
    refine lv_aload_n C.hx C.hb dJ8_node_40 rfl (lv_at hl1 1 rfl) ?_
    refine k_get (v := .int (nI (k + 1))) C clJ8 ((hRo _ rfl).at hW) 1 (Nat.le_of_ble_eq_true rfl) rfl q263 rfl rfl dJ8_node_41 ?_
    refine kn_iconst (a := 1) C (by decide) dJ8_node_44 ?_
    refine kn_isub C (by omega) dJ8_node_45 ?_
    refine lv_istore_n (lv' := [(3, .int (nI ((k + 1) - 1))), (2, .ref l0), (0, .ref a), (1, .int (nI 0))]) C.hx C.hb dJ8_node_46 rfl hl1 (Nat.le_of_ble_eq_true rfl) rfl (fun ls2 hl2 => ?_)
    clear hl1
    refine lv_iload_n C.hx C.hb dJ8_node_47 rfl (lv_at hl2 0 rfl) ?_
    refine lv_iload_n C.hx C.hb dJ8_node_48 rfl (lv_at hl2 3 rfl) ?_
    refine kn_icmp_le (tgt := 63) C (by omega) (by decide) dJ8_node_49 (by decide) (fun c49 => ?_) (fun c49 => (absurd (by omega : _ ≤ 0) c49))
    refine lv_aload_n C.hx C.hb dJ8_node_63 rfl (lv_at hl2 1 rfl) ?_
    exact k_aret C hW rfl (Or.inl ⟨_, rfl⟩) (Or.inr ⟨_, rfl⟩) ⟨by rw [hf (by omega)], rfl⟩ (Nat.le_refl _) (Nat.le_refl _) dJ8_node_64
  · refine lv_aload_n C.hx C.hb dJ8_node_10 rfl (lv_at hl 0 rfl) ?_
    refine k_get (v := .ref f0) C clJ8 ((hRo _ rfl).at hW) 2 (Nat.le_of_ble_eq_true rfl) rfl q265 rfl rfl dJ8_node_11 ?_
    refine lv_astore_n (lv' := [(2, .ref f0), (0, .ref a), (1, .int (nI 0))]) C.hx C.hb dJ8_node_14 rfl hl (Nat.le_of_ble_eq_true rfl) rfl (fun ls3 hl3 => ?_)
    clear hl
    refine kn_iconst (a := 0) C (by decide) dJ8_node_15 ?_
    refine lv_istore_n (lv' := [(3, .int (nI 0)), (2, .ref f0), (0, .ref a), (1, .int (nI 0))]) C.hx C.hb dJ8_node_16 rfl hl3 (Nat.le_of_ble_eq_true rfl) rfl (fun ls4 hl4 => ?_)
    clear hl3
    refine lv_iload_n C.hx C.hb dJ8_node_17 rfl (lv_at hl4 0 rfl) ?_
    refine lv_iload_n C.hx C.hb dJ8_node_18 rfl (lv_at hl4 3 rfl) ?_
    refine kn_icmp_ge (tgt := 33) C (by decide) (by decide) dJ8_node_19 (by decide) (fun cq => ?_) (fun cq => absurd cq (by decide))
    refine lv_aload_n C.hx C.hb dJ8_node_33 rfl (lv_at hl4 1 rfl) ?_
    exact k_aret C hW rfl (Or.inl ⟨_, rfl⟩) (Or.inr ⟨_, rfl⟩) ⟨rfl, rfl⟩ (Nat.le_refl _) (Nat.le_refl _) dJ8_node_34
