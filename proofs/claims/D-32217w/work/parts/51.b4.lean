theorem cI_val (l : Launch) (G : GT) (i : Nat) (hi : i < 2 ^ 31) : Ct l G yJ16_valueOf cJ16_valueOf 1 (some (.object "java/lang/Integer")) 9 250 1 1 [.int (nI i)] [] noR (fun v S1 => ∃ q, v = some (.ref q) ∧ S1 = [intC q i] ∧ intE G (q, i)) := by
  refine Ct.wide (Nat.le_refl _) (Nat.le_refl _) (by decide) (by decide) <| Ct.fr (Sr := []) (ctJ16_valueOf l G i hi) (List.Perm.refl _) (fun _ h => h.elim) (fun v S1 hq => ?_)
  obtain ⟨q, h1, ⟨h2, h3, rfl⟩ | ⟨h2, rfl⟩⟩ := hq
  · exact ⟨_, ⟨q, h1, rfl, fun _ => h3⟩, by unfold intC; rw [if_pos h2]; exact List.Perm.refl _⟩
  · exact ⟨_, ⟨q, h1, rfl, fun h => absurd h (by show ¬ i ≤ 127; omega)⟩, by unfold intC; rw [if_neg (by omega)]; exact List.Perm.refl _⟩
def Q_ctX2_leaves (G : GT) (st sn lb lp sf wt fd isf lat b b0 b1 b2 b3 b4 b5 b6 b7 q cap kp wh : Nat) (mdp : Int32) : Option Value → List va_W → Prop := fun v S1 => v = none ∧ S1 = [[(b, .inr (4, [.int (nI b0), .int (nI b1), .int (nI b2), .int (nI wh), .int (nI b4), .int (nI b5), .int (nI b6), .int (nI kp)]))]]
set_option maxHeartbeats 4000000 in
set_option maxRecDepth 100000 in
theorem ctX2_leaves (l : Launch) (G : GT) (st sn lb lp sf wt fd isf lat b b0 b1 b2 b3 b4 b5 b6 b7 q cap kp wh : Nat) (mdp : Int32)  : Ct l G yX2_leaves cX2_leaves 3 none 1 20 0 0 [.ref st, .ref b, .int (nI wh)] ([[(b, .inr (4, [.int (nI b0), .int (nI b1), .int (nI b2), .int (nI b3), .int (nI b4), .int (nI b5), .int (nI b6), .int (nI b7)]))]]) ((fun z => z = .inl (st, .inr (1, [.int (nI sn), .ref lb, .ref lp, .int (nI sf), .int (nI wt), .int (nI fd), .int (nI isf), .ref lat])) ∨ z = .inl (aHd G lp q cap mdp kp))) (Q_ctX2_leaves G st sn lb lp sf wt fd isf lat b b0 b1 b2 b3 b4 b5 b6 b7 q cap kp wh mdp) := by
  refine Ct.of (by decide +kernel) (Nat.le_of_ble_eq_true rfl) ?_
  intro p e s m below meth c A ls C hW hRo hl
  have hl : lv_has ls 3 [(0, .ref st), (1, .ref b), (2, .int (nI wh))] := hl
  refine lv_aload_n C.hx C.hb dX2_leaves_0 rfl (lv_at hl 1 rfl) ?_
  refine lv_iload_n C.hx C.hb dX2_leaves_1 rfl (lv_at hl 2 rfl) ?_
  refine k_putN (S' := [[(b, .inr (4, [.int (nI b0), .int (nI b1), .int (nI b2), .int (nI wh), .int (nI b4), .int (nI b5), .int (nI b6), .int (nI b7)]))]]) C clX5 hW 0 0 rfl rfl 3 (Nat.le_of_ble_eq_true rfl) rfl q1636 rfl rfl (fty := .int) (v := .int (nI wh)) (by decide +kernel) rfl rfl (Nat.le_of_ble_eq_true rfl) dX2_leaves_2 rfl (fun H1 locs1 hW1 => ?_)
  clear hW
  refine lv_aload_n C.hx C.hb dX2_leaves_5 rfl (lv_at hl 1 rfl) ?_
  refine lv_aload_n C.hx C.hb dX2_leaves_6 rfl (lv_at hl 0 rfl) ?_
  refine k_get (v := .ref lp) C clX2 ((hRo _ (Or.inl rfl)).at hW1) 2 (Nat.le_of_ble_eq_true rfl) rfl q286 rfl rfl dX2_leaves_7 ?_
  refine k_callF (Sc := []) (Sr := [[(b, .inr (4, [.int (nI b0), .int (nI b1), .int (nI b2), .int (nI wh), .int (nI b4), .int (nI b5), .int (nI b6), .int (nI b7)]))]]) (As := []) (rest := [.ref b]) C (ctJ2_size l G lp kp mdp (some (if cap = 0 then G.2.2.2 2 else q))) hW1 clJ2 ((hRo _ (Or.inr rfl)).at hW1) q1054 q1057 q835 q75 q836 q1056 q1055 q1059 q1058 q373 rfl ⟨by decide, by decide, Eq.trans (b := some 0) (by decide +kernel) rfl⟩ (Nat.le_of_ble_eq_true rfl) (Nat.le_of_ble_eq_true rfl) (Nat.le_refl _) (Nat.le_refl _) hl.1 rfl (Nat.le_of_ble_eq_true rfl) dX2_leaves_10 (k_permR _) (fun z => (fun e => by cases e; exact Or.inr (Or.inr (hRo _ (Or.inr rfl))))) (fun v H2 locs2 S1 hQ hz2 hW2 => ?_)
  obtain ⟨rfl, rfl⟩ := hQ
  have hW2 : Ws G A s ([[(b, .inr (4, [.int (nI b0), .int (nI b1), .int (nI b2), .int (nI wh), .int (nI b4), .int (nI b5), .int (nI b6), .int (nI b7)]))]]) H2 locs2 := hW2
  clear hW1
  refine W.eq (g2 := F0 m 15 ls [.int (nI kp), .ref b]) rfl ?_
  refine k_putN (S' := [[(b, .inr (4, [.int (nI b0), .int (nI b1), .int (nI b2), .int (nI wh), .int (nI b4), .int (nI b5), .int (nI b6), .int (nI kp)]))]]) C clX5 hW2 0 0 rfl rfl 7 (Nat.le_of_ble_eq_true rfl) rfl q1644 rfl rfl (fty := .int) (v := .int (nI kp)) (by decide +kernel) rfl rfl (Nat.le_of_ble_eq_true rfl) dX2_leaves_15 rfl (fun H3 locs3 hW3 => ?_)
  clear hW2
  exact k_vret C hW3 rfl ⟨rfl, rfl⟩ (Nat.le_refl _) (Nat.le_refl _) dX2_leaves_18

def Q_ctX2_lays (G : GT) (st sn lb lp sf wt fd isf lat b b0 b1 b2 b3 b4 b5 b6 b7 q cap kp k : Nat) (md mdp : Int32) (ns : List (Nat × Nat)) : Option Value → List va_W → Prop := fun v S1 => v = none ∧ ∃ q9, S1 = [[(b, .inr (4, [.int (nI b0), .int (nI b1), .int (nI b2), .int (nI 2), .int (nI b4), .int (nI b5), .int (nI kp), .int (nI b7)]))], llK lb (md + 1) (k + 1) (ns ++ [(q9, b)])]
set_option maxHeartbeats 4000000 in
set_option maxRecDepth 100000 in
theorem ctX2_lays (l : Launch) (G : GT) (st sn lb lp sf wt fd isf lat b b0 b1 b2 b3 b4 b5 b6 b7 q cap kp k : Nat) (md mdp : Int32) (ns : List (Nat × Nat)) (hk : ns.length = k) : Ct l G yX2_lays cX2_lays 2 none 10 271 1 3 [.ref st, .ref b] ([[(b, .inr (4, [.int (nI b0), .int (nI b1), .int (nI b2), .int (nI b3), .int (nI b4), .int (nI b5), .int (nI b6), .int (nI b7)]))], (llK lb md k ns)]) ((fun z => z = .inl (st, .inr (1, [.int (nI sn), .ref lb, .ref lp, .int (nI sf), .int (nI wt), .int (nI fd), .int (nI isf), .ref lat])) ∨ z = .inl (aHd G lp q cap mdp kp))) (Q_ctX2_lays G st sn lb lp sf wt fd isf lat b b0 b1 b2 b3 b4 b5 b6 b7 q cap kp k md mdp ns) := by
  refine Ct.of (by decide +kernel) (Nat.le_of_ble_eq_true rfl) ?_
  intro p e s m below meth c A ls C hW hRo hl
  have hl : lv_has ls 2 [(0, .ref st), (1, .ref b)] := hl
  refine lv_aload_n C.hx C.hb dX2_lays_0 rfl (lv_at hl 1 rfl) ?_
  refine kn_iconst (a := 2) C (by decide) dX2_lays_1 ?_
  refine k_putN (S' := [[(b, .inr (4, [.int (nI b0), .int (nI b1), .int (nI b2), .int (nI 2), .int (nI b4), .int (nI b5), .int (nI b6), .int (nI b7)]))], (llK lb md k ns)]) C clX5 hW 0 0 rfl rfl 3 (Nat.le_of_ble_eq_true rfl) rfl q1636 rfl rfl (fty := .int) (v := .int (nI 2)) (by decide +kernel) rfl rfl (Nat.le_of_ble_eq_true rfl) dX2_lays_2 rfl (fun H1 locs1 hW1 => ?_)
  clear hW
  refine lv_aload_n C.hx C.hb dX2_lays_5 rfl (lv_at hl 1 rfl) ?_
  refine lv_aload_n C.hx C.hb dX2_lays_6 rfl (lv_at hl 0 rfl) ?_
  refine k_get (v := .ref lp) C clX2 ((hRo _ (Or.inl rfl)).at hW1) 2 (Nat.le_of_ble_eq_true rfl) rfl q286 rfl rfl dX2_lays_7 ?_
  refine k_callF (Sc := []) (Sr := [[(b, .inr (4, [.int (nI b0), .int (nI b1), .int (nI b2), .int (nI 2), .int (nI b4), .int (nI b5), .int (nI b6), .int (nI b7)]))], (llK lb md k ns)]) (As := []) (rest := [.ref b]) C (ctJ2_size l G lp kp mdp (some (if cap = 0 then G.2.2.2 2 else q))) hW1 clJ2 ((hRo _ (Or.inr rfl)).at hW1) q1054 q1057 q835 q75 q836 q1056 q1055 q1059 q1058 q373 rfl ⟨by decide, by decide, Eq.trans (b := some 0) (by decide +kernel) rfl⟩ (Nat.le_of_ble_eq_true rfl) (Nat.le_of_ble_eq_true rfl) (show 0 + 0 ≤ 1 by omega) (show 0 + 0 ≤ 3 by omega) hl.1 rfl (Nat.le_of_ble_eq_true rfl) dX2_lays_10 (k_permR _) (fun z => (fun e => by cases e; exact Or.inr (Or.inr (hRo _ (Or.inr rfl))))) (fun v H2 locs2 S1 hQ hz2 hW2 => ?_)
  obtain ⟨rfl, rfl⟩ := hQ
  have hW2 : Ws G A s ([[(b, .inr (4, [.int (nI b0), .int (nI b1), .int (nI b2), .int (nI 2), .int (nI b4), .int (nI b5), .int (nI b6), .int (nI b7)]))], (llK lb md k ns)]) H2 locs2 := hW2
  clear hW1
  refine W.eq (g2 := F0 m 15 ls [.int (nI kp), .ref b]) rfl ?_
  refine k_putN (S' := [[(b, .inr (4, [.int (nI b0), .int (nI b1), .int (nI b2), .int (nI 2), .int (nI b4), .int (nI b5), .int (nI kp), .int (nI b7)]))], (llK lb md k ns)]) C clX5 hW2 0 0 rfl rfl 6 (Nat.le_of_ble_eq_true rfl) rfl q1642 rfl rfl (fty := .int) (v := .int (nI kp)) (by decide +kernel) rfl rfl (Nat.le_of_ble_eq_true rfl) dX2_lays_15 rfl (fun H3 locs3 hW3 => ?_)
  clear hW2
  refine lv_aload_n C.hx C.hb dX2_lays_18 rfl (lv_at hl 0 rfl) ?_
  refine k_get (v := .ref lb) C clX2 ((hRo _ (Or.inl rfl)).at hW3) 1 (Nat.le_of_ble_eq_true rfl) rfl q284 rfl rfl dX2_lays_19 ?_
  refine lv_aload_n C.hx C.hb dX2_lays_22 rfl (lv_at hl 1 rfl) ?_
  refine k_callV (Sc := [(llK lb md k ns)]) (Sr := [[(b, .inr (4, [.int (nI b0), .int (nI b1), .int (nI b2), .int (nI 2), .int (nI b4), .int (nI b5), .int (nI kp), .int (nI b7)]))]]) (As := [.ref b]) (rest := []) C (cL_add l G lb b k md ns hk) hW3 clJ8 (hW3.mem (seg_memP (i := 1) rfl (llK_hd _ _ _ _))) q1867 q1852 q1853 q82 q1854 rfl rfl ⟨by decide, by decide, Eq.trans (b := some 1) (by decide +kernel) rfl⟩ (Nat.le_of_ble_eq_true rfl) (Nat.le_of_ble_eq_true rfl) (show 0 + 1 ≤ 1 by omega) (show 0 + 3 ≤ 3 by omega) hl.1 rfl (Nat.le_of_ble_eq_true rfl) dX2_lays_23 ((pick_perm [[(b, .inr (4, [.int (nI b0), .int (nI b1), .int (nI b2), .int (nI 2), .int (nI b4), .int (nI b5), .int (nI kp), .int (nI b7)]))], (llK lb md k ns)] 2 rfl (is := [0, 1]) (by decide)).flatten.symm) (fun _ h => h.elim) (fun v H4 locs4 S1 hQ hz4 hW4 => ?_)
  obtain ⟨rfl, q9, rfl⟩ := hQ
  have hW4 : Ws G A s ([[(b, .inr (4, [.int (nI b0), .int (nI b1), .int (nI b2), .int (nI 2), .int (nI b4), .int (nI b5), .int (nI kp), .int (nI b7)]))], (llK lb (md + 1) (k + 1) (ns ++ [(q9, b)]))]) H4 locs4 := hW4
  clear hW3
  refine W.eq (g2 := F0 m 26 ls []) rfl ?_
  exact k_vret C hW4 rfl ⟨rfl, q9, rfl⟩ (by omega) (by omega) dX2_lays_26

def Q_ctX2_rots (G : GT) (st sn lb lp sf wt fd isf lat b b0 b1 b2 b3 b4 b5 b6 b7 q cap kp k nd : Nat) (md mdp : Int32) (i0 t0 : List (Nat × Nat)) : Option Value → List va_W → Prop := fun v S1 => v = none ∧ S1 = [[(b, .inr (4, [.int (nI b0), .int (nI b1), .int (nI b2), .int (nI 4), .int (nI b4), .int (nI b5), .int (nI b6), .int (nI kp)]))], llK lb (md + 1) k (i0 ++ t0)]
set_option maxHeartbeats 4000000 in
set_option maxRecDepth 100000 in
theorem ctX2_rots (l : Launch) (G : GT) (st sn lb lp sf wt fd isf lat b b0 b1 b2 b3 b4 b5 b6 b7 q cap kp k nd : Nat) (md mdp : Int32) (i0 t0 : List (Nat × Nat)) (hk2 : k < 2 ^ 30) (hlen : i0.length + t0.length = k) (ho : ∀ z ∈ i0, z.2 ≠ b) : Ct l G yX2_rots cX2_rots 3 none 10 272 0 0 [.ref st, .ref b] ([[(b, .inr (4, [.int (nI b0), .int (nI b1), .int (nI b2), .int (nI b3), .int (nI b4), .int (nI b5), .int (nI b6), .int (nI b7)]))], (llK lb md (k + 1) (i0 ++ (nd, b) :: t0))]) ((fun z => z = .inl (st, .inr (1, [.int (nI sn), .ref lb, .ref lp, .int (nI sf), .int (nI wt), .int (nI fd), .int (nI isf), .ref lat])) ∨ z = .inl (aHd G lp q cap mdp kp))) (Q_ctX2_rots G st sn lb lp sf wt fd isf lat b b0 b1 b2 b3 b4 b5 b6 b7 q cap kp k nd md mdp i0 t0) := by
  refine Ct.of (by decide +kernel) (Nat.le_of_ble_eq_true rfl) ?_
  intro p e s m below meth c A ls C hW hRo hl
  have hl : lv_has ls 3 [(0, .ref st), (1, .ref b)] := hl
  refine lv_aload_n C.hx C.hb dX2_rots_0 rfl (lv_at hl 0 rfl) ?_
  refine k_get (v := .ref lb) C clX2 ((hRo _ (Or.inl rfl)).at hW) 1 (Nat.le_of_ble_eq_true rfl) rfl q284 rfl rfl dX2_rots_1 ?_
  refine lv_aload_n C.hx C.hb dX2_rots_4 rfl (lv_at hl 1 rfl) ?_
  refine k_callV (Sc := [(llK lb md (k + 1) (i0 ++ (nd, b) :: t0))]) (Sr := [[(b, .inr (4, [.int (nI b0), .int (nI b1), .int (nI b2), .int (nI b3), .int (nI b4), .int (nI b5), .int (nI b6), .int (nI b7)]))]]) (As := [.ref b]) (rest := []) C (cL_rem l G lb nd b k md i0 t0 [.int (nI b0), .int (nI b1), .int (nI b2), .int (nI b3), .int (nI b4), .int (nI b5), .int (nI b6), .int (nI b7)] hk2 hlen ho) hW clJ8 (hW.mem (seg_memP (i := 1) rfl (llK_hd _ _ _ _))) q2005 q2006 q2007 q82 q2008 rfl rfl ⟨by decide, by decide, Eq.trans (b := some 1) (by decide +kernel) rfl⟩ (Nat.le_of_ble_eq_true rfl) (Nat.le_of_ble_eq_true rfl) (Nat.le_refl _) (Nat.le_refl _) hl.1 rfl (Nat.le_of_ble_eq_true rfl) dX2_rots_5 ((pick_perm [[(b, .inr (4, [.int (nI b0), .int (nI b1), .int (nI b2), .int (nI b3), .int (nI b4), .int (nI b5), .int (nI b6), .int (nI b7)]))], (llK lb md (k + 1) (i0 ++ (nd, b) :: t0))] 2 rfl (is := [0, 1]) (by decide)).flatten.symm) (fun z => (fun e => by cases e; exact Or.inl ⟨_, rfl, seg_mem (i := 0) (j := 0) rfl rfl⟩)) (fun v H1 locs1 S1 hQ hz1 hW1 => ?_)
  obtain ⟨rfl, rfl⟩ := hQ
  have hW1 : Ws G A s ([[(b, .inr (4, [.int (nI b0), .int (nI b1), .int (nI b2), .int (nI b3), .int (nI b4), .int (nI b5), .int (nI b6), .int (nI b7)]))], (llK lb (md + 1) k (i0 ++ t0))]) H1 locs1 := hW1
  clear hW
  refine W.eq (g2 := F0 m 8 ls [.int (nI 1)]) rfl ?_
  refine lv_istore_n (lv' := [(2, .int (nI 1)), (0, .ref st), (1, .ref b)]) C.hx C.hb dX2_rots_8 rfl hl (Nat.le_of_ble_eq_true rfl) rfl (fun ls2 hl2 => ?_)
  clear hl
  refine lv_aload_n C.hx C.hb dX2_rots_9 rfl (lv_at hl2 1 rfl) ?_
  refine lv_aload_n C.hx C.hb dX2_rots_10 rfl (lv_at hl2 2 rfl) ?_
  refine kn_iconst (a := 4) C (by decide) dX2_rots_11 ?_
  refine k_callV (Sc := [[(b, .inr (4, [.int (nI b0), .int (nI b1), .int (nI b2), .int (nI b3), .int (nI b4), .int (nI b5), .int (nI b6), .int (nI b7)]))]]) (Sr := [(llK lb (md + 1) k (i0 ++ t0))]) (As := [.ref b, .int (nI 4)]) (rest := []) C (ctX2_leaves l G st sn lb lp sf wt fd isf lat b b0 b1 b2 b3 b4 b5 b6 b7 q cap kp 4 mdp) hW1 clX2 ((hRo _ (Or.inl rfl)).at hW1) q1986 q1988 qs41 q80 q1989 rfl rfl ⟨by decide, by decide, Eq.trans (b := some 2) (by decide +kernel) rfl⟩ (Nat.le_of_ble_eq_true rfl) (Nat.le_of_ble_eq_true rfl) (Nat.le_refl _) (Nat.le_refl _) hl2.1 rfl (Nat.le_of_ble_eq_true rfl) dX2_rots_12 ((pick_perm [[(b, .inr (4, [.int (nI b0), .int (nI b1), .int (nI b2), .int (nI b3), .int (nI b4), .int (nI b5), .int (nI b6), .int (nI b7)]))], (llK lb (md + 1) k (i0 ++ t0))] 2 rfl (is := [1, 0]) (by decide)).flatten.symm) (fun z => (fun hz => hz.elim (fun e => by cases e; exact Or.inr (Or.inr (hRo _ (Or.inl rfl)))) (fun e => by cases e; exact Or.inr (Or.inr (hRo _ (Or.inr rfl)))))) (fun v H3 locs3 S1 hQ hz3 hW3 => ?_)
  obtain ⟨rfl, rfl⟩ := hQ
  have hW3 : Ws G A s ([(llK lb (md + 1) k (i0 ++ t0)), [(b, .inr (4, [.int (nI b0), .int (nI b1), .int (nI b2), .int (nI 4), .int (nI b4), .int (nI b5), .int (nI b6), .int (nI kp)]))]]) H3 locs3 := hW3
  clear hW1
  refine W.eq (g2 := F0 m 15 ls2 []) rfl ?_
  have hW4 : Ws G A s [[(b, .inr (4, [.int (nI b0), .int (nI b1), .int (nI b2), .int (nI 4), .int (nI b4), .int (nI b5), .int (nI b6), .int (nI kp)]))], (llK lb (md + 1) k (i0 ++ t0))] H3 locs3 := hW3.pick 2 rfl [1, 0] (by decide) rfl
  clear hW3
  exact k_vret C hW4 rfl ⟨rfl, rfl⟩ (Nat.le_refl _) (Nat.le_refl _) dX2_rots_15

