def Q_ctJ5_init (G : GT) (t : Nat) : Option Value → List va_W → Prop := fun v S1 => v = none ∧ S1 = []
set_option maxHeartbeats 4000000 in
set_option maxRecDepth 100000 in
theorem ctJ5_init (l : Launch) (G : GT) (t : Nat)  : Ct l G yJ5_init cJ5_init 1 none 1 20 0 0 [.ref t] ([]) noR (Q_ctJ5_init G t) := by
  refine Ct.of (by decide +kernel) (Nat.le_of_ble_eq_true rfl) ?_
  intro p e s m below meth c A ls C hW hRo hl
  have hl : lv_has ls 1 [(0, .ref t)] := hl
  refine lv_aload_n C.hx C.hb dJ5_init_0 rfl (lv_at hl 0 rfl) ?_
  refine W.objInit C.hx C.hb C.hown (C.hts _ q224) (C.hts _ q133) (C.hts _ q134) rfl (by rw [C.hml]; exact hl.1) rfl dJ5_init_1 (Nat.le_of_ble_eq_true rfl) (Nat.le_of_ble_eq_true rfl) ?_
  refine W.eq (g2 := F0 m 4 ls []) rfl ?_
  exact k_vret C hW rfl ⟨rfl, rfl⟩ (Nat.le_refl _) (Nat.le_refl _) dJ5_init_4

def Q_ctJ6_init (G : GT) (t : Nat) : Option Value → List va_W → Prop := fun v S1 => v = none ∧ S1 = [[(t, .inr (13, [.null, .null, .null, .null, .int (nI 0), .int (nI 0), .null, .null, .null]))]]
set_option maxHeartbeats 4000000 in
set_option maxRecDepth 100000 in
theorem ctJ6_init (l : Launch) (G : GT) (t : Nat)  : Ct l G yJ6_init cJ6_init 1 none 2 40 0 0 [.ref t] ([[(t, .inr (13, [.null, .null, .null, .null, .int 0, .int 0, .null, .null, .null]))]]) noR (Q_ctJ6_init G t) := by
  refine Ct.of (by decide +kernel) (Nat.le_of_ble_eq_true rfl) ?_
  intro p e s m below meth c A ls C hW hRo hl
  have hl : lv_has ls 1 [(0, .ref t)] := hl
  refine lv_aload_n C.hx C.hb dJ6_init_0 rfl (lv_at hl 0 rfl) ?_
  refine k_callI (Sc := []) (Sr := [[(t, .inr (13, [.null, .null, .null, .null, .int 0, .int 0, .null, .null, .null]))]]) (As := []) (rest := []) C (ctJ5_init l G t) hW q221 q222 q78 q223 rfl rfl ⟨by decide, by decide, Eq.trans (b := some 0) (by decide +kernel) rfl⟩ (Nat.le_of_ble_eq_true rfl) (Nat.le_of_ble_eq_true rfl) (Nat.le_refl _) (Nat.le_refl _) hl.1 rfl (Nat.le_of_ble_eq_true rfl) dJ6_init_1 (k_permR _) (fun _ h => h.elim) (fun v H1 locs1 S1 hQ hz1 hW1 => ?_)
  obtain ⟨rfl, rfl⟩ := hQ
  have hW1 : Ws G A s ([[(t, .inr (13, [.null, .null, .null, .null, .int 0, .int 0, .null, .null, .null]))]]) H1 locs1 := hW1
  clear hW
  refine W.eq (g2 := F0 m 4 ls []) rfl ?_
  refine lv_aload_n C.hx C.hb dJ6_init_4 rfl (lv_at hl 0 rfl) ?_
  refine kn_iconst (a := 0) C (by decide) dJ6_init_5 ?_
  refine k_put (S' := [[(t, .inr (13, [.null, .null, .null, .null, .int (nI 0), .int 0, .null, .null, .null]))]]) C clJ6 hW1 0 0 rfl rfl 4 (Nat.le_of_ble_eq_true rfl) rfl q227 rfl (fun _ h => h) (Or.inr ⟨rfl, rfl⟩) (fty := .int) (v := .int (nI 0)) (by decide +kernel) rfl rfl (Nat.le_of_ble_eq_true rfl) dJ6_init_6 rfl (fun H2 locs2 hW2 => ?_)
  clear hW1
  refine lv_aload_n C.hx C.hb dJ6_init_9 rfl (lv_at hl 0 rfl) ?_
  refine kn_iconst (a := 0) C (by decide) dJ6_init_10 ?_
  refine k_put (S' := [[(t, .inr (13, [.null, .null, .null, .null, .int (nI 0), .int (nI 0), .null, .null, .null]))]]) C clJ6 hW2 0 0 rfl rfl 5 (Nat.le_of_ble_eq_true rfl) rfl q228 rfl (fun _ h => h) (Or.inr ⟨rfl, rfl⟩) (fty := .int) (v := .int (nI 0)) (by decide +kernel) rfl rfl (Nat.le_of_ble_eq_true rfl) dJ6_init_11 rfl (fun H3 locs3 hW3 => ?_)
  clear hW2
  refine lv_aload_n C.hx C.hb dJ6_init_14 rfl (lv_at hl 0 rfl) ?_
  refine lv_null C.hx C.hb dJ6_init_15 ?_
  refine k_put (S' := [[(t, .inr (13, [.null, .null, .null, .null, .int (nI 0), .int (nI 0), .null, .null, .null]))]]) C clJ6 hW3 0 0 rfl rfl 2 (Nat.le_of_ble_eq_true rfl) rfl q225 rfl (fun _ h => h) (Or.inr ⟨rfl, rfl⟩) (fty := (.object "java/util/Comparator")) (v := .null) (by decide +kernel) rfl rfl (Nat.le_of_ble_eq_true rfl) dJ6_init_16 rfl (fun H4 locs4 hW4 => ?_)
  clear hW3
  exact k_vret C hW4 rfl ⟨rfl, rfl⟩ (Nat.le_refl _) (Nat.le_refl _) dJ6_init_19

def Q_ctJ31_init (G : GT) (x k v0 : Nat) (pr : Option Nat) : Option Value → List va_W → Prop := fun v S1 => v = none ∧ S1 = [[(x, .inr (20, [.ref k, .ref v0, .null, .null, vr pr, .int (nI 1)]))]]
set_option maxHeartbeats 4000000 in
set_option maxRecDepth 100000 in
theorem ctJ31_init (l : Launch) (G : GT) (x k v0 : Nat) (pr : Option Nat)  : Ct l G yJ31_init cJ31_init 4 none 1 20 0 0 [.ref x, .ref k, .ref v0, vr pr] ([[(x, .inr (20, [.null, .null, .null, .null, .null, .int 0]))]]) noR (Q_ctJ31_init G x k v0 pr) := by
  refine Ct.of (by decide +kernel) (by simp [lg_sl, vr_cat, ref_cat, null_cat, int_cat, long_cat]) ?_
  intro p e s m below meth c A ls C hW hRo hl
  have hl : lv_has ls 4 [(0, .ref x), (1, .ref k), (2, .ref v0), (3, vr pr)] := by
    simp only [lv_args, vr_cat] at hl
    exact hl
  refine lv_aload_n C.hx C.hb dJ31_init_0 rfl (lv_at hl 0 rfl) ?_
  refine W.objInit C.hx C.hb C.hown (C.hts _ q1815) (C.hts _ q133) (C.hts _ q134) rfl (by rw [C.hml]; exact hl.1) rfl dJ31_init_1 (Nat.le_of_ble_eq_true rfl) (Nat.le_of_ble_eq_true rfl) ?_
  refine W.eq (g2 := F0 m 4 ls []) rfl ?_
  refine lv_aload_n C.hx C.hb dJ31_init_4 rfl (lv_at hl 0 rfl) ?_
  refine kn_iconst (a := 1) C (by decide) dJ31_init_5 ?_
  refine k_put (S' := [[(x, .inr (20, [.null, .null, .null, .null, .null, .int (nI 1)]))]]) C clJ31 hW 0 0 rfl rfl 5 (Nat.le_of_ble_eq_true rfl) rfl q1824 rfl (fun _ h => h) (Or.inr ⟨rfl, rfl⟩) (fty := .boolean) (v := .int (nI 1)) (by decide +kernel) (by decide) (by decide) (Nat.le_of_ble_eq_true rfl) dJ31_init_6 rfl (fun H1 locs1 hW1 => ?_)
  clear hW
  refine lv_aload_n C.hx C.hb dJ31_init_9 rfl (lv_at hl 0 rfl) ?_
  refine lv_aload_n C.hx C.hb dJ31_init_10 rfl (lv_at hl 1 rfl) ?_
  refine k_put (S' := [[(x, .inr (20, [.ref k, .null, .null, .null, .null, .int (nI 1)]))]]) C clJ31 hW1 0 0 rfl rfl 0 (Nat.le_of_ble_eq_true rfl) rfl q1816 rfl (fun _ h => h) (Or.inr ⟨rfl, rfl⟩) (fty := (.object "java/lang/Object")) (v := .ref k) (by decide +kernel) rfl rfl (Nat.le_of_ble_eq_true rfl) dJ31_init_11 rfl (fun H2 locs2 hW2 => ?_)
  clear hW1
  refine lv_aload_n C.hx C.hb dJ31_init_14 rfl (lv_at hl 0 rfl) ?_
  refine lv_aload_n C.hx C.hb dJ31_init_15 rfl (lv_at hl 2 rfl) ?_
  refine k_put (S' := [[(x, .inr (20, [.ref k, .ref v0, .null, .null, .null, .int (nI 1)]))]]) C clJ31 hW2 0 0 rfl rfl 1 (Nat.le_of_ble_eq_true rfl) rfl q1818 rfl (fun _ h => h) (Or.inr ⟨rfl, rfl⟩) (fty := (.object "java/lang/Object")) (v := .ref v0) (by decide +kernel) rfl rfl (Nat.le_of_ble_eq_true rfl) dJ31_init_16 rfl (fun H3 locs3 hW3 => ?_)
  clear hW2
  refine lv_aload_n C.hx C.hb dJ31_init_19 rfl (lv_at hl 0 rfl) ?_
  refine lv_aload_nq C.hx C.hb dJ31_init_20 rfl (lv_at hl 3 rfl) ?_
  refine k_put (S' := [[(x, .inr (20, [.ref k, .ref v0, .null, .null, vr pr, .int (nI 1)]))]]) C clJ31 hW3 0 0 rfl rfl 4 (Nat.le_of_ble_eq_true rfl) rfl q1822 rfl (fun _ h => h) (Or.inr ⟨rfl, rfl⟩) (fty := (.object "java/util/TreeMap$Entry")) (v := vr pr) (by decide +kernel) (vr_nar _ _) (vr_fit _ _) (Nat.le_of_ble_eq_true rfl) dJ31_init_21 rfl (fun H4 locs4 hW4 => ?_)
  clear hW3
  exact k_vret C hW4 rfl ⟨rfl, rfl⟩ (Nat.le_refl _) (Nat.le_refl _) dJ31_init_24

def Q_ctJ6_parentOf_n (G : GT)  : Option Value → List va_W → Prop := fun v S1 => v = some .null ∧ S1 = []
set_option maxHeartbeats 4000000 in
set_option maxRecDepth 100000 in
theorem ctJ6_parentOf_n (l : Launch) (G : GT)   : Ct l G yJ6_parentOf cJ6_parentOf 1 (some (.object "java/util/TreeMap$Entry")) 0 0 0 0 [.null] ([]) noR (Q_ctJ6_parentOf_n G ) := by
  refine Ct.of (by decide +kernel) (Nat.le_of_ble_eq_true rfl) ?_
  intro p e s m below meth c A ls C hW hRo hl
  have hl : lv_has ls 1 [(0, .null)] := hl
  refine lv_aload_nN C.hx C.hb dJ6_parentOf_0 rfl (lv_at hl 0 rfl) ?_
  refine lv_ifnonnullN C.hx C.hb dJ6_parentOf_1 ?_
  refine lv_null C.hx C.hb dJ6_parentOf_4 ?_
  refine lv_goto (tgt := 12) C.hx C.hb dJ6_parentOf_5 (by decide) ?_
  exact k_aret C hW rfl (Or.inl ⟨_, rfl⟩) (Or.inl rfl) ⟨rfl, rfl⟩ (Nat.le_refl _) (Nat.le_refl _) dJ6_parentOf_12

def Q_ctJ6_parentOf (G : GT) (x k v0 : Nat) (lf rg pr : Option Nat) (cb : Bool) : Option Value → List va_W → Prop := fun v S1 => v = some (vr pr) ∧ S1 = []
set_option maxHeartbeats 4000000 in
set_option maxRecDepth 100000 in
theorem ctJ6_parentOf (l : Launch) (G : GT) (x k v0 : Nat) (lf rg pr : Option Nat) (cb : Bool)  : Ct l G yJ6_parentOf cJ6_parentOf 1 (some (.object "java/util/TreeMap$Entry")) 0 0 0 0 [.ref x] ([]) ((fun z => z = .inl (x, .inr (20, [.ref k, .ref v0, vr lf, vr rg, vr pr, .int (nI (tcol cb))])))) (Q_ctJ6_parentOf G x k v0 lf rg pr cb) := by
  refine Ct.of (by decide +kernel) (Nat.le_of_ble_eq_true rfl) ?_
  intro p e s m below meth c A ls C hW hRo hl
  have hl : lv_has ls 1 [(0, .ref x)] := hl
  refine lv_aload_n C.hx C.hb dJ6_parentOf_0 rfl (lv_at hl 0 rfl) ?_
  refine lv_ifnonnull (tgt := 8) C.hx C.hb dJ6_parentOf_1 (by decide) ?_
  refine lv_aload_n C.hx C.hb dJ6_parentOf_8 rfl (lv_at hl 0 rfl) ?_
  refine k_get (v := vr pr) C clJ31 ((hRo _ rfl).at hW) 4 (Nat.le_of_ble_eq_true rfl) rfl q1823 rfl rfl dJ6_parentOf_9 ?_
  exact k_aret C hW rfl (Or.inl ⟨_, rfl⟩) (vr_ref _) ⟨rfl, rfl⟩ (Nat.le_refl _) (Nat.le_refl _) dJ6_parentOf_12

def Q_ctJ6_leftOf_n (G : GT)  : Option Value → List va_W → Prop := fun v S1 => v = some .null ∧ S1 = []
set_option maxHeartbeats 4000000 in
set_option maxRecDepth 100000 in
theorem ctJ6_leftOf_n (l : Launch) (G : GT)   : Ct l G yJ6_leftOf cJ6_leftOf 1 (some (.object "java/util/TreeMap$Entry")) 0 0 0 0 [.null] ([]) noR (Q_ctJ6_leftOf_n G ) := by
  refine Ct.of (by decide +kernel) (Nat.le_of_ble_eq_true rfl) ?_
  intro p e s m below meth c A ls C hW hRo hl
  have hl : lv_has ls 1 [(0, .null)] := hl
  refine lv_aload_nN C.hx C.hb dJ6_leftOf_0 rfl (lv_at hl 0 rfl) ?_
  refine lv_ifnonnullN C.hx C.hb dJ6_leftOf_1 ?_
  refine lv_null C.hx C.hb dJ6_leftOf_4 ?_
  refine lv_goto (tgt := 12) C.hx C.hb dJ6_leftOf_5 (by decide) ?_
  exact k_aret C hW rfl (Or.inl ⟨_, rfl⟩) (Or.inl rfl) ⟨rfl, rfl⟩ (Nat.le_refl _) (Nat.le_refl _) dJ6_leftOf_12

def Q_ctJ6_leftOf (G : GT) (x k v0 : Nat) (lf rg pr : Option Nat) (cb : Bool) : Option Value → List va_W → Prop := fun v S1 => v = some (vr lf) ∧ S1 = []
set_option maxHeartbeats 4000000 in
set_option maxRecDepth 100000 in
theorem ctJ6_leftOf (l : Launch) (G : GT) (x k v0 : Nat) (lf rg pr : Option Nat) (cb : Bool)  : Ct l G yJ6_leftOf cJ6_leftOf 1 (some (.object "java/util/TreeMap$Entry")) 0 0 0 0 [.ref x] ([]) ((fun z => z = .inl (x, .inr (20, [.ref k, .ref v0, vr lf, vr rg, vr pr, .int (nI (tcol cb))])))) (Q_ctJ6_leftOf G x k v0 lf rg pr cb) := by
  refine Ct.of (by decide +kernel) (Nat.le_of_ble_eq_true rfl) ?_
  intro p e s m below meth c A ls C hW hRo hl
  have hl : lv_has ls 1 [(0, .ref x)] := hl
  refine lv_aload_n C.hx C.hb dJ6_leftOf_0 rfl (lv_at hl 0 rfl) ?_
  refine lv_ifnonnull (tgt := 8) C.hx C.hb dJ6_leftOf_1 (by decide) ?_
  refine lv_aload_n C.hx C.hb dJ6_leftOf_8 rfl (lv_at hl 0 rfl) ?_
  refine k_get (v := vr lf) C clJ31 ((hRo _ rfl).at hW) 2 (Nat.le_of_ble_eq_true rfl) rfl q1820 rfl rfl dJ6_leftOf_9 ?_
  exact k_aret C hW rfl (Or.inl ⟨_, rfl⟩) (vr_ref _) ⟨rfl, rfl⟩ (Nat.le_refl _) (Nat.le_refl _) dJ6_leftOf_12

def Q_ctJ6_rightOf_n (G : GT)  : Option Value → List va_W → Prop := fun v S1 => v = some .null ∧ S1 = []
set_option maxHeartbeats 4000000 in
set_option maxRecDepth 100000 in
theorem ctJ6_rightOf_n (l : Launch) (G : GT)   : Ct l G yJ6_rightOf cJ6_rightOf 1 (some (.object "java/util/TreeMap$Entry")) 0 0 0 0 [.null] ([]) noR (Q_ctJ6_rightOf_n G ) := by
  refine Ct.of (by decide +kernel) (Nat.le_of_ble_eq_true rfl) ?_
  intro p e s m below meth c A ls C hW hRo hl
  have hl : lv_has ls 1 [(0, .null)] := hl
  refine lv_aload_nN C.hx C.hb dJ6_rightOf_0 rfl (lv_at hl 0 rfl) ?_
  refine lv_ifnonnullN C.hx C.hb dJ6_rightOf_1 ?_
  refine lv_null C.hx C.hb dJ6_rightOf_4 ?_
  refine lv_goto (tgt := 12) C.hx C.hb dJ6_rightOf_5 (by decide) ?_
  exact k_aret C hW rfl (Or.inl ⟨_, rfl⟩) (Or.inl rfl) ⟨rfl, rfl⟩ (Nat.le_refl _) (Nat.le_refl _) dJ6_rightOf_12

def Q_ctJ6_rightOf (G : GT) (x k v0 : Nat) (lf rg pr : Option Nat) (cb : Bool) : Option Value → List va_W → Prop := fun v S1 => v = some (vr rg) ∧ S1 = []
set_option maxHeartbeats 4000000 in
set_option maxRecDepth 100000 in
theorem ctJ6_rightOf (l : Launch) (G : GT) (x k v0 : Nat) (lf rg pr : Option Nat) (cb : Bool)  : Ct l G yJ6_rightOf cJ6_rightOf 1 (some (.object "java/util/TreeMap$Entry")) 0 0 0 0 [.ref x] ([]) ((fun z => z = .inl (x, .inr (20, [.ref k, .ref v0, vr lf, vr rg, vr pr, .int (nI (tcol cb))])))) (Q_ctJ6_rightOf G x k v0 lf rg pr cb) := by
  refine Ct.of (by decide +kernel) (Nat.le_of_ble_eq_true rfl) ?_
  intro p e s m below meth c A ls C hW hRo hl
  have hl : lv_has ls 1 [(0, .ref x)] := hl
  refine lv_aload_n C.hx C.hb dJ6_rightOf_0 rfl (lv_at hl 0 rfl) ?_
  refine lv_ifnonnull (tgt := 8) C.hx C.hb dJ6_rightOf_1 (by decide) ?_
  refine lv_aload_n C.hx C.hb dJ6_rightOf_8 rfl (lv_at hl 0 rfl) ?_
  refine k_get (v := vr rg) C clJ31 ((hRo _ rfl).at hW) 3 (Nat.le_of_ble_eq_true rfl) rfl q1821 rfl rfl dJ6_rightOf_9 ?_
  exact k_aret C hW rfl (Or.inl ⟨_, rfl⟩) (vr_ref _) ⟨rfl, rfl⟩ (Nat.le_refl _) (Nat.le_refl _) dJ6_rightOf_12

def Q_ctJ6_colorOf_n (G : GT)  : Option Value → List va_W → Prop := fun v S1 => v = some (.int (nI 1)) ∧ S1 = []
set_option maxHeartbeats 4000000 in
set_option maxRecDepth 100000 in
theorem ctJ6_colorOf_n (l : Launch) (G : GT)   : Ct l G yJ6_colorOf cJ6_colorOf 1 (some .boolean) 0 0 0 0 [.null] ([]) noR (Q_ctJ6_colorOf_n G ) := by
  refine Ct.of (by decide +kernel) (Nat.le_of_ble_eq_true rfl) ?_
  intro p e s m below meth c A ls C hW hRo hl
  have hl : lv_has ls 1 [(0, .null)] := hl
  refine lv_aload_nN C.hx C.hb dJ6_colorOf_0 rfl (lv_at hl 0 rfl) ?_
  refine lv_ifnonnullN C.hx C.hb dJ6_colorOf_1 ?_
  refine kn_iconst (a := 1) C (by decide) dJ6_colorOf_4 ?_
  refine lv_goto (tgt := 12) C.hx C.hb dJ6_colorOf_5 (by decide) ?_
  exact k_zret C hW rfl (by decide) ⟨rfl, rfl⟩ (Nat.le_refl _) (Nat.le_refl _) dJ6_colorOf_12

def Q_ctJ6_colorOf (G : GT) (x k v0 : Nat) (lf rg pr : Option Nat) (cb : Bool) : Option Value → List va_W → Prop := fun v S1 => v = some (.int (nI (tcol cb))) ∧ S1 = []
set_option maxHeartbeats 4000000 in
set_option maxRecDepth 100000 in
theorem ctJ6_colorOf (l : Launch) (G : GT) (x k v0 : Nat) (lf rg pr : Option Nat) (cb : Bool)  : Ct l G yJ6_colorOf cJ6_colorOf 1 (some .boolean) 0 0 0 0 [.ref x] ([]) ((fun z => z = .inl (x, .inr (20, [.ref k, .ref v0, vr lf, vr rg, vr pr, .int (nI (tcol cb))])))) (Q_ctJ6_colorOf G x k v0 lf rg pr cb) := by
  refine Ct.of (by decide +kernel) (Nat.le_of_ble_eq_true rfl) ?_
  intro p e s m below meth c A ls C hW hRo hl
  have hl : lv_has ls 1 [(0, .ref x)] := hl
  refine lv_aload_n C.hx C.hb dJ6_colorOf_0 rfl (lv_at hl 0 rfl) ?_
  refine lv_ifnonnull (tgt := 8) C.hx C.hb dJ6_colorOf_1 (by decide) ?_
  refine lv_aload_n C.hx C.hb dJ6_colorOf_8 rfl (lv_at hl 0 rfl) ?_
  refine k_get (v := .int (nI (tcol cb))) C clJ31 ((hRo _ rfl).at hW) 5 (Nat.le_of_ble_eq_true rfl) rfl q1825 rfl rfl dJ6_colorOf_9 ?_
  exact k_zret C hW rfl (tcol_nar _) ⟨rfl, rfl⟩ (Nat.le_refl _) (Nat.le_refl _) dJ6_colorOf_12

def Q_ctJ6_setColor_n (G : GT) (cc1 : Bool) : Option Value → List va_W → Prop := fun v S1 => v = none ∧ S1 = []
set_option maxHeartbeats 4000000 in
set_option maxRecDepth 100000 in
theorem ctJ6_setColor_n (l : Launch) (G : GT) (cc1 : Bool)  : Ct l G yJ6_setColor cJ6_setColor 2 none 0 0 0 0 [.null, .int (nI (tcol cc1))] ([]) noR (Q_ctJ6_setColor_n G cc1) := by
  refine Ct.of (by decide +kernel) (Nat.le_of_ble_eq_true rfl) ?_
  intro p e s m below meth c A ls C hW hRo hl
  have hl : lv_has ls 2 [(0, .null), (1, .int (nI (tcol cc1)))] := hl
  refine lv_aload_nN C.hx C.hb dJ6_setColor_0 rfl (lv_at hl 0 rfl) ?_
  refine lv_ifnullN (tgt := 9) C.hx C.hb dJ6_setColor_1 (by decide) ?_
  exact k_vret C hW rfl ⟨rfl, rfl⟩ (Nat.le_refl _) (Nat.le_refl _) dJ6_setColor_9

def Q_ctJ6_setColor (G : GT) (x k v0 : Nat) (lf rg pr : Option Nat) (cb : Bool) (cc1 : Bool) : Option Value → List va_W → Prop := fun v S1 => v = none ∧ S1 = [[(x, .inr (20, [.ref k, .ref v0, vr lf, vr rg, vr pr, .int (nI (tcol cc1))]))]]
set_option maxHeartbeats 4000000 in
set_option maxRecDepth 100000 in
theorem ctJ6_setColor (l : Launch) (G : GT) (x k v0 : Nat) (lf rg pr : Option Nat) (cb : Bool) (cc1 : Bool)  : Ct l G yJ6_setColor cJ6_setColor 2 none 0 0 0 0 [.ref x, .int (nI (tcol cc1))] ([[(x, .inr (20, [.ref k, .ref v0, vr lf, vr rg, vr pr, .int (nI (tcol cb))]))]]) noR (Q_ctJ6_setColor G x k v0 lf rg pr cb cc1) := by
  refine Ct.of (by decide +kernel) (Nat.le_of_ble_eq_true rfl) ?_
  intro p e s m below meth c A ls C hW hRo hl
  have hl : lv_has ls 2 [(0, .ref x), (1, .int (nI (tcol cc1)))] := hl
  refine lv_aload_n C.hx C.hb dJ6_setColor_0 rfl (lv_at hl 0 rfl) ?_
  refine lv_ifnull C.hx C.hb dJ6_setColor_1 ?_
  refine lv_aload_n C.hx C.hb dJ6_setColor_4 rfl (lv_at hl 0 rfl) ?_
  refine lv_iload_n C.hx C.hb dJ6_setColor_5 rfl (lv_at hl 1 rfl) ?_
  refine k_put (S' := [[(x, .inr (20, [.ref k, .ref v0, vr lf, vr rg, vr pr, .int (nI (tcol cc1))]))]]) C clJ31 hW 0 0 rfl rfl 5 (Nat.le_of_ble_eq_true rfl) rfl q1825 rfl (fun _ h => h) (Or.inl rfl) (fty := .boolean) (v := .int (nI (tcol cc1))) (by decide +kernel) (tcol_nar _) (tcol_fit _) (Nat.le_of_ble_eq_true rfl) dJ6_setColor_6 rfl (fun H1 locs1 hW1 => ?_)
  clear hW
  exact k_vret C hW1 rfl ⟨rfl, rfl⟩ (Nat.le_refl _) (Nat.le_refl _) dJ6_setColor_9

def Q_ctJ16_compare (G : GT) (i j : Nat) : Option Value → List va_W → Prop := fun v S1 => v = some (.int (nI (if i < j then NONE else if i = j then 0 else 1))) ∧ S1 = []
set_option maxHeartbeats 4000000 in
set_option maxRecDepth 100000 in
theorem ctJ16_compare (l : Launch) (G : GT) (i j : Nat) (hi : i < 2 ^ 31) (hj : j < 2 ^ 31) : Ct l G yJ16_compare cJ16_compare 2 (some .int) 0 0 0 0 [.int (nI i), .int (nI j)] ([]) noR (Q_ctJ16_compare G i j) := by
  refine Ct.of (by decide +kernel) (Nat.le_of_ble_eq_true rfl) ?_
  intro p e s m below meth c A ls C hW hRo hl
  have hl : lv_has ls 2 [(0, .int (nI i)), (1, .int (nI j))] := hl
  refine lv_iload_n C.hx C.hb dJ16_compare_0 rfl (lv_at hl 0 rfl) ?_
  refine lv_iload_n C.hx C.hb dJ16_compare_1 rfl (lv_at hl 1 rfl) ?_
  refine kn_icmp_ge (tgt := 9) C (by omega) (by omega) dJ16_compare_2 (by decide) (fun c2 => ?_) (fun c2 => ?_)
  · refine lv_iload_n C.hx C.hb dJ16_compare_9 rfl (lv_at hl 0 rfl) ?_
    refine lv_iload_n C.hx C.hb dJ16_compare_10 rfl (lv_at hl 1 rfl) ?_
    refine kn_icmp_ne (tgt := 18) C (by omega) (by omega) dJ16_compare_11 (by decide) (fun c11 => ?_) (fun c11 => ?_)
    · refine kn_iconst (a := 1) C (by decide) dJ16_compare_18 ?_
      exact k_iret C hW rfl ⟨by simp [show ¬ i < j by omega, show ¬ i = j by omega], rfl⟩ (Nat.le_refl _) (Nat.le_refl _) dJ16_compare_19
    · refine kn_iconst (a := 0) C (by decide) dJ16_compare_14 ?_
      refine lv_goto (tgt := 19) C.hx C.hb dJ16_compare_15 (by decide) ?_
      exact k_iret C hW rfl ⟨by simp [show ¬ i < j by omega, c11], rfl⟩ (Nat.le_refl _) (Nat.le_refl _) dJ16_compare_19
  · refine lv_iconst (v := nI NONE) C.hx C.hb dJ16_compare_5 (by decide) ?_
    refine lv_goto (tgt := 19) C.hx C.hb dJ16_compare_6 (by decide) ?_
    exact k_iret C hW rfl ⟨by simp [show i < j by omega], rfl⟩ (Nat.le_refl _) (Nat.le_refl _) dJ16_compare_19


def Q_ctJ16_compareTo_2 (G : GT) (q1 q2 i j : Nat) : Option Value → List va_W → Prop := fun v S1 => v = some (.int (nI (if i < j then NONE else if i = j then 0 else 1))) ∧ S1 = []
set_option maxHeartbeats 4000000 in
set_option maxRecDepth 100000 in
theorem ctJ16_compareTo_2 (l : Launch) (G : GT) (q1 q2 i j : Nat) (hi : i < 2 ^ 31) (hj : j < 2 ^ 31) : Ct l G yJ16_compareTo_2 cJ16_compareTo_2 2 (some .int) 1 21 0 0 [.ref q1, .ref q2] ([]) ((fun z => z = .inl (q1, .inr (16, [.int (nI i)])) ∨ z = .inl (q2, .inr (16, [.int (nI j)])))) (Q_ctJ16_compareTo_2 G q1 q2 i j) := by
  refine Ct.of (by decide +kernel) (Nat.le_of_ble_eq_true rfl) ?_
  intro p e s m below meth c A ls C hW hRo hl
  have hl : lv_has ls 2 [(0, .ref q1), (1, .ref q2)] := hl
  refine lv_aload_n C.hx C.hb dJ16_compareTo_2_0 rfl (lv_at hl 0 rfl) ?_
  refine k_get (v := .int (nI i)) C clJ16 ((hRo _ (Or.inl rfl)).at hW) 0 (Nat.le_of_ble_eq_true rfl) rfl q1304 rfl rfl dJ16_compareTo_2_1 ?_
  refine lv_aload_n C.hx C.hb dJ16_compareTo_2_4 rfl (lv_at hl 1 rfl) ?_
  refine k_get (v := .int (nI j)) C clJ16 ((hRo _ (Or.inr rfl)).at hW) 0 (Nat.le_of_ble_eq_true rfl) rfl q1304 rfl rfl dJ16_compareTo_2_5 ?_
  refine k_callS (Sc := []) (Sr := []) (As := [.int (nI i), .int (nI j)]) (rest := []) C (ctJ16_compare l G i j hi hj) hW q1342 q1343 q92 q1344 rfl ⟨by decide, by decide, Eq.trans (b := some 2) (by decide +kernel) rfl⟩ (Nat.le_of_ble_eq_true rfl) (Nat.le_of_ble_eq_true rfl) (Nat.le_refl _) (Nat.le_refl _) hl.1 rfl (Nat.le_of_ble_eq_true rfl) dJ16_compareTo_2_8 (k_permR _) (fun _ h => h.elim) (fun v H1 locs1 S1 hQ hz1 hW1 => ?_)
  obtain ⟨rfl, rfl⟩ := hQ
  have hW1 : Ws G A s ([]) H1 locs1 := hW1
  clear hW
  refine W.eq (g2 := F0 m 11 ls [.int (nI (if i < j then NONE else if i = j then 0 else 1))]) rfl ?_
  exact k_iret C hW1 rfl ⟨rfl, rfl⟩ (Nat.le_refl _) (Nat.le_refl _) dJ16_compareTo_2_11

def Q_ctJ16_compareTo (G : GT) (q1 q2 i j : Nat) : Option Value → List va_W → Prop := fun v S1 => v = some (.int (nI (if i < j then NONE else if i = j then 0 else 1))) ∧ S1 = []
set_option maxHeartbeats 4000000 in
set_option maxRecDepth 100000 in
theorem ctJ16_compareTo (l : Launch) (G : GT) (q1 q2 i j : Nat) (hi : i < 2 ^ 31) (hj : j < 2 ^ 31) : Ct l G yJ16_compareTo cJ16_compareTo 2 (some .int) 2 42 0 0 [.ref q1, .ref q2] ([]) ((fun z => z = .inl (q1, .inr (16, [.int (nI i)])) ∨ z = .inl (q2, .inr (16, [.int (nI j)])))) (Q_ctJ16_compareTo G q1 q2 i j) := by
  refine Ct.of (by decide +kernel) (Nat.le_of_ble_eq_true rfl) ?_
  intro p e s m below meth c A ls C hW hRo hl
  have hl : lv_has ls 2 [(0, .ref q1), (1, .ref q2)] := hl
  refine lv_aload_n C.hx C.hb dJ16_compareTo_0 rfl (lv_at hl 0 rfl) ?_
  refine lv_aload_n C.hx C.hb dJ16_compareTo_1 rfl (lv_at hl 1 rfl) ?_
  refine k_castS C clJ16 ((hRo _ (Or.inr rfl)).at hW) q1295 rfl dJ16_compareTo_2 ?_
  refine k_callV (Sc := []) (Sr := []) (As := [.ref q2]) (rest := []) C (ctJ16_compareTo_2 l G q1 q2 i j hi hj) hW clJ16 ((hRo _ (Or.inl rfl)).at hW) q1338 q1339 q1340 q92 q1341 rfl rfl ⟨by decide, by decide, Eq.trans (b := some 1) (by decide +kernel) rfl⟩ (Nat.le_of_ble_eq_true rfl) (Nat.le_of_ble_eq_true rfl) (Nat.le_refl _) (Nat.le_refl _) hl.1 rfl (Nat.le_of_ble_eq_true rfl) dJ16_compareTo_5 (k_permR _) (fun z => (fun hz => hz.elim (fun e => by cases e; exact Or.inr (Or.inr (hRo _ (Or.inl rfl)))) (fun e => by cases e; exact Or.inr (Or.inr (hRo _ (Or.inr rfl)))))) (fun v H1 locs1 S1 hQ hz1 hW1 => ?_)
  obtain ⟨rfl, rfl⟩ := hQ
  have hW1 : Ws G A s ([]) H1 locs1 := hW1
  clear hW
  refine W.eq (g2 := F0 m 8 ls [.int (nI (if i < j then NONE else if i = j then 0 else 1))]) rfl ?_
  exact k_iret C hW1 rfl ⟨rfl, rfl⟩ (Nat.le_refl _) (Nat.le_refl _) dJ16_compareTo_8

def Q_ctJ6_compare (G : GT) (t q1 q2 i j n : Nat) (md : Int32) (rt : Option Nat) : Option Value → List va_W → Prop := fun v S1 => v = some (.int (nI (if i < j then NONE else if i = j then 0 else 1))) ∧ S1 = []
set_option maxHeartbeats 4000000 in
set_option maxRecDepth 100000 in
theorem ctJ6_compare (l : Launch) (G : GT) (t q1 q2 i j n : Nat) (md : Int32) (rt : Option Nat) (hi : i < 2 ^ 31) (hj : j < 2 ^ 31) : Ct l G yJ6_compare cJ6_compare 3 (some .int) 3 63 0 0 [.ref t, .ref q1, .ref q2] ([]) ((fun z => z = .inl (t, .inr (13, [.null, .null, .null, vr rt, .int (nI n), .int md, .null, .null, .null])) ∨ z = .inl (q1, .inr (16, [.int (nI i)])) ∨ z = .inl (q2, .inr (16, [.int (nI j)])))) (Q_ctJ6_compare G t q1 q2 i j n md rt) := by
  refine Ct.of (by decide +kernel) (Nat.le_of_ble_eq_true rfl) ?_
  intro p e s m below meth c A ls C hW hRo hl
  have hl : lv_has ls 3 [(0, .ref t), (1, .ref q1), (2, .ref q2)] := hl
  refine lv_aload_n C.hx C.hb dJ6_compare_0 rfl (lv_at hl 0 rfl) ?_
  refine k_get (v := .null) C clJ6 ((hRo _ (Or.inl rfl)).at hW) 2 (Nat.le_of_ble_eq_true rfl) rfl q225 rfl rfl dJ6_compare_1 ?_
  refine lv_ifnonnullN C.hx C.hb dJ6_compare_4 ?_
  refine lv_aload_n C.hx C.hb dJ6_compare_7 rfl (lv_at hl 1 rfl) ?_
  refine k_castY C clJ16 ((hRo _ (Or.inr (Or.inl rfl))).at hW) q1327 rfl q1332 dJ6_compare_8 ?_
  refine lv_aload_n C.hx C.hb dJ6_compare_11 rfl (lv_at hl 2 rfl) ?_
  refine k_callF (Sc := []) (Sr := []) (As := [.ref q2]) (rest := []) C (ctJ16_compareTo l G q1 q2 i j hi hj) hW clJ16 ((hRo _ (Or.inr (Or.inl rfl))).at hW) q1329 q1333 q1335 q92 q1337 q1331 q1330 q1336 q1334 q1332 rfl ⟨by decide, by decide, Eq.trans (b := some 1) (by decide +kernel) rfl⟩ (Nat.le_of_ble_eq_true rfl) (Nat.le_of_ble_eq_true rfl) (Nat.le_refl _) (Nat.le_refl _) hl.1 rfl (Nat.le_of_ble_eq_true rfl) dJ6_compare_12 (k_permR _) (fun z => (fun hz => hz.elim (fun e => by cases e; exact Or.inr (Or.inr (hRo _ (Or.inr (Or.inl rfl))))) (fun e => by cases e; exact Or.inr (Or.inr (hRo _ (Or.inr (Or.inr rfl))))))) (fun v H1 locs1 S1 hQ hz1 hW1 => ?_)
  obtain ⟨rfl, rfl⟩ := hQ
  have hW1 : Ws G A s ([]) H1 locs1 := hW1
  clear hW
  refine W.eq (g2 := F0 m 17 ls [.int (nI (if i < j then NONE else if i = j then 0 else 1))]) rfl ?_
  refine lv_goto (tgt := 31) C.hx C.hb dJ6_compare_17 (by decide) ?_
  exact k_iret C hW1 rfl ⟨rfl, rfl⟩ (Nat.le_refl _) (Nat.le_refl _) dJ6_compare_31

def Q_ctJ6_addEntryToEmptyMap (G : GT) (t q1 v0 i n : Nat) (md : Int32) : Option Value → List va_W → Prop := fun v S1 => v = none ∧ ∃ x, S1 = [[(t, .inr (13, [.null, .null, .null, .ref x, .int (nI 1), .int (md + 1), .null, .null, .null]))], [(x, .inr (20, [.ref q1, .ref v0, .null, .null, .null, .int (nI 1)]))]]
set_option maxHeartbeats 4000000 in
set_option maxRecDepth 100000 in
theorem ctJ6_addEntryToEmptyMap (l : Launch) (G : GT) (t q1 v0 i n : Nat) (md : Int32) (hi : i < 2 ^ 31) : Ct l G yJ6_addEntryToEmptyMap cJ6_addEntryToEmptyMap 3 none 4 85 1 6 [.ref t, .ref q1, .ref v0] ([[(t, .inr (13, [.null, .null, .null, .null, .int (nI n), .int md, .null, .null, .null]))]]) ((fun z => z = .inl (q1, .inr (16, [.int (nI i)])))) (Q_ctJ6_addEntryToEmptyMap G t q1 v0 i n md) := by
  refine Ct.of (by decide +kernel) (Nat.le_of_ble_eq_true rfl) ?_
  intro p e s m below meth c A ls C hW hRo hl
  have hl : lv_has ls 3 [(0, .ref t), (1, .ref q1), (2, .ref v0)] := hl
  refine lv_aload_n C.hx C.hb dJ6_addEntryToEmptyMap_0 rfl (lv_at hl 0 rfl) ?_
  refine lv_aload_n C.hx C.hb dJ6_addEntryToEmptyMap_1 rfl (lv_at hl 1 rfl) ?_
  refine lv_aload_n C.hx C.hb dJ6_addEntryToEmptyMap_2 rfl (lv_at hl 1 rfl) ?_
  refine k_callV (Sc := []) (Sr := [[(t, .inr (13, [.null, .null, .null, .null, .int (nI n), .int md, .null, .null, .null]))]]) (As := [.ref q1, .ref q1]) (rest := []) C (ctJ6_compare l G t q1 q1 i i n md none hi hi) hW clJ6 (hW.get 0 0 rfl rfl) q1806 q1807 q1808 q79 q1809 rfl rfl ⟨by decide, by decide, Eq.trans (b := some 2) (by decide +kernel) rfl⟩ (Nat.le_of_ble_eq_true rfl) (Nat.le_of_ble_eq_true rfl) (show 0 + 0 ≤ 1 by omega) (show 0 + 0 ≤ 6 by omega) hl.1 rfl (Nat.le_of_ble_eq_true rfl) dJ6_addEntryToEmptyMap_3 (k_permR _) (fun z => (fun hz => hz.elim (fun e => by cases e; exact Or.inl ⟨_, rfl, seg_mem (i := 0) (j := 0) rfl rfl⟩) (fun hz => hz.elim (fun e => by cases e; exact Or.inr (Or.inr (hRo _ rfl))) (fun e => by cases e; exact Or.inr (Or.inr (hRo _ rfl)))))) (fun v H1 locs1 S1 hQ hz1 hW1 => ?_)
  obtain ⟨rfl, rfl⟩ := hQ
  have hW1 : Ws G A s ([[(t, .inr (13, [.null, .null, .null, .null, .int (nI n), .int md, .null, .null, .null]))]]) H1 locs1 := hW1
  clear hW
  refine W.eq (g2 := F0 m 6 ls [.int (nI (if i < i then NONE else if i = i then 0 else 1))]) rfl ?_
  refine lv_pop C.hx C.hb dJ6_addEntryToEmptyMap_6 rfl ?_
  refine lv_aload_n C.hx C.hb dJ6_addEntryToEmptyMap_7 rfl (lv_at hl 0 rfl) ?_
  refine k_new (fs := [.null, .null, .null, .null, .null, .int 0]) C clJ31 hW1 q1810 rfl q1811 q113 (fun j hj => (by have := co_dec (P := fun j => defaultValue (tyJ31 j) = vp_V [.null, .null, .null, .null, .null, .int 0] j) (N := 6) (by decide +kernel) hj; exact this)) (show 0 + 1 ≤ 1 by omega) (show 0 + 6 ≤ 6 by omega) dJ6_addEntryToEmptyMap_8 (fun q2 H2 hW2 => ?_)
  have hW2 : Ws G A s [[(t, .inr (13, [.null, .null, .null, .null, .int (nI n), .int md, .null, .null, .null]))], [(q2, .inr (20, [.null, .null, .null, .null, .null, .int 0]))]] H2 locs1 := hW2
  clear hW1
  refine lv_dup C.hx C.hb dJ6_addEntryToEmptyMap_11 rfl ?_
  refine lv_aload_n C.hx C.hb dJ6_addEntryToEmptyMap_12 rfl (lv_at hl 1 rfl) ?_
  refine lv_aload_n C.hx C.hb dJ6_addEntryToEmptyMap_13 rfl (lv_at hl 2 rfl) ?_
  refine lv_null C.hx C.hb dJ6_addEntryToEmptyMap_14 ?_
  refine k_callI (Sc := [[(q2, .inr (20, [.null, .null, .null, .null, .null, .int 0]))]]) (Sr := [[(t, .inr (13, [.null, .null, .null, .null, .int (nI n), .int md, .null, .null, .null]))]]) (As := [.ref q1, .ref v0, .null]) (rest := [.ref q2, .ref t]) C (ctJ31_init l G q2 q1 v0 none) hW2 q1812 q1813 q113 q1814 rfl rfl ⟨by decide, by decide, Eq.trans (b := some 3) (by decide +kernel) rfl⟩ (Nat.le_of_ble_eq_true rfl) (Nat.le_of_ble_eq_true rfl) (show 1 + 0 ≤ 1 by omega) (show 6 + 0 ≤ 6 by omega) hl.1 rfl (Nat.le_of_ble_eq_true rfl) dJ6_addEntryToEmptyMap_15 ((pick_perm [[(t, .inr (13, [.null, .null, .null, .null, .int (nI n), .int md, .null, .null, .null]))], [(q2, .inr (20, [.null, .null, .null, .null, .null, .int 0]))]] 2 rfl (is := [0, 1]) (by decide)).flatten.symm) (fun _ h => h.elim) (fun v H3 locs3 S1 hQ hz3 hW3 => ?_)
  obtain ⟨rfl, rfl⟩ := hQ
  have hW3 : Ws G A s ([[(t, .inr (13, [.null, .null, .null, .null, .int (nI n), .int md, .null, .null, .null]))], [(q2, .inr (20, [.ref q1, .ref v0, .null, .null, .null, .int (nI 1)]))]]) H3 locs3 := hW3
  clear hW2
  refine W.eq (g2 := F0 m 18 ls [.ref q2, .ref t]) rfl ?_
  refine k_put (S' := [[(t, .inr (13, [.null, .null, .null, .ref q2, .int (nI n), .int md, .null, .null, .null]))], [(q2, .inr (20, [.ref q1, .ref v0, .null, .null, .null, .int (nI 1)]))]]) C clJ6 hW3 0 0 rfl rfl 3 (Nat.le_of_ble_eq_true rfl) rfl q226 rfl (fun _ h => h) (Or.inl rfl) (fty := (.object "java/util/TreeMap$Entry")) (v := .ref q2) (by decide +kernel) rfl rfl (Nat.le_of_ble_eq_true rfl) dJ6_addEntryToEmptyMap_18 rfl (fun H4 locs4 hW4 => ?_)
  clear hW3
  refine lv_aload_n C.hx C.hb dJ6_addEntryToEmptyMap_21 rfl (lv_at hl 0 rfl) ?_
  refine kn_iconst (a := 1) C (by decide) dJ6_addEntryToEmptyMap_22 ?_
  refine k_put (S' := [[(t, .inr (13, [.null, .null, .null, .ref q2, .int (nI 1), .int md, .null, .null, .null]))], [(q2, .inr (20, [.ref q1, .ref v0, .null, .null, .null, .int (nI 1)]))]]) C clJ6 hW4 0 0 rfl rfl 4 (Nat.le_of_ble_eq_true rfl) rfl q227 rfl (fun _ h => h) (Or.inl rfl) (fty := .int) (v := .int (nI 1)) (by decide +kernel) rfl rfl (Nat.le_of_ble_eq_true rfl) dJ6_addEntryToEmptyMap_23 rfl (fun H5 locs5 hW5 => ?_)
  clear hW4
  refine lv_aload_n C.hx C.hb dJ6_addEntryToEmptyMap_26 rfl (lv_at hl 0 rfl) ?_
  refine lv_dup C.hx C.hb dJ6_addEntryToEmptyMap_27 rfl ?_
  refine k_get (v := .int md) C clJ6 (hW5.get 0 0 rfl rfl) 5 (Nat.le_of_ble_eq_true rfl) rfl q228 rfl rfl dJ6_addEntryToEmptyMap_28 ?_
  refine kn_iconst (a := 1) C (by decide) dJ6_addEntryToEmptyMap_31 ?_
  refine lv_iadd C.hx C.hb dJ6_addEntryToEmptyMap_32 ?_
  refine k_put (S' := [[(t, .inr (13, [.null, .null, .null, .ref q2, .int (nI 1), .int (md + (nI 1)), .null, .null, .null]))], [(q2, .inr (20, [.ref q1, .ref v0, .null, .null, .null, .int (nI 1)]))]]) C clJ6 hW5 0 0 rfl rfl 5 (Nat.le_of_ble_eq_true rfl) rfl q228 rfl (fun _ h => h) (Or.inl rfl) (fty := .int) (v := .int (md + (nI 1))) (by decide +kernel) rfl rfl (Nat.le_of_ble_eq_true rfl) dJ6_addEntryToEmptyMap_33 rfl (fun H6 locs6 hW6 => ?_)
  clear hW5
  exact k_vret C hW6 rfl ⟨rfl, _, rfl⟩ (by omega) (by omega) dJ6_addEntryToEmptyMap_36

def Q_ctJ6_getEntry (G : GT) (t q1 i n : Nat) (md : Int32) (T0 : TT) : Option Value → List va_W → Prop := fun v S1 => v = some (vr ((tfind T0 i).map (fun x => x.1))) ∧ S1 = []
set_option maxHeartbeats 4000000 in
set_option maxRecDepth 100000 in
theorem ctJ6_getEntry (l : Launch) (G : GT) (t q1 i n : Nat) (md : Int32) (T0 : TT) (hi : i < 2 ^ 31) (hk : ∀ x ∈ inord T0, x.2.2.1 < 2 ^ 31) : Ct l G yJ6_getEntry cJ6_getEntry 5 (some (.object "java/util/TreeMap$Entry")) 3 63 0 0 [.ref t, .ref q1] ([]) ((fun z => z = .inl (t, .inr (13, [.null, .null, .null, vr (tad T0), .int (nI n), .int md, .null, .null, .null])) ∨ z = .inl (q1, .inr (16, [.int (nI i)])) ∨ (∃ y ∈ tw none T0, z = .inl y) ∨ ∃ x ∈ inord T0, z = .inl (x.2.1, .inr (16, [.int (nI x.2.2.1)])))) (Q_ctJ6_getEntry G t q1 i n md T0) := by
  refine Ct.of (by decide +kernel) (Nat.le_of_ble_eq_true rfl) ?_
  intro p e s m below meth c A ls C hW hRo hl
  have hl : lv_has ls 5 [(0, .ref t), (1, .ref q1)] := hl
  refine lv_aload_n C.hx C.hb dJ6_getEntry_0 rfl (lv_at hl 0 rfl) ?_
  refine k_get (v := .null) C clJ6 ((hRo _ (Or.inl rfl)).at hW) 2 (Nat.le_of_ble_eq_true rfl) rfl q225 rfl rfl dJ6_getEntry_1 ?_
  refine lv_ifnullN (tgt := 13) C.hx C.hb dJ6_getEntry_4 (by decide) ?_
  refine lv_aload_n C.hx C.hb dJ6_getEntry_13 rfl (lv_at hl 1 rfl) ?_
  refine k_callS (Sc := []) (Sr := []) (As := [.ref q1]) (rest := []) C (ctJ17_requireNonNull l G q1) hW q1324 q1325 q94 q1326 rfl ⟨by decide, by decide, Eq.trans (b := some 1) (by decide +kernel) rfl⟩ (Nat.le_of_ble_eq_true rfl) (Nat.le_of_ble_eq_true rfl) (Nat.le_refl _) (Nat.le_refl _) hl.1 rfl (Nat.le_of_ble_eq_true rfl) dJ6_getEntry_14 (k_permR _) (fun _ h => h.elim) (fun v H1 locs1 S1 hQ hz1 hW1 => ?_)
  obtain ⟨rfl, rfl⟩ := hQ
  have hW1 : Ws G A s ([]) H1 locs1 := hW1
  clear hW
  refine W.eq (g2 := F0 m 17 ls [.ref q1]) rfl ?_
  refine lv_pop C.hx C.hb dJ6_getEntry_17 rfl ?_
  refine lv_aload_n C.hx C.hb dJ6_getEntry_18 rfl (lv_at hl 1 rfl) ?_
  refine k_castY C clJ16 ((hRo _ (Or.inr (Or.inl rfl))).at hW1) q1327 rfl q1332 dJ6_getEntry_19 ?_
  refine lv_astore_n (lv' := [(2, .ref q1), (0, .ref t), (1, .ref q1)]) C.hx C.hb dJ6_getEntry_22 rfl hl (Nat.le_of_ble_eq_true rfl) rfl (fun ls2 hl2 => ?_)
  clear hl
  refine lv_aload_n C.hx C.hb dJ6_getEntry_23 rfl (lv_at hl2 1 rfl) ?_
  refine k_get (v := vr (tad T0)) C clJ6 ((hRo _ (Or.inl rfl)).at hW1) 3 (Nat.le_of_ble_eq_true rfl) rfl q226 rfl rfl dJ6_getEntry_24 ?_
  refine lv_astore_nq (lv' := [(3, vr (tad T0)), (2, .ref q1), (0, .ref t), (1, .ref q1)]) C.hx C.hb dJ6_getEntry_27 rfl hl2 (Nat.le_of_ble_eq_true rfl) rfl (fun ls3 hl3 => ?_)
  clear hl2
  have La : ∀ (k4 : Nat) (p1 : Option Nat) (s1 : TT), (∀ y ∈ tw p1 s1, y ∈ tw none T0) → (tfind s1 i = tfind T0 i) → (∀ x ∈ inord s1, x ∈ inord T0) → tsz s1 < k4 → ∀ (H4 : Heap) (locs4 : List Loc) (ls4 : Array Slot), Ws G A s ([]) H4 locs4 → lv_has ls4 5 [(3, vr (tad s1)), (2, .ref q1)] → W p l e ({ frames := 3, cells := 0, slots := 0, locals := 63 } : Room) s m ([.ref t, .ref q1] : List Value).toArray below meth c H4 locs4 0 0 (MQ below (cQ G A (Q_ctJ6_getEntry G t q1 i n md T0)) ([.ref t, .ref q1] : List Value).toArray s 0 0 A) (F0 m 28 ls4 []) := by
    intro k4
    induction k4 with
    | zero => intro p1 s1 hLa_0 hLa_1 hLa_2 hm4; exact absurd hm4 (Nat.not_lt_zero _)
    | succ k4 ih4 =>
      intro p1 s1 hLa_0 hLa_1 hLa_2 hm4 H4 locs4 ls4 hW4 hl4
      refine lv_aload_nq C.hx C.hb dJ6_getEntry_28 rfl (lv_at hl4 0 rfl) ?_
      rcases s1 with ⟨z1, x1, u1, l1, r1⟩ | _
      · have hl5 : lv_has ls4 5 [(3, .ref x1.1), (2, .ref q1)] := hl4
        refine W.eq (g2 := F0 m 29 ls4 [.ref x1.1]) rfl ?_
        have hc1 : tcell x1 (tad l1) (tad r1) p1 ∈ tw none T0 := hLa_0 _ List.mem_cons_self
        have hi1 : x1 ∈ inord T0 := hLa_2 _ (List.mem_append_right _ List.mem_cons_self)
        refine lv_ifnull C.hx C.hb dJ6_getEntry_29 ?_
        refine lv_aload_n C.hx C.hb dJ6_getEntry_32 rfl (lv_at hl5 1 rfl) ?_
        refine lv_aload_n C.hx C.hb dJ6_getEntry_33 rfl (lv_at hl5 0 rfl) ?_
        refine k_get (v := .ref x1.2.1) C clJ31 ((hRo _ (Or.inr (Or.inr (Or.inl ⟨_, hc1, rfl⟩)))).at hW4) 0 (Nat.le_of_ble_eq_true rfl) rfl q1817 rfl rfl dJ6_getEntry_34 ?_
        refine k_callF (Sc := []) (Sr := []) (As := [.ref x1.2.1]) (rest := []) C (ctJ16_compareTo l G q1 x1.2.1 i x1.2.2.1 hi (hk _ hi1)) hW4 clJ16 ((hRo _ (Or.inr (Or.inl rfl))).at hW4) q1329 q1333 q1335 q92 q1337 q1331 q1330 q1336 q1334 q1332 rfl ⟨by decide, by decide, Eq.trans (b := some 1) (by decide +kernel) rfl⟩ (Nat.le_of_ble_eq_true rfl) (Nat.le_of_ble_eq_true rfl) (Nat.le_refl _) (Nat.le_refl _) hl5.1 rfl (Nat.le_of_ble_eq_true rfl) dJ6_getEntry_37 (k_permR _) (fun z => (fun hz => hz.elim (fun e => by cases e; exact Or.inr (Or.inr (hRo _ (Or.inr (Or.inl rfl))))) (fun e => by cases e; exact Or.inr (Or.inr (hRo _ (Or.inr (Or.inr (Or.inr ⟨_, hi1, rfl⟩)))))))) (fun v H6 locs6 S1 hQ hz6 hW6 => ?_)
        obtain ⟨rfl, rfl⟩ := hQ
        have hW6 : Ws G A s ([]) H6 locs6 := hW6
        clear hW4
        refine W.eq (g2 := F0 m 42 ls4 [.int (nI (if i < x1.2.2.1 then NONE else if i = x1.2.2.1 then 0 else 1))]) rfl ?_
        refine lv_istore (lv' := [(4, .int (nI (if i < x1.2.2.1 then NONE else if i = x1.2.2.1 then 0 else 1))), (3, .ref x1.1), (2, .ref q1)]) C.hx C.hb dJ6_getEntry_42 hl5 (Nat.le_of_ble_eq_true rfl) rfl (fun ls7 hl7 => ?_)
        clear hl5
        rcases Nat.lt_trichotomy i x1.2.2.1 with c9 | c9 | c9
        · have e9 : (if i < x1.2.2.1 then NONE else if i = x1.2.2.1 then 0 else 1) = NONE := if_pos c9
          have hl8 : lv_has ls7 5 [(4, .int (nI NONE)), (3, .ref x1.1), (2, .ref q1)] := by rw [← e9]; exact hl7
          refine lv_iload C.hx C.hb dJ6_getEntry_44 (lv_at hl8 0 rfl) ?_
          refine lv_if_ge (tgt := 57) C.hx C.hb dJ6_getEntry_46 (by decide) (fun q => absurd q (by decide)) (fun _ => ?_)
          refine lv_aload_n C.hx C.hb dJ6_getEntry_49 rfl (lv_at hl8 1 rfl) ?_
          refine k_get (v := vr (tad l1)) C clJ31 ((hRo _ (Or.inr (Or.inr (Or.inl ⟨_, hc1, rfl⟩)))).at hW6) 2 (Nat.le_of_ble_eq_true rfl) rfl q1820 rfl rfl dJ6_getEntry_50 ?_
          refine lv_astore_nq (lv' := [(3, vr (tad l1)), (4, .int (nI NONE)), (2, .ref q1)]) C.hx C.hb dJ6_getEntry_53 rfl hl8 (Nat.le_of_ble_eq_true rfl) rfl (fun ls9 hl9 => ?_)
          clear hl8
          refine lv_goto (tgt := 72) C.hx C.hb dJ6_getEntry_54 (by decide) ?_
          refine lv_goto (tgt := 28) C.hx C.hb dJ6_getEntry_72 (by decide) ?_
          exact ih4 (some x1.1) l1 (fun y hy => hLa_0 _ (List.mem_cons_of_mem _ (List.mem_append_left _ hy))) (by rw [← hLa_1]; exact (if_pos c9).symm) (fun y hy => hLa_2 _ (List.mem_append_left _ hy)) (by simp only [tsz] at *; omega) _ _ _ hW6 (lv_sub hl9 [0, 2] rfl)
        · have e9 : (if i < x1.2.2.1 then NONE else if i = x1.2.2.1 then 0 else 1) = 0 := (if_neg (by omega)).trans (if_pos c9)
          have hl10 : lv_has ls7 5 [(4, .int (nI 0)), (3, .ref x1.1), (2, .ref q1)] := by rw [← e9]; exact hl7
          refine lv_iload C.hx C.hb dJ6_getEntry_44 (lv_at hl10 0 rfl) ?_
          refine kn_if_ge (tgt := 57) C (by decide) dJ6_getEntry_46 (by decide) ?_
          refine lv_iload C.hx C.hb dJ6_getEntry_57 (lv_at hl10 0 rfl) ?_
          refine kn_if_le (tgt := 70) C (by decide) dJ6_getEntry_59 (by decide) (fun cq => ?_) (fun cq => absurd cq (by decide))
          refine lv_aload_n C.hx C.hb dJ6_getEntry_70 rfl (lv_at hl10 1 rfl) ?_
          exact k_aret C hW6 rfl (Or.inl ⟨_, rfl⟩) (Or.inr ⟨_, rfl⟩) ⟨by rw [← hLa_1, show tfind (.inner z1 x1 u1 l1 r1) i = some x1 from (if_neg (by omega)).trans (if_pos c9)]; rfl, rfl⟩ (Nat.le_refl _) (Nat.le_refl _) dJ6_getEntry_71
        · have e9 : (if i < x1.2.2.1 then NONE else if i = x1.2.2.1 then 0 else 1) = 1 := (if_neg (by omega)).trans (if_neg (by omega))
          have hl11 : lv_has ls7 5 [(4, .int (nI 1)), (3, .ref x1.1), (2, .ref q1)] := by rw [← e9]; exact hl7
          refine lv_iload C.hx C.hb dJ6_getEntry_44 (lv_at hl11 0 rfl) ?_
          refine kn_if_ge (tgt := 57) C (by decide) dJ6_getEntry_46 (by decide) ?_
          refine lv_iload C.hx C.hb dJ6_getEntry_57 (lv_at hl11 0 rfl) ?_
          refine kn_if_le (tgt := 70) C (by decide) dJ6_getEntry_59 (by decide) (fun cq => absurd cq (by decide)) (fun cq => ?_)
          refine lv_aload_n C.hx C.hb dJ6_getEntry_62 rfl (lv_at hl11 1 rfl) ?_
          refine k_get (v := vr (tad r1)) C clJ31 ((hRo _ (Or.inr (Or.inr (Or.inl ⟨_, hc1, rfl⟩)))).at hW6) 3 (Nat.le_of_ble_eq_true rfl) rfl q1821 rfl rfl dJ6_getEntry_63 ?_
          refine lv_astore_nq (lv' := [(3, vr (tad r1)), (4, .int (nI 1)), (2, .ref q1)]) C.hx C.hb dJ6_getEntry_66 rfl hl11 (Nat.le_of_ble_eq_true rfl) rfl (fun ls12 hl12 => ?_)
          clear hl11
          refine lv_goto (tgt := 72) C.hx C.hb dJ6_getEntry_67 (by decide) ?_
          refine lv_goto (tgt := 28) C.hx C.hb dJ6_getEntry_72 (by decide) ?_
          exact ih4 (some x1.1) r1 (fun y hy => hLa_0 _ (List.mem_cons_of_mem _ (List.mem_append_right _ hy))) (by rw [← hLa_1]; exact ((if_neg (by omega)).trans (if_neg (by omega))).symm) (fun y hy => hLa_2 _ (List.mem_append_right _ (List.mem_cons_of_mem _ hy))) (by simp only [tsz] at *; omega) _ _ _ hW6 (lv_sub hl12 [0, 2] rfl)
      · have hl13 : lv_has ls4 5 [(3, .null), (2, .ref q1)] := hl4
        refine W.eq (g2 := F0 m 29 ls4 [.null]) rfl ?_
        refine lv_ifnullN (tgt := 75) C.hx C.hb dJ6_getEntry_29 (by decide) ?_
        refine lv_null C.hx C.hb dJ6_getEntry_75 ?_
        exact k_aret C hW4 rfl (Or.inl ⟨_, rfl⟩) (Or.inl rfl) ⟨by rw [← hLa_1]; rfl, rfl⟩ (Nat.le_refl _) (Nat.le_refl _) dJ6_getEntry_76
  exact La (tsz T0 + 1) none T0 (fun _ h => h) rfl (fun _ h => h) (Nat.lt_succ_self _) _ _ _ hW1 (lv_sub hl3 [0, 1] rfl)

def Q_ctJ6_containsKey_0 (G : GT) (t q1 i n : Nat) (md : Int32) (T0 : TT) : Option Value → List va_W → Prop := fun v S1 => v = some (.int (nI 0)) ∧ S1 = []
set_option maxHeartbeats 4000000 in
set_option maxRecDepth 100000 in
theorem ctJ6_containsKey_0 (l : Launch) (G : GT) (t q1 i n : Nat) (md : Int32) (T0 : TT) (hi : i < 2 ^ 31) (hk : ∀ x ∈ inord T0, x.2.2.1 < 2 ^ 31) (hf : tfind T0 i = none) : Ct l G yJ6_containsKey cJ6_containsKey 2 (some .boolean) 4 87 0 0 [.ref t, .ref q1] ([]) ((fun z => z = .inl (t, .inr (13, [.null, .null, .null, vr (tad T0), .int (nI n), .int md, .null, .null, .null])) ∨ z = .inl (q1, .inr (16, [.int (nI i)])) ∨ (∃ y ∈ tw none T0, z = .inl y) ∨ ∃ x ∈ inord T0, z = .inl (x.2.1, .inr (16, [.int (nI x.2.2.1)])))) (Q_ctJ6_containsKey_0 G t q1 i n md T0) := by
  refine Ct.of (by decide +kernel) (Nat.le_of_ble_eq_true rfl) ?_
  intro p e s m below meth c A ls C hW hRo hl
  have hl : lv_has ls 2 [(0, .ref t), (1, .ref q1)] := hl
  refine lv_aload_n C.hx C.hb dJ6_containsKey_0 rfl (lv_at hl 0 rfl) ?_
  refine lv_aload_n C.hx C.hb dJ6_containsKey_1 rfl (lv_at hl 1 rfl) ?_
  refine k_callV (Sc := []) (Sr := []) (As := [.ref q1]) (rest := []) C (ctJ6_getEntry l G t q1 i n md T0 hi hk) hW clJ6 ((hRo _ (Or.inl rfl)).at hW) q1312 q1313 q1314 q79 q1315 rfl rfl ⟨by decide, by decide, Eq.trans (b := some 1) (by decide +kernel) rfl⟩ (Nat.le_of_ble_eq_true rfl) (Nat.le_of_ble_eq_true rfl) (Nat.le_refl _) (Nat.le_refl _) hl.1 rfl (Nat.le_of_ble_eq_true rfl) dJ6_containsKey_2 (k_permR _) (fun z hz => Or.inr (Or.inr (hRo z hz))) (fun v H1 locs1 S1 hQ hz1 hW1 => ?_)
  unfold Q_ctJ6_getEntry at hQ
  rw [show tfind T0 i = none from hf] at hQ
  obtain ⟨rfl, rfl⟩ := hQ
  have hW1 : Ws G A s ([]) H1 locs1 := hW1
  clear hW
  refine W.eq (g2 := F0 m 5 ls [.null]) rfl ?_
  refine lv_ifnullN (tgt := 12) C.hx C.hb dJ6_containsKey_5 (by decide) ?_
  refine kn_iconst (a := 0) C (by decide) dJ6_containsKey_12 ?_
  exact k_zret C hW1 rfl (by decide) ⟨rfl, rfl⟩ (Nat.le_refl _) (Nat.le_refl _) dJ6_containsKey_13

def Q_ctJ6_containsKey_1 (G : GT) (t q1 i n : Nat) (md : Int32) (T0 : TT) (x1 : TN) : Option Value → List va_W → Prop := fun v S1 => v = some (.int (nI 1)) ∧ S1 = []
set_option maxHeartbeats 4000000 in
set_option maxRecDepth 100000 in
theorem ctJ6_containsKey_1 (l : Launch) (G : GT) (t q1 i n : Nat) (md : Int32) (T0 : TT) (x1 : TN) (hi : i < 2 ^ 31) (hk : ∀ x ∈ inord T0, x.2.2.1 < 2 ^ 31) (hf : tfind T0 i = some x1) : Ct l G yJ6_containsKey cJ6_containsKey 2 (some .boolean) 4 87 0 0 [.ref t, .ref q1] ([]) ((fun z => z = .inl (t, .inr (13, [.null, .null, .null, vr (tad T0), .int (nI n), .int md, .null, .null, .null])) ∨ z = .inl (q1, .inr (16, [.int (nI i)])) ∨ (∃ y ∈ tw none T0, z = .inl y) ∨ ∃ x ∈ inord T0, z = .inl (x.2.1, .inr (16, [.int (nI x.2.2.1)])))) (Q_ctJ6_containsKey_1 G t q1 i n md T0 x1) := by
  refine Ct.of (by decide +kernel) (Nat.le_of_ble_eq_true rfl) ?_
  intro p e s m below meth c A ls C hW hRo hl
  have hl : lv_has ls 2 [(0, .ref t), (1, .ref q1)] := hl
  refine lv_aload_n C.hx C.hb dJ6_containsKey_0 rfl (lv_at hl 0 rfl) ?_
  refine lv_aload_n C.hx C.hb dJ6_containsKey_1 rfl (lv_at hl 1 rfl) ?_
  refine k_callV (Sc := []) (Sr := []) (As := [.ref q1]) (rest := []) C (ctJ6_getEntry l G t q1 i n md T0 hi hk) hW clJ6 ((hRo _ (Or.inl rfl)).at hW) q1312 q1313 q1314 q79 q1315 rfl rfl ⟨by decide, by decide, Eq.trans (b := some 1) (by decide +kernel) rfl⟩ (Nat.le_of_ble_eq_true rfl) (Nat.le_of_ble_eq_true rfl) (Nat.le_refl _) (Nat.le_refl _) hl.1 rfl (Nat.le_of_ble_eq_true rfl) dJ6_containsKey_2 (k_permR _) (fun z hz => Or.inr (Or.inr (hRo z hz))) (fun v H1 locs1 S1 hQ hz1 hW1 => ?_)
  unfold Q_ctJ6_getEntry at hQ
  rw [show tfind T0 i = some x1 from hf] at hQ
  obtain ⟨rfl, rfl⟩ := hQ
  have hW1 : Ws G A s ([]) H1 locs1 := hW1
  clear hW
  refine W.eq (g2 := F0 m 5 ls [.ref x1.1]) rfl ?_
  refine lv_ifnull C.hx C.hb dJ6_containsKey_5 ?_
  refine kn_iconst (a := 1) C (by decide) dJ6_containsKey_8 ?_
  refine lv_goto (tgt := 13) C.hx C.hb dJ6_containsKey_9 (by decide) ?_
  exact k_zret C hW1 rfl (by decide) ⟨rfl, rfl⟩ (Nat.le_refl _) (Nat.le_refl _) dJ6_containsKey_13

def Q_ctJ6_get_0 (G : GT) (t q1 i n : Nat) (md : Int32) (T0 : TT) : Option Value → List va_W → Prop := fun v S1 => v = some .null ∧ S1 = []
set_option maxHeartbeats 4000000 in
set_option maxRecDepth 100000 in
theorem ctJ6_get_0 (l : Launch) (G : GT) (t q1 i n : Nat) (md : Int32) (T0 : TT) (hi : i < 2 ^ 31) (hk : ∀ x ∈ inord T0, x.2.2.1 < 2 ^ 31) (hf : tfind T0 i = none) : Ct l G yJ6_get cJ6_get 3 (some (.object "java/lang/Object")) 4 87 0 0 [.ref t, .ref q1] ([]) ((fun z => z = .inl (t, .inr (13, [.null, .null, .null, vr (tad T0), .int (nI n), .int md, .null, .null, .null])) ∨ z = .inl (q1, .inr (16, [.int (nI i)])) ∨ (∃ y ∈ tw none T0, z = .inl y) ∨ ∃ x ∈ inord T0, z = .inl (x.2.1, .inr (16, [.int (nI x.2.2.1)])))) (Q_ctJ6_get_0 G t q1 i n md T0) := by
  refine Ct.of (by decide +kernel) (Nat.le_of_ble_eq_true rfl) ?_
  intro p e s m below meth c A ls C hW hRo hl
  have hl : lv_has ls 3 [(0, .ref t), (1, .ref q1)] := hl
  refine lv_aload_n C.hx C.hb dJ6_get_0 rfl (lv_at hl 0 rfl) ?_
  refine lv_aload_n C.hx C.hb dJ6_get_1 rfl (lv_at hl 1 rfl) ?_
  refine k_callV (Sc := []) (Sr := []) (As := [.ref q1]) (rest := []) C (ctJ6_getEntry l G t q1 i n md T0 hi hk) hW clJ6 ((hRo _ (Or.inl rfl)).at hW) q1312 q1313 q1314 q79 q1315 rfl rfl ⟨by decide, by decide, Eq.trans (b := some 1) (by decide +kernel) rfl⟩ (Nat.le_of_ble_eq_true rfl) (Nat.le_of_ble_eq_true rfl) (Nat.le_refl _) (Nat.le_refl _) hl.1 rfl (Nat.le_of_ble_eq_true rfl) dJ6_get_2 (k_permR _) (fun z hz => Or.inr (Or.inr (hRo z hz))) (fun v H1 locs1 S1 hQ hz1 hW1 => ?_)
  unfold Q_ctJ6_getEntry at hQ
  rw [show tfind T0 i = none from hf] at hQ
  obtain ⟨rfl, rfl⟩ := hQ
  have hW1 : Ws G A s ([]) H1 locs1 := hW1
  clear hW
  refine W.eq (g2 := F0 m 5 ls [.null]) rfl ?_
  refine lv_astore_nN (lv' := [(2, .null), (0, .ref t), (1, .ref q1)]) C.hx C.hb dJ6_get_5 rfl hl (Nat.le_of_ble_eq_true rfl) rfl (fun ls2 hl2 => ?_)
  clear hl
  refine lv_aload_nN C.hx C.hb dJ6_get_6 rfl (lv_at hl2 0 rfl) ?_
  refine lv_ifnonnullN C.hx C.hb dJ6_get_7 ?_
  refine lv_null C.hx C.hb dJ6_get_10 ?_
  refine lv_goto (tgt := 18) C.hx C.hb dJ6_get_11 (by decide) ?_
  exact k_aret C hW1 rfl (Or.inl ⟨_, rfl⟩) (Or.inl rfl) ⟨rfl, rfl⟩ (Nat.le_refl _) (Nat.le_refl _) dJ6_get_18

def Q_ctJ6_get_1 (G : GT) (t q1 i n : Nat) (md : Int32) (T0 : TT) (x1 : TN) : Option Value → List va_W → Prop := fun v S1 => v = some (.ref x1.2.2.2.1) ∧ S1 = []
set_option maxHeartbeats 4000000 in
set_option maxRecDepth 100000 in
theorem ctJ6_get_1 (l : Launch) (G : GT) (t q1 i n : Nat) (md : Int32) (T0 : TT) (x1 : TN) (hi : i < 2 ^ 31) (hk : ∀ x ∈ inord T0, x.2.2.1 < 2 ^ 31) (hf : tfind T0 i = some x1) : Ct l G yJ6_get cJ6_get 3 (some (.object "java/lang/Object")) 4 87 0 0 [.ref t, .ref q1] ([]) ((fun z => z = .inl (t, .inr (13, [.null, .null, .null, vr (tad T0), .int (nI n), .int md, .null, .null, .null])) ∨ z = .inl (q1, .inr (16, [.int (nI i)])) ∨ (∃ y ∈ tw none T0, z = .inl y) ∨ ∃ x ∈ inord T0, z = .inl (x.2.1, .inr (16, [.int (nI x.2.2.1)])))) (Q_ctJ6_get_1 G t q1 i n md T0 x1) := by
  refine Ct.of (by decide +kernel) (Nat.le_of_ble_eq_true rfl) ?_
  intro p e s m below meth c A ls C hW hRo hl
  have hl : lv_has ls 3 [(0, .ref t), (1, .ref q1)] := hl
  obtain ⟨-, -, l2, r2, p2, hc1⟩ := tfind_cell none T0 i x1 hf
  refine lv_aload_n C.hx C.hb dJ6_get_0 rfl (lv_at hl 0 rfl) ?_
  refine lv_aload_n C.hx C.hb dJ6_get_1 rfl (lv_at hl 1 rfl) ?_
  refine k_callV (Sc := []) (Sr := []) (As := [.ref q1]) (rest := []) C (ctJ6_getEntry l G t q1 i n md T0 hi hk) hW clJ6 ((hRo _ (Or.inl rfl)).at hW) q1312 q1313 q1314 q79 q1315 rfl rfl ⟨by decide, by decide, Eq.trans (b := some 1) (by decide +kernel) rfl⟩ (Nat.le_of_ble_eq_true rfl) (Nat.le_of_ble_eq_true rfl) (Nat.le_refl _) (Nat.le_refl _) hl.1 rfl (Nat.le_of_ble_eq_true rfl) dJ6_get_2 (k_permR _) (fun z hz => Or.inr (Or.inr (hRo z hz))) (fun v H1 locs1 S1 hQ hz1 hW1 => ?_)
  unfold Q_ctJ6_getEntry at hQ
  rw [show tfind T0 i = some x1 from hf] at hQ
  obtain ⟨rfl, rfl⟩ := hQ
  have hW1 : Ws G A s ([]) H1 locs1 := hW1
  clear hW
  refine W.eq (g2 := F0 m 5 ls [.ref x1.1]) rfl ?_
  refine lv_astore_n (lv' := [(2, .ref x1.1), (0, .ref t), (1, .ref q1)]) C.hx C.hb dJ6_get_5 rfl hl (Nat.le_of_ble_eq_true rfl) rfl (fun ls2 hl2 => ?_)
  clear hl
  refine lv_aload_n C.hx C.hb dJ6_get_6 rfl (lv_at hl2 0 rfl) ?_
  refine lv_ifnonnull (tgt := 14) C.hx C.hb dJ6_get_7 (by decide) ?_
  refine lv_aload_n C.hx C.hb dJ6_get_14 rfl (lv_at hl2 0 rfl) ?_
  refine k_get (v := .ref x1.2.2.2.1) C clJ31 ((hRo _ (Or.inr (Or.inr (Or.inl ⟨_, hc1, rfl⟩)))).at hW1) 1 (Nat.le_of_ble_eq_true rfl) rfl q1819 rfl rfl dJ6_get_15 ?_
  exact k_aret C hW1 rfl (Or.inl ⟨_, rfl⟩) (Or.inr ⟨_, rfl⟩) ⟨rfl, rfl⟩ (Nat.le_refl _) (Nat.le_refl _) dJ6_get_18
