def Q_ctJ6_rotateLeft_n0 (G : GT) (t a0 b0 m0 g0 ka va0 kb vb0 km vm kg vg n : Nat) (md : Int32) (rt x1 x2 y1 y2 z1 z2 : Option Nat) (c1 c2 c3 c4 : Bool) : Option Value → List va_W → Prop := fun v S1 => v = none ∧ S1 = [[(t, .inr (13, [.null, .null, .null, .ref b0, .int (nI n), .int md, .null, .null, .null]))], [(a0, .inr (20, [.ref ka, .ref va0, vr x1, .null, .ref b0, .int (nI (tcol c1))]))], [(b0, .inr (20, [.ref kb, .ref vb0, .ref a0, vr x2, .null, .int (nI (tcol c2))]))]]
set_option maxHeartbeats 4000000 in
set_option maxRecDepth 100000 in
theorem ctJ6_rotateLeft_n0 (l : Launch) (G : GT) (t a0 b0 m0 g0 ka va0 kb vb0 km vm kg vg n : Nat) (md : Int32) (rt x1 x2 y1 y2 z1 z2 : Option Nat) (c1 c2 c3 c4 : Bool)  : Ct l G yJ6_rotateLeft cJ6_rotateLeft 3 none 0 0 0 0 [.ref t, .ref a0] ([[(t, .inr (13, [.null, .null, .null, .ref a0, .int (nI n), .int md, .null, .null, .null]))], [(a0, .inr (20, [.ref ka, .ref va0, vr x1, .ref b0, .null, .int (nI (tcol c1))]))], [(b0, .inr (20, [.ref kb, .ref vb0, .null, vr x2, .ref a0, .int (nI (tcol c2))]))]]) noR (Q_ctJ6_rotateLeft_n0 G t a0 b0 m0 g0 ka va0 kb vb0 km vm kg vg n md rt x1 x2 y1 y2 z1 z2 c1 c2 c3 c4) := by
  refine Ct.of (by decide +kernel) (Nat.le_of_ble_eq_true rfl) ?_
  intro p e s m below meth c A ls C hW hRo hl
  have hl : lv_has ls 3 [(0, .ref t), (1, .ref a0)] := hl
  refine lv_aload_n C.hx C.hb dJ6_rotateLeft_0 rfl (lv_at hl 1 rfl) ?_
  refine lv_ifnull C.hx C.hb dJ6_rotateLeft_1 ?_
  refine lv_aload_n C.hx C.hb dJ6_rotateLeft_4 rfl (lv_at hl 1 rfl) ?_
  refine k_get (v := .ref b0) C clJ31 (hW.get 1 0 rfl rfl) 3 (Nat.le_of_ble_eq_true rfl) rfl q1821 rfl rfl dJ6_rotateLeft_5 ?_
  refine lv_astore_n (lv' := [(2, .ref b0), (0, .ref t), (1, .ref a0)]) C.hx C.hb dJ6_rotateLeft_8 rfl hl (Nat.le_of_ble_eq_true rfl) rfl (fun ls1 hl1 => ?_)
  clear hl
  refine lv_aload_n C.hx C.hb dJ6_rotateLeft_9 rfl (lv_at hl1 2 rfl) ?_
  refine lv_aload_n C.hx C.hb dJ6_rotateLeft_10 rfl (lv_at hl1 0 rfl) ?_
  refine k_get (v := .null) C clJ31 (hW.get 2 0 rfl rfl) 2 (Nat.le_of_ble_eq_true rfl) rfl q1820 rfl rfl dJ6_rotateLeft_11 ?_
  refine k_put (S' := [[(t, .inr (13, [.null, .null, .null, .ref a0, .int (nI n), .int md, .null, .null, .null]))], [(a0, .inr (20, [.ref ka, .ref va0, vr x1, .null, .null, .int (nI (tcol c1))]))], [(b0, .inr (20, [.ref kb, .ref vb0, .null, vr x2, .ref a0, .int (nI (tcol c2))]))]]) C clJ31 hW 1 0 rfl rfl 3 (Nat.le_of_ble_eq_true rfl) rfl q1821 rfl (fun _ h => h) (Or.inl rfl) (fty := (.object "java/util/TreeMap$Entry")) (v := .null) (by decide +kernel) rfl rfl (Nat.le_of_ble_eq_true rfl) dJ6_rotateLeft_14 rfl (fun H2 locs2 hW2 => ?_)
  clear hW
  refine lv_aload_n C.hx C.hb dJ6_rotateLeft_17 rfl (lv_at hl1 0 rfl) ?_
  refine k_get (v := .null) C clJ31 (hW2.get 2 0 rfl rfl) 2 (Nat.le_of_ble_eq_true rfl) rfl q1820 rfl rfl dJ6_rotateLeft_18 ?_
  refine lv_ifnullN (tgt := 32) C.hx C.hb dJ6_rotateLeft_21 (by decide) ?_
  refine lv_aload_n C.hx C.hb dJ6_rotateLeft_32 rfl (lv_at hl1 0 rfl) ?_
  refine lv_aload_n C.hx C.hb dJ6_rotateLeft_33 rfl (lv_at hl1 2 rfl) ?_
  refine k_get (v := .null) C clJ31 (hW2.get 1 0 rfl rfl) 4 (Nat.le_of_ble_eq_true rfl) rfl q1823 rfl rfl dJ6_rotateLeft_34 ?_
  refine k_put (S' := [[(t, .inr (13, [.null, .null, .null, .ref a0, .int (nI n), .int md, .null, .null, .null]))], [(a0, .inr (20, [.ref ka, .ref va0, vr x1, .null, .null, .int (nI (tcol c1))]))], [(b0, .inr (20, [.ref kb, .ref vb0, .null, vr x2, .null, .int (nI (tcol c2))]))]]) C clJ31 hW2 2 0 rfl rfl 4 (Nat.le_of_ble_eq_true rfl) rfl q1823 rfl (fun _ h => h) (Or.inl rfl) (fty := (.object "java/util/TreeMap$Entry")) (v := .null) (by decide +kernel) rfl rfl (Nat.le_of_ble_eq_true rfl) dJ6_rotateLeft_37 rfl (fun H3 locs3 hW3 => ?_)
  clear hW2
  refine lv_aload_n C.hx C.hb dJ6_rotateLeft_40 rfl (lv_at hl1 2 rfl) ?_
  refine k_get (v := .null) C clJ31 (hW3.get 1 0 rfl rfl) 4 (Nat.le_of_ble_eq_true rfl) rfl q1823 rfl rfl dJ6_rotateLeft_41 ?_
  refine lv_ifnonnullN C.hx C.hb dJ6_rotateLeft_44 ?_
  refine lv_aload_n C.hx C.hb dJ6_rotateLeft_47 rfl (lv_at hl1 1 rfl) ?_
  refine lv_aload_n C.hx C.hb dJ6_rotateLeft_48 rfl (lv_at hl1 0 rfl) ?_
  refine k_put (S' := [[(t, .inr (13, [.null, .null, .null, .ref b0, .int (nI n), .int md, .null, .null, .null]))], [(a0, .inr (20, [.ref ka, .ref va0, vr x1, .null, .null, .int (nI (tcol c1))]))], [(b0, .inr (20, [.ref kb, .ref vb0, .null, vr x2, .null, .int (nI (tcol c2))]))]]) C clJ6 hW3 0 0 rfl rfl 3 (Nat.le_of_ble_eq_true rfl) rfl q226 rfl (fun _ h => h) (Or.inl rfl) (fty := (.object "java/util/TreeMap$Entry")) (v := .ref b0) (by decide +kernel) rfl rfl (Nat.le_of_ble_eq_true rfl) dJ6_rotateLeft_49 rfl (fun H4 locs4 hW4 => ?_)
  clear hW3
  refine lv_goto (tgt := 85) C.hx C.hb dJ6_rotateLeft_52 (by decide) ?_
  refine lv_aload_n C.hx C.hb dJ6_rotateLeft_85 rfl (lv_at hl1 0 rfl) ?_
  refine lv_aload_n C.hx C.hb dJ6_rotateLeft_86 rfl (lv_at hl1 2 rfl) ?_
  refine k_put (S' := [[(t, .inr (13, [.null, .null, .null, .ref b0, .int (nI n), .int md, .null, .null, .null]))], [(a0, .inr (20, [.ref ka, .ref va0, vr x1, .null, .null, .int (nI (tcol c1))]))], [(b0, .inr (20, [.ref kb, .ref vb0, .ref a0, vr x2, .null, .int (nI (tcol c2))]))]]) C clJ31 hW4 2 0 rfl rfl 2 (Nat.le_of_ble_eq_true rfl) rfl q1820 rfl (fun _ h => h) (Or.inl rfl) (fty := (.object "java/util/TreeMap$Entry")) (v := .ref a0) (by decide +kernel) rfl rfl (Nat.le_of_ble_eq_true rfl) dJ6_rotateLeft_87 rfl (fun H5 locs5 hW5 => ?_)
  clear hW4
  refine lv_aload_n C.hx C.hb dJ6_rotateLeft_90 rfl (lv_at hl1 2 rfl) ?_
  refine lv_aload_n C.hx C.hb dJ6_rotateLeft_91 rfl (lv_at hl1 0 rfl) ?_
  refine k_put (S' := [[(t, .inr (13, [.null, .null, .null, .ref b0, .int (nI n), .int md, .null, .null, .null]))], [(a0, .inr (20, [.ref ka, .ref va0, vr x1, .null, .ref b0, .int (nI (tcol c1))]))], [(b0, .inr (20, [.ref kb, .ref vb0, .ref a0, vr x2, .null, .int (nI (tcol c2))]))]]) C clJ31 hW5 1 0 rfl rfl 4 (Nat.le_of_ble_eq_true rfl) rfl q1823 rfl (fun _ h => h) (Or.inl rfl) (fty := (.object "java/util/TreeMap$Entry")) (v := .ref b0) (by decide +kernel) rfl rfl (Nat.le_of_ble_eq_true rfl) dJ6_rotateLeft_92 rfl (fun H6 locs6 hW6 => ?_)
  clear hW5
  exact k_vret C hW6 rfl ⟨rfl, rfl⟩ (Nat.le_refl _) (Nat.le_refl _) dJ6_rotateLeft_95

def Q_ctJ6_rotateLeft_n1 (G : GT) (t a0 b0 m0 g0 ka va0 kb vb0 km vm kg vg n : Nat) (md : Int32) (rt x1 x2 y1 y2 z1 z2 : Option Nat) (c1 c2 c3 c4 : Bool) : Option Value → List va_W → Prop := fun v S1 => v = none ∧ S1 = [[(t, .inr (13, [.null, .null, .null, .ref b0, .int (nI n), .int md, .null, .null, .null]))], [(a0, .inr (20, [.ref ka, .ref va0, vr x1, .ref m0, .ref b0, .int (nI (tcol c1))]))], [(b0, .inr (20, [.ref kb, .ref vb0, .ref a0, vr x2, .null, .int (nI (tcol c2))]))], [(m0, .inr (20, [.ref km, .ref vm, vr y1, vr y2, .ref a0, .int (nI (tcol c3))]))]]
set_option maxHeartbeats 4000000 in
set_option maxRecDepth 100000 in
theorem ctJ6_rotateLeft_n1 (l : Launch) (G : GT) (t a0 b0 m0 g0 ka va0 kb vb0 km vm kg vg n : Nat) (md : Int32) (rt x1 x2 y1 y2 z1 z2 : Option Nat) (c1 c2 c3 c4 : Bool)  : Ct l G yJ6_rotateLeft cJ6_rotateLeft 3 none 0 0 0 0 [.ref t, .ref a0] ([[(t, .inr (13, [.null, .null, .null, .ref a0, .int (nI n), .int md, .null, .null, .null]))], [(a0, .inr (20, [.ref ka, .ref va0, vr x1, .ref b0, .null, .int (nI (tcol c1))]))], [(b0, .inr (20, [.ref kb, .ref vb0, .ref m0, vr x2, .ref a0, .int (nI (tcol c2))]))], [(m0, .inr (20, [.ref km, .ref vm, vr y1, vr y2, .ref b0, .int (nI (tcol c3))]))]]) noR (Q_ctJ6_rotateLeft_n1 G t a0 b0 m0 g0 ka va0 kb vb0 km vm kg vg n md rt x1 x2 y1 y2 z1 z2 c1 c2 c3 c4) := by
  refine Ct.of (by decide +kernel) (Nat.le_of_ble_eq_true rfl) ?_
  intro p e s m below meth c A ls C hW hRo hl
  have hl : lv_has ls 3 [(0, .ref t), (1, .ref a0)] := hl
  refine lv_aload_n C.hx C.hb dJ6_rotateLeft_0 rfl (lv_at hl 1 rfl) ?_
  refine lv_ifnull C.hx C.hb dJ6_rotateLeft_1 ?_
  refine lv_aload_n C.hx C.hb dJ6_rotateLeft_4 rfl (lv_at hl 1 rfl) ?_
  refine k_get (v := .ref b0) C clJ31 (hW.get 1 0 rfl rfl) 3 (Nat.le_of_ble_eq_true rfl) rfl q1821 rfl rfl dJ6_rotateLeft_5 ?_
  refine lv_astore_n (lv' := [(2, .ref b0), (0, .ref t), (1, .ref a0)]) C.hx C.hb dJ6_rotateLeft_8 rfl hl (Nat.le_of_ble_eq_true rfl) rfl (fun ls1 hl1 => ?_)
  clear hl
  refine lv_aload_n C.hx C.hb dJ6_rotateLeft_9 rfl (lv_at hl1 2 rfl) ?_
  refine lv_aload_n C.hx C.hb dJ6_rotateLeft_10 rfl (lv_at hl1 0 rfl) ?_
  refine k_get (v := .ref m0) C clJ31 (hW.get 2 0 rfl rfl) 2 (Nat.le_of_ble_eq_true rfl) rfl q1820 rfl rfl dJ6_rotateLeft_11 ?_
  refine k_put (S' := [[(t, .inr (13, [.null, .null, .null, .ref a0, .int (nI n), .int md, .null, .null, .null]))], [(a0, .inr (20, [.ref ka, .ref va0, vr x1, .ref m0, .null, .int (nI (tcol c1))]))], [(b0, .inr (20, [.ref kb, .ref vb0, .ref m0, vr x2, .ref a0, .int (nI (tcol c2))]))], [(m0, .inr (20, [.ref km, .ref vm, vr y1, vr y2, .ref b0, .int (nI (tcol c3))]))]]) C clJ31 hW 1 0 rfl rfl 3 (Nat.le_of_ble_eq_true rfl) rfl q1821 rfl (fun _ h => h) (Or.inl rfl) (fty := (.object "java/util/TreeMap$Entry")) (v := .ref m0) (by decide +kernel) rfl rfl (Nat.le_of_ble_eq_true rfl) dJ6_rotateLeft_14 rfl (fun H2 locs2 hW2 => ?_)
  clear hW
  refine lv_aload_n C.hx C.hb dJ6_rotateLeft_17 rfl (lv_at hl1 0 rfl) ?_
  refine k_get (v := .ref m0) C clJ31 (hW2.get 2 0 rfl rfl) 2 (Nat.le_of_ble_eq_true rfl) rfl q1820 rfl rfl dJ6_rotateLeft_18 ?_
  refine lv_ifnull C.hx C.hb dJ6_rotateLeft_21 ?_
  refine lv_aload_n C.hx C.hb dJ6_rotateLeft_24 rfl (lv_at hl1 0 rfl) ?_
  refine k_get (v := .ref m0) C clJ31 (hW2.get 2 0 rfl rfl) 2 (Nat.le_of_ble_eq_true rfl) rfl q1820 rfl rfl dJ6_rotateLeft_25 ?_
  refine lv_aload_n C.hx C.hb dJ6_rotateLeft_28 rfl (lv_at hl1 2 rfl) ?_
  refine k_put (S' := [[(t, .inr (13, [.null, .null, .null, .ref a0, .int (nI n), .int md, .null, .null, .null]))], [(a0, .inr (20, [.ref ka, .ref va0, vr x1, .ref m0, .null, .int (nI (tcol c1))]))], [(b0, .inr (20, [.ref kb, .ref vb0, .ref m0, vr x2, .ref a0, .int (nI (tcol c2))]))], [(m0, .inr (20, [.ref km, .ref vm, vr y1, vr y2, .ref a0, .int (nI (tcol c3))]))]]) C clJ31 hW2 3 0 rfl rfl 4 (Nat.le_of_ble_eq_true rfl) rfl q1823 rfl (fun _ h => h) (Or.inl rfl) (fty := (.object "java/util/TreeMap$Entry")) (v := .ref a0) (by decide +kernel) rfl rfl (Nat.le_of_ble_eq_true rfl) dJ6_rotateLeft_29 rfl (fun H3 locs3 hW3 => ?_)
  clear hW2
  refine lv_aload_n C.hx C.hb dJ6_rotateLeft_32 rfl (lv_at hl1 0 rfl) ?_
  refine lv_aload_n C.hx C.hb dJ6_rotateLeft_33 rfl (lv_at hl1 2 rfl) ?_
  refine k_get (v := .null) C clJ31 (hW3.get 1 0 rfl rfl) 4 (Nat.le_of_ble_eq_true rfl) rfl q1823 rfl rfl dJ6_rotateLeft_34 ?_
  refine k_put (S' := [[(t, .inr (13, [.null, .null, .null, .ref a0, .int (nI n), .int md, .null, .null, .null]))], [(a0, .inr (20, [.ref ka, .ref va0, vr x1, .ref m0, .null, .int (nI (tcol c1))]))], [(b0, .inr (20, [.ref kb, .ref vb0, .ref m0, vr x2, .null, .int (nI (tcol c2))]))], [(m0, .inr (20, [.ref km, .ref vm, vr y1, vr y2, .ref a0, .int (nI (tcol c3))]))]]) C clJ31 hW3 2 0 rfl rfl 4 (Nat.le_of_ble_eq_true rfl) rfl q1823 rfl (fun _ h => h) (Or.inl rfl) (fty := (.object "java/util/TreeMap$Entry")) (v := .null) (by decide +kernel) rfl rfl (Nat.le_of_ble_eq_true rfl) dJ6_rotateLeft_37 rfl (fun H4 locs4 hW4 => ?_)
  clear hW3
  refine lv_aload_n C.hx C.hb dJ6_rotateLeft_40 rfl (lv_at hl1 2 rfl) ?_
  refine k_get (v := .null) C clJ31 (hW4.get 1 0 rfl rfl) 4 (Nat.le_of_ble_eq_true rfl) rfl q1823 rfl rfl dJ6_rotateLeft_41 ?_
  refine lv_ifnonnullN C.hx C.hb dJ6_rotateLeft_44 ?_
  refine lv_aload_n C.hx C.hb dJ6_rotateLeft_47 rfl (lv_at hl1 1 rfl) ?_
  refine lv_aload_n C.hx C.hb dJ6_rotateLeft_48 rfl (lv_at hl1 0 rfl) ?_
  refine k_put (S' := [[(t, .inr (13, [.null, .null, .null, .ref b0, .int (nI n), .int md, .null, .null, .null]))], [(a0, .inr (20, [.ref ka, .ref va0, vr x1, .ref m0, .null, .int (nI (tcol c1))]))], [(b0, .inr (20, [.ref kb, .ref vb0, .ref m0, vr x2, .null, .int (nI (tcol c2))]))], [(m0, .inr (20, [.ref km, .ref vm, vr y1, vr y2, .ref a0, .int (nI (tcol c3))]))]]) C clJ6 hW4 0 0 rfl rfl 3 (Nat.le_of_ble_eq_true rfl) rfl q226 rfl (fun _ h => h) (Or.inl rfl) (fty := (.object "java/util/TreeMap$Entry")) (v := .ref b0) (by decide +kernel) rfl rfl (Nat.le_of_ble_eq_true rfl) dJ6_rotateLeft_49 rfl (fun H5 locs5 hW5 => ?_)
  clear hW4
  refine lv_goto (tgt := 85) C.hx C.hb dJ6_rotateLeft_52 (by decide) ?_
  refine lv_aload_n C.hx C.hb dJ6_rotateLeft_85 rfl (lv_at hl1 0 rfl) ?_
  refine lv_aload_n C.hx C.hb dJ6_rotateLeft_86 rfl (lv_at hl1 2 rfl) ?_
  refine k_put (S' := [[(t, .inr (13, [.null, .null, .null, .ref b0, .int (nI n), .int md, .null, .null, .null]))], [(a0, .inr (20, [.ref ka, .ref va0, vr x1, .ref m0, .null, .int (nI (tcol c1))]))], [(b0, .inr (20, [.ref kb, .ref vb0, .ref a0, vr x2, .null, .int (nI (tcol c2))]))], [(m0, .inr (20, [.ref km, .ref vm, vr y1, vr y2, .ref a0, .int (nI (tcol c3))]))]]) C clJ31 hW5 2 0 rfl rfl 2 (Nat.le_of_ble_eq_true rfl) rfl q1820 rfl (fun _ h => h) (Or.inl rfl) (fty := (.object "java/util/TreeMap$Entry")) (v := .ref a0) (by decide +kernel) rfl rfl (Nat.le_of_ble_eq_true rfl) dJ6_rotateLeft_87 rfl (fun H6 locs6 hW6 => ?_)
  clear hW5
  refine lv_aload_n C.hx C.hb dJ6_rotateLeft_90 rfl (lv_at hl1 2 rfl) ?_
  refine lv_aload_n C.hx C.hb dJ6_rotateLeft_91 rfl (lv_at hl1 0 rfl) ?_
  refine k_put (S' := [[(t, .inr (13, [.null, .null, .null, .ref b0, .int (nI n), .int md, .null, .null, .null]))], [(a0, .inr (20, [.ref ka, .ref va0, vr x1, .ref m0, .ref b0, .int (nI (tcol c1))]))], [(b0, .inr (20, [.ref kb, .ref vb0, .ref a0, vr x2, .null, .int (nI (tcol c2))]))], [(m0, .inr (20, [.ref km, .ref vm, vr y1, vr y2, .ref a0, .int (nI (tcol c3))]))]]) C clJ31 hW6 1 0 rfl rfl 4 (Nat.le_of_ble_eq_true rfl) rfl q1823 rfl (fun _ h => h) (Or.inl rfl) (fty := (.object "java/util/TreeMap$Entry")) (v := .ref b0) (by decide +kernel) rfl rfl (Nat.le_of_ble_eq_true rfl) dJ6_rotateLeft_92 rfl (fun H7 locs7 hW7 => ?_)
  clear hW6
  exact k_vret C hW7 rfl ⟨rfl, rfl⟩ (Nat.le_refl _) (Nat.le_refl _) dJ6_rotateLeft_95

def Q_ctJ6_rotateLeft_l0 (G : GT) (t a0 b0 m0 g0 ka va0 kb vb0 km vm kg vg n : Nat) (md : Int32) (rt x1 x2 y1 y2 z1 z2 : Option Nat) (c1 c2 c3 c4 : Bool) : Option Value → List va_W → Prop := fun v S1 => v = none ∧ S1 = [[(t, .inr (13, [.null, .null, .null, vr rt, .int (nI n), .int md, .null, .null, .null]))], [(a0, .inr (20, [.ref ka, .ref va0, vr x1, .null, .ref b0, .int (nI (tcol c1))]))], [(b0, .inr (20, [.ref kb, .ref vb0, .ref a0, vr x2, .ref g0, .int (nI (tcol c2))]))], [(g0, .inr (20, [.ref kg, .ref vg, .ref b0, vr z1, vr z2, .int (nI (tcol c4))]))]]
set_option maxHeartbeats 4000000 in
set_option maxRecDepth 100000 in
theorem ctJ6_rotateLeft_l0 (l : Launch) (G : GT) (t a0 b0 m0 g0 ka va0 kb vb0 km vm kg vg n : Nat) (md : Int32) (rt x1 x2 y1 y2 z1 z2 : Option Nat) (c1 c2 c3 c4 : Bool)  : Ct l G yJ6_rotateLeft cJ6_rotateLeft 3 none 0 0 0 0 [.ref t, .ref a0] ([[(t, .inr (13, [.null, .null, .null, vr rt, .int (nI n), .int md, .null, .null, .null]))], [(a0, .inr (20, [.ref ka, .ref va0, vr x1, .ref b0, .ref g0, .int (nI (tcol c1))]))], [(b0, .inr (20, [.ref kb, .ref vb0, .null, vr x2, .ref a0, .int (nI (tcol c2))]))], [(g0, .inr (20, [.ref kg, .ref vg, .ref a0, vr z1, vr z2, .int (nI (tcol c4))]))]]) noR (Q_ctJ6_rotateLeft_l0 G t a0 b0 m0 g0 ka va0 kb vb0 km vm kg vg n md rt x1 x2 y1 y2 z1 z2 c1 c2 c3 c4) := by
  refine Ct.of (by decide +kernel) (Nat.le_of_ble_eq_true rfl) ?_
  intro p e s m below meth c A ls C hW hRo hl
  have hl : lv_has ls 3 [(0, .ref t), (1, .ref a0)] := hl
  refine lv_aload_n C.hx C.hb dJ6_rotateLeft_0 rfl (lv_at hl 1 rfl) ?_
  refine lv_ifnull C.hx C.hb dJ6_rotateLeft_1 ?_
  refine lv_aload_n C.hx C.hb dJ6_rotateLeft_4 rfl (lv_at hl 1 rfl) ?_
  refine k_get (v := .ref b0) C clJ31 (hW.get 1 0 rfl rfl) 3 (Nat.le_of_ble_eq_true rfl) rfl q1821 rfl rfl dJ6_rotateLeft_5 ?_
  refine lv_astore_n (lv' := [(2, .ref b0), (0, .ref t), (1, .ref a0)]) C.hx C.hb dJ6_rotateLeft_8 rfl hl (Nat.le_of_ble_eq_true rfl) rfl (fun ls1 hl1 => ?_)
  clear hl
  refine lv_aload_n C.hx C.hb dJ6_rotateLeft_9 rfl (lv_at hl1 2 rfl) ?_
  refine lv_aload_n C.hx C.hb dJ6_rotateLeft_10 rfl (lv_at hl1 0 rfl) ?_
  refine k_get (v := .null) C clJ31 (hW.get 2 0 rfl rfl) 2 (Nat.le_of_ble_eq_true rfl) rfl q1820 rfl rfl dJ6_rotateLeft_11 ?_
  refine k_put (S' := [[(t, .inr (13, [.null, .null, .null, vr rt, .int (nI n), .int md, .null, .null, .null]))], [(a0, .inr (20, [.ref ka, .ref va0, vr x1, .null, .ref g0, .int (nI (tcol c1))]))], [(b0, .inr (20, [.ref kb, .ref vb0, .null, vr x2, .ref a0, .int (nI (tcol c2))]))], [(g0, .inr (20, [.ref kg, .ref vg, .ref a0, vr z1, vr z2, .int (nI (tcol c4))]))]]) C clJ31 hW 1 0 rfl rfl 3 (Nat.le_of_ble_eq_true rfl) rfl q1821 rfl (fun _ h => h) (Or.inl rfl) (fty := (.object "java/util/TreeMap$Entry")) (v := .null) (by decide +kernel) rfl rfl (Nat.le_of_ble_eq_true rfl) dJ6_rotateLeft_14 rfl (fun H2 locs2 hW2 => ?_)
  clear hW
  refine lv_aload_n C.hx C.hb dJ6_rotateLeft_17 rfl (lv_at hl1 0 rfl) ?_
  refine k_get (v := .null) C clJ31 (hW2.get 2 0 rfl rfl) 2 (Nat.le_of_ble_eq_true rfl) rfl q1820 rfl rfl dJ6_rotateLeft_18 ?_
  refine lv_ifnullN (tgt := 32) C.hx C.hb dJ6_rotateLeft_21 (by decide) ?_
  refine lv_aload_n C.hx C.hb dJ6_rotateLeft_32 rfl (lv_at hl1 0 rfl) ?_
  refine lv_aload_n C.hx C.hb dJ6_rotateLeft_33 rfl (lv_at hl1 2 rfl) ?_
  refine k_get (v := .ref g0) C clJ31 (hW2.get 1 0 rfl rfl) 4 (Nat.le_of_ble_eq_true rfl) rfl q1823 rfl rfl dJ6_rotateLeft_34 ?_
  refine k_put (S' := [[(t, .inr (13, [.null, .null, .null, vr rt, .int (nI n), .int md, .null, .null, .null]))], [(a0, .inr (20, [.ref ka, .ref va0, vr x1, .null, .ref g0, .int (nI (tcol c1))]))], [(b0, .inr (20, [.ref kb, .ref vb0, .null, vr x2, .ref g0, .int (nI (tcol c2))]))], [(g0, .inr (20, [.ref kg, .ref vg, .ref a0, vr z1, vr z2, .int (nI (tcol c4))]))]]) C clJ31 hW2 2 0 rfl rfl 4 (Nat.le_of_ble_eq_true rfl) rfl q1823 rfl (fun _ h => h) (Or.inl rfl) (fty := (.object "java/util/TreeMap$Entry")) (v := .ref g0) (by decide +kernel) rfl rfl (Nat.le_of_ble_eq_true rfl) dJ6_rotateLeft_37 rfl (fun H3 locs3 hW3 => ?_)
  clear hW2
  refine lv_aload_n C.hx C.hb dJ6_rotateLeft_40 rfl (lv_at hl1 2 rfl) ?_
  refine k_get (v := .ref g0) C clJ31 (hW3.get 1 0 rfl rfl) 4 (Nat.le_of_ble_eq_true rfl) rfl q1823 rfl rfl dJ6_rotateLeft_41 ?_
  refine lv_ifnonnull (tgt := 55) C.hx C.hb dJ6_rotateLeft_44 (by decide) ?_
  refine lv_aload_n C.hx C.hb dJ6_rotateLeft_55 rfl (lv_at hl1 2 rfl) ?_
  refine k_get (v := .ref g0) C clJ31 (hW3.get 1 0 rfl rfl) 4 (Nat.le_of_ble_eq_true rfl) rfl q1823 rfl rfl dJ6_rotateLeft_56 ?_
  refine k_get (v := .ref a0) C clJ31 (hW3.get 3 0 rfl rfl) 2 (Nat.le_of_ble_eq_true rfl) rfl q1820 rfl rfl dJ6_rotateLeft_59 ?_
  refine lv_aload_n C.hx C.hb dJ6_rotateLeft_62 rfl (lv_at hl1 2 rfl) ?_
  refine kr_acmp_ne (tgt := 77) C dJ6_rotateLeft_63 (by decide) (fun cq => absurd rfl cq) (fun cq => ?_)
  refine lv_aload_n C.hx C.hb dJ6_rotateLeft_66 rfl (lv_at hl1 2 rfl) ?_
  refine k_get (v := .ref g0) C clJ31 (hW3.get 1 0 rfl rfl) 4 (Nat.le_of_ble_eq_true rfl) rfl q1823 rfl rfl dJ6_rotateLeft_67 ?_
  refine lv_aload_n C.hx C.hb dJ6_rotateLeft_70 rfl (lv_at hl1 0 rfl) ?_
  refine k_put (S' := [[(t, .inr (13, [.null, .null, .null, vr rt, .int (nI n), .int md, .null, .null, .null]))], [(a0, .inr (20, [.ref ka, .ref va0, vr x1, .null, .ref g0, .int (nI (tcol c1))]))], [(b0, .inr (20, [.ref kb, .ref vb0, .null, vr x2, .ref g0, .int (nI (tcol c2))]))], [(g0, .inr (20, [.ref kg, .ref vg, .ref b0, vr z1, vr z2, .int (nI (tcol c4))]))]]) C clJ31 hW3 3 0 rfl rfl 2 (Nat.le_of_ble_eq_true rfl) rfl q1820 rfl (fun _ h => h) (Or.inl rfl) (fty := (.object "java/util/TreeMap$Entry")) (v := .ref b0) (by decide +kernel) rfl rfl (Nat.le_of_ble_eq_true rfl) dJ6_rotateLeft_71 rfl (fun H4 locs4 hW4 => ?_)
  clear hW3
  refine lv_goto (tgt := 85) C.hx C.hb dJ6_rotateLeft_74 (by decide) ?_
  refine lv_aload_n C.hx C.hb dJ6_rotateLeft_85 rfl (lv_at hl1 0 rfl) ?_
  refine lv_aload_n C.hx C.hb dJ6_rotateLeft_86 rfl (lv_at hl1 2 rfl) ?_
  refine k_put (S' := [[(t, .inr (13, [.null, .null, .null, vr rt, .int (nI n), .int md, .null, .null, .null]))], [(a0, .inr (20, [.ref ka, .ref va0, vr x1, .null, .ref g0, .int (nI (tcol c1))]))], [(b0, .inr (20, [.ref kb, .ref vb0, .ref a0, vr x2, .ref g0, .int (nI (tcol c2))]))], [(g0, .inr (20, [.ref kg, .ref vg, .ref b0, vr z1, vr z2, .int (nI (tcol c4))]))]]) C clJ31 hW4 2 0 rfl rfl 2 (Nat.le_of_ble_eq_true rfl) rfl q1820 rfl (fun _ h => h) (Or.inl rfl) (fty := (.object "java/util/TreeMap$Entry")) (v := .ref a0) (by decide +kernel) rfl rfl (Nat.le_of_ble_eq_true rfl) dJ6_rotateLeft_87 rfl (fun H5 locs5 hW5 => ?_)
  clear hW4
  refine lv_aload_n C.hx C.hb dJ6_rotateLeft_90 rfl (lv_at hl1 2 rfl) ?_
  refine lv_aload_n C.hx C.hb dJ6_rotateLeft_91 rfl (lv_at hl1 0 rfl) ?_
  refine k_put (S' := [[(t, .inr (13, [.null, .null, .null, vr rt, .int (nI n), .int md, .null, .null, .null]))], [(a0, .inr (20, [.ref ka, .ref va0, vr x1, .null, .ref b0, .int (nI (tcol c1))]))], [(b0, .inr (20, [.ref kb, .ref vb0, .ref a0, vr x2, .ref g0, .int (nI (tcol c2))]))], [(g0, .inr (20, [.ref kg, .ref vg, .ref b0, vr z1, vr z2, .int (nI (tcol c4))]))]]) C clJ31 hW5 1 0 rfl rfl 4 (Nat.le_of_ble_eq_true rfl) rfl q1823 rfl (fun _ h => h) (Or.inl rfl) (fty := (.object "java/util/TreeMap$Entry")) (v := .ref b0) (by decide +kernel) rfl rfl (Nat.le_of_ble_eq_true rfl) dJ6_rotateLeft_92 rfl (fun H6 locs6 hW6 => ?_)
  clear hW5
  exact k_vret C hW6 rfl ⟨rfl, rfl⟩ (Nat.le_refl _) (Nat.le_refl _) dJ6_rotateLeft_95

def Q_ctJ6_rotateLeft_l1 (G : GT) (t a0 b0 m0 g0 ka va0 kb vb0 km vm kg vg n : Nat) (md : Int32) (rt x1 x2 y1 y2 z1 z2 : Option Nat) (c1 c2 c3 c4 : Bool) : Option Value → List va_W → Prop := fun v S1 => v = none ∧ S1 = [[(t, .inr (13, [.null, .null, .null, vr rt, .int (nI n), .int md, .null, .null, .null]))], [(a0, .inr (20, [.ref ka, .ref va0, vr x1, .ref m0, .ref b0, .int (nI (tcol c1))]))], [(b0, .inr (20, [.ref kb, .ref vb0, .ref a0, vr x2, .ref g0, .int (nI (tcol c2))]))], [(m0, .inr (20, [.ref km, .ref vm, vr y1, vr y2, .ref a0, .int (nI (tcol c3))]))], [(g0, .inr (20, [.ref kg, .ref vg, .ref b0, vr z1, vr z2, .int (nI (tcol c4))]))]]
set_option maxHeartbeats 4000000 in
set_option maxRecDepth 100000 in
theorem ctJ6_rotateLeft_l1 (l : Launch) (G : GT) (t a0 b0 m0 g0 ka va0 kb vb0 km vm kg vg n : Nat) (md : Int32) (rt x1 x2 y1 y2 z1 z2 : Option Nat) (c1 c2 c3 c4 : Bool)  : Ct l G yJ6_rotateLeft cJ6_rotateLeft 3 none 0 0 0 0 [.ref t, .ref a0] ([[(t, .inr (13, [.null, .null, .null, vr rt, .int (nI n), .int md, .null, .null, .null]))], [(a0, .inr (20, [.ref ka, .ref va0, vr x1, .ref b0, .ref g0, .int (nI (tcol c1))]))], [(b0, .inr (20, [.ref kb, .ref vb0, .ref m0, vr x2, .ref a0, .int (nI (tcol c2))]))], [(m0, .inr (20, [.ref km, .ref vm, vr y1, vr y2, .ref b0, .int (nI (tcol c3))]))], [(g0, .inr (20, [.ref kg, .ref vg, .ref a0, vr z1, vr z2, .int (nI (tcol c4))]))]]) noR (Q_ctJ6_rotateLeft_l1 G t a0 b0 m0 g0 ka va0 kb vb0 km vm kg vg n md rt x1 x2 y1 y2 z1 z2 c1 c2 c3 c4) := by
  refine Ct.of (by decide +kernel) (Nat.le_of_ble_eq_true rfl) ?_
  intro p e s m below meth c A ls C hW hRo hl
  have hl : lv_has ls 3 [(0, .ref t), (1, .ref a0)] := hl
  refine lv_aload_n C.hx C.hb dJ6_rotateLeft_0 rfl (lv_at hl 1 rfl) ?_
  refine lv_ifnull C.hx C.hb dJ6_rotateLeft_1 ?_
  refine lv_aload_n C.hx C.hb dJ6_rotateLeft_4 rfl (lv_at hl 1 rfl) ?_
  refine k_get (v := .ref b0) C clJ31 (hW.get 1 0 rfl rfl) 3 (Nat.le_of_ble_eq_true rfl) rfl q1821 rfl rfl dJ6_rotateLeft_5 ?_
  refine lv_astore_n (lv' := [(2, .ref b0), (0, .ref t), (1, .ref a0)]) C.hx C.hb dJ6_rotateLeft_8 rfl hl (Nat.le_of_ble_eq_true rfl) rfl (fun ls1 hl1 => ?_)
  clear hl
  refine lv_aload_n C.hx C.hb dJ6_rotateLeft_9 rfl (lv_at hl1 2 rfl) ?_
  refine lv_aload_n C.hx C.hb dJ6_rotateLeft_10 rfl (lv_at hl1 0 rfl) ?_
  refine k_get (v := .ref m0) C clJ31 (hW.get 2 0 rfl rfl) 2 (Nat.le_of_ble_eq_true rfl) rfl q1820 rfl rfl dJ6_rotateLeft_11 ?_
  refine k_put (S' := [[(t, .inr (13, [.null, .null, .null, vr rt, .int (nI n), .int md, .null, .null, .null]))], [(a0, .inr (20, [.ref ka, .ref va0, vr x1, .ref m0, .ref g0, .int (nI (tcol c1))]))], [(b0, .inr (20, [.ref kb, .ref vb0, .ref m0, vr x2, .ref a0, .int (nI (tcol c2))]))], [(m0, .inr (20, [.ref km, .ref vm, vr y1, vr y2, .ref b0, .int (nI (tcol c3))]))], [(g0, .inr (20, [.ref kg, .ref vg, .ref a0, vr z1, vr z2, .int (nI (tcol c4))]))]]) C clJ31 hW 1 0 rfl rfl 3 (Nat.le_of_ble_eq_true rfl) rfl q1821 rfl (fun _ h => h) (Or.inl rfl) (fty := (.object "java/util/TreeMap$Entry")) (v := .ref m0) (by decide +kernel) rfl rfl (Nat.le_of_ble_eq_true rfl) dJ6_rotateLeft_14 rfl (fun H2 locs2 hW2 => ?_)
  clear hW
  refine lv_aload_n C.hx C.hb dJ6_rotateLeft_17 rfl (lv_at hl1 0 rfl) ?_
  refine k_get (v := .ref m0) C clJ31 (hW2.get 2 0 rfl rfl) 2 (Nat.le_of_ble_eq_true rfl) rfl q1820 rfl rfl dJ6_rotateLeft_18 ?_
  refine lv_ifnull C.hx C.hb dJ6_rotateLeft_21 ?_
  refine lv_aload_n C.hx C.hb dJ6_rotateLeft_24 rfl (lv_at hl1 0 rfl) ?_
  refine k_get (v := .ref m0) C clJ31 (hW2.get 2 0 rfl rfl) 2 (Nat.le_of_ble_eq_true rfl) rfl q1820 rfl rfl dJ6_rotateLeft_25 ?_
  refine lv_aload_n C.hx C.hb dJ6_rotateLeft_28 rfl (lv_at hl1 2 rfl) ?_
  refine k_put (S' := [[(t, .inr (13, [.null, .null, .null, vr rt, .int (nI n), .int md, .null, .null, .null]))], [(a0, .inr (20, [.ref ka, .ref va0, vr x1, .ref m0, .ref g0, .int (nI (tcol c1))]))], [(b0, .inr (20, [.ref kb, .ref vb0, .ref m0, vr x2, .ref a0, .int (nI (tcol c2))]))], [(m0, .inr (20, [.ref km, .ref vm, vr y1, vr y2, .ref a0, .int (nI (tcol c3))]))], [(g0, .inr (20, [.ref kg, .ref vg, .ref a0, vr z1, vr z2, .int (nI (tcol c4))]))]]) C clJ31 hW2 3 0 rfl rfl 4 (Nat.le_of_ble_eq_true rfl) rfl q1823 rfl (fun _ h => h) (Or.inl rfl) (fty := (.object "java/util/TreeMap$Entry")) (v := .ref a0) (by decide +kernel) rfl rfl (Nat.le_of_ble_eq_true rfl) dJ6_rotateLeft_29 rfl (fun H3 locs3 hW3 => ?_)
  clear hW2
  refine lv_aload_n C.hx C.hb dJ6_rotateLeft_32 rfl (lv_at hl1 0 rfl) ?_
  refine lv_aload_n C.hx C.hb dJ6_rotateLeft_33 rfl (lv_at hl1 2 rfl) ?_
  refine k_get (v := .ref g0) C clJ31 (hW3.get 1 0 rfl rfl) 4 (Nat.le_of_ble_eq_true rfl) rfl q1823 rfl rfl dJ6_rotateLeft_34 ?_
  refine k_put (S' := [[(t, .inr (13, [.null, .null, .null, vr rt, .int (nI n), .int md, .null, .null, .null]))], [(a0, .inr (20, [.ref ka, .ref va0, vr x1, .ref m0, .ref g0, .int (nI (tcol c1))]))], [(b0, .inr (20, [.ref kb, .ref vb0, .ref m0, vr x2, .ref g0, .int (nI (tcol c2))]))], [(m0, .inr (20, [.ref km, .ref vm, vr y1, vr y2, .ref a0, .int (nI (tcol c3))]))], [(g0, .inr (20, [.ref kg, .ref vg, .ref a0, vr z1, vr z2, .int (nI (tcol c4))]))]]) C clJ31 hW3 2 0 rfl rfl 4 (Nat.le_of_ble_eq_true rfl) rfl q1823 rfl (fun _ h => h) (Or.inl rfl) (fty := (.object "java/util/TreeMap$Entry")) (v := .ref g0) (by decide +kernel) rfl rfl (Nat.le_of_ble_eq_true rfl) dJ6_rotateLeft_37 rfl (fun H4 locs4 hW4 => ?_)
  clear hW3
  refine lv_aload_n C.hx C.hb dJ6_rotateLeft_40 rfl (lv_at hl1 2 rfl) ?_
  refine k_get (v := .ref g0) C clJ31 (hW4.get 1 0 rfl rfl) 4 (Nat.le_of_ble_eq_true rfl) rfl q1823 rfl rfl dJ6_rotateLeft_41 ?_
  refine lv_ifnonnull (tgt := 55) C.hx C.hb dJ6_rotateLeft_44 (by decide) ?_
  refine lv_aload_n C.hx C.hb dJ6_rotateLeft_55 rfl (lv_at hl1 2 rfl) ?_
  refine k_get (v := .ref g0) C clJ31 (hW4.get 1 0 rfl rfl) 4 (Nat.le_of_ble_eq_true rfl) rfl q1823 rfl rfl dJ6_rotateLeft_56 ?_
  refine k_get (v := .ref a0) C clJ31 (hW4.get 4 0 rfl rfl) 2 (Nat.le_of_ble_eq_true rfl) rfl q1820 rfl rfl dJ6_rotateLeft_59 ?_
  refine lv_aload_n C.hx C.hb dJ6_rotateLeft_62 rfl (lv_at hl1 2 rfl) ?_
  refine kr_acmp_ne (tgt := 77) C dJ6_rotateLeft_63 (by decide) (fun cq => absurd rfl cq) (fun cq => ?_)
  refine lv_aload_n C.hx C.hb dJ6_rotateLeft_66 rfl (lv_at hl1 2 rfl) ?_
  refine k_get (v := .ref g0) C clJ31 (hW4.get 1 0 rfl rfl) 4 (Nat.le_of_ble_eq_true rfl) rfl q1823 rfl rfl dJ6_rotateLeft_67 ?_
  refine lv_aload_n C.hx C.hb dJ6_rotateLeft_70 rfl (lv_at hl1 0 rfl) ?_
  refine k_put (S' := [[(t, .inr (13, [.null, .null, .null, vr rt, .int (nI n), .int md, .null, .null, .null]))], [(a0, .inr (20, [.ref ka, .ref va0, vr x1, .ref m0, .ref g0, .int (nI (tcol c1))]))], [(b0, .inr (20, [.ref kb, .ref vb0, .ref m0, vr x2, .ref g0, .int (nI (tcol c2))]))], [(m0, .inr (20, [.ref km, .ref vm, vr y1, vr y2, .ref a0, .int (nI (tcol c3))]))], [(g0, .inr (20, [.ref kg, .ref vg, .ref b0, vr z1, vr z2, .int (nI (tcol c4))]))]]) C clJ31 hW4 4 0 rfl rfl 2 (Nat.le_of_ble_eq_true rfl) rfl q1820 rfl (fun _ h => h) (Or.inl rfl) (fty := (.object "java/util/TreeMap$Entry")) (v := .ref b0) (by decide +kernel) rfl rfl (Nat.le_of_ble_eq_true rfl) dJ6_rotateLeft_71 rfl (fun H5 locs5 hW5 => ?_)
  clear hW4
  refine lv_goto (tgt := 85) C.hx C.hb dJ6_rotateLeft_74 (by decide) ?_
  refine lv_aload_n C.hx C.hb dJ6_rotateLeft_85 rfl (lv_at hl1 0 rfl) ?_
  refine lv_aload_n C.hx C.hb dJ6_rotateLeft_86 rfl (lv_at hl1 2 rfl) ?_
  refine k_put (S' := [[(t, .inr (13, [.null, .null, .null, vr rt, .int (nI n), .int md, .null, .null, .null]))], [(a0, .inr (20, [.ref ka, .ref va0, vr x1, .ref m0, .ref g0, .int (nI (tcol c1))]))], [(b0, .inr (20, [.ref kb, .ref vb0, .ref a0, vr x2, .ref g0, .int (nI (tcol c2))]))], [(m0, .inr (20, [.ref km, .ref vm, vr y1, vr y2, .ref a0, .int (nI (tcol c3))]))], [(g0, .inr (20, [.ref kg, .ref vg, .ref b0, vr z1, vr z2, .int (nI (tcol c4))]))]]) C clJ31 hW5 2 0 rfl rfl 2 (Nat.le_of_ble_eq_true rfl) rfl q1820 rfl (fun _ h => h) (Or.inl rfl) (fty := (.object "java/util/TreeMap$Entry")) (v := .ref a0) (by decide +kernel) rfl rfl (Nat.le_of_ble_eq_true rfl) dJ6_rotateLeft_87 rfl (fun H6 locs6 hW6 => ?_)
  clear hW5
  refine lv_aload_n C.hx C.hb dJ6_rotateLeft_90 rfl (lv_at hl1 2 rfl) ?_
  refine lv_aload_n C.hx C.hb dJ6_rotateLeft_91 rfl (lv_at hl1 0 rfl) ?_
  refine k_put (S' := [[(t, .inr (13, [.null, .null, .null, vr rt, .int (nI n), .int md, .null, .null, .null]))], [(a0, .inr (20, [.ref ka, .ref va0, vr x1, .ref m0, .ref b0, .int (nI (tcol c1))]))], [(b0, .inr (20, [.ref kb, .ref vb0, .ref a0, vr x2, .ref g0, .int (nI (tcol c2))]))], [(m0, .inr (20, [.ref km, .ref vm, vr y1, vr y2, .ref a0, .int (nI (tcol c3))]))], [(g0, .inr (20, [.ref kg, .ref vg, .ref b0, vr z1, vr z2, .int (nI (tcol c4))]))]]) C clJ31 hW6 1 0 rfl rfl 4 (Nat.le_of_ble_eq_true rfl) rfl q1823 rfl (fun _ h => h) (Or.inl rfl) (fty := (.object "java/util/TreeMap$Entry")) (v := .ref b0) (by decide +kernel) rfl rfl (Nat.le_of_ble_eq_true rfl) dJ6_rotateLeft_92 rfl (fun H7 locs7 hW7 => ?_)
  clear hW6
  exact k_vret C hW7 rfl ⟨rfl, rfl⟩ (Nat.le_refl _) (Nat.le_refl _) dJ6_rotateLeft_95

def Q_ctJ6_rotateLeft_r0 (G : GT) (t a0 b0 m0 g0 ka va0 kb vb0 km vm kg vg n : Nat) (md : Int32) (rt x1 x2 y1 y2 z1 z2 : Option Nat) (c1 c2 c3 c4 : Bool) : Option Value → List va_W → Prop := fun v S1 => v = none ∧ S1 = [[(t, .inr (13, [.null, .null, .null, vr rt, .int (nI n), .int md, .null, .null, .null]))], [(a0, .inr (20, [.ref ka, .ref va0, vr x1, .null, .ref b0, .int (nI (tcol c1))]))], [(b0, .inr (20, [.ref kb, .ref vb0, .ref a0, vr x2, .ref g0, .int (nI (tcol c2))]))], [(g0, .inr (20, [.ref kg, .ref vg, vr z1, .ref b0, vr z2, .int (nI (tcol c4))]))]]
set_option maxHeartbeats 4000000 in
set_option maxRecDepth 100000 in
theorem ctJ6_rotateLeft_r0 (l : Launch) (G : GT) (t a0 b0 m0 g0 ka va0 kb vb0 km vm kg vg n : Nat) (md : Int32) (rt x1 x2 y1 y2 z1 z2 : Option Nat) (c1 c2 c3 c4 : Bool) (hz : z1 ≠ some a0) : Ct l G yJ6_rotateLeft cJ6_rotateLeft 3 none 0 0 0 0 [.ref t, .ref a0] ([[(t, .inr (13, [.null, .null, .null, vr rt, .int (nI n), .int md, .null, .null, .null]))], [(a0, .inr (20, [.ref ka, .ref va0, vr x1, .ref b0, .ref g0, .int (nI (tcol c1))]))], [(b0, .inr (20, [.ref kb, .ref vb0, .null, vr x2, .ref a0, .int (nI (tcol c2))]))], [(g0, .inr (20, [.ref kg, .ref vg, vr z1, .ref a0, vr z2, .int (nI (tcol c4))]))]]) noR (Q_ctJ6_rotateLeft_r0 G t a0 b0 m0 g0 ka va0 kb vb0 km vm kg vg n md rt x1 x2 y1 y2 z1 z2 c1 c2 c3 c4) := by
  refine Ct.of (by decide +kernel) (Nat.le_of_ble_eq_true rfl) ?_
  intro p e s m below meth c A ls C hW hRo hl
  have hl : lv_has ls 3 [(0, .ref t), (1, .ref a0)] := hl
  refine lv_aload_n C.hx C.hb dJ6_rotateLeft_0 rfl (lv_at hl 1 rfl) ?_
  refine lv_ifnull C.hx C.hb dJ6_rotateLeft_1 ?_
  refine lv_aload_n C.hx C.hb dJ6_rotateLeft_4 rfl (lv_at hl 1 rfl) ?_
  refine k_get (v := .ref b0) C clJ31 (hW.get 1 0 rfl rfl) 3 (Nat.le_of_ble_eq_true rfl) rfl q1821 rfl rfl dJ6_rotateLeft_5 ?_
  refine lv_astore_n (lv' := [(2, .ref b0), (0, .ref t), (1, .ref a0)]) C.hx C.hb dJ6_rotateLeft_8 rfl hl (Nat.le_of_ble_eq_true rfl) rfl (fun ls1 hl1 => ?_)
  clear hl
  refine lv_aload_n C.hx C.hb dJ6_rotateLeft_9 rfl (lv_at hl1 2 rfl) ?_
  refine lv_aload_n C.hx C.hb dJ6_rotateLeft_10 rfl (lv_at hl1 0 rfl) ?_
  refine k_get (v := .null) C clJ31 (hW.get 2 0 rfl rfl) 2 (Nat.le_of_ble_eq_true rfl) rfl q1820 rfl rfl dJ6_rotateLeft_11 ?_
  refine k_put (S' := [[(t, .inr (13, [.null, .null, .null, vr rt, .int (nI n), .int md, .null, .null, .null]))], [(a0, .inr (20, [.ref ka, .ref va0, vr x1, .null, .ref g0, .int (nI (tcol c1))]))], [(b0, .inr (20, [.ref kb, .ref vb0, .null, vr x2, .ref a0, .int (nI (tcol c2))]))], [(g0, .inr (20, [.ref kg, .ref vg, vr z1, .ref a0, vr z2, .int (nI (tcol c4))]))]]) C clJ31 hW 1 0 rfl rfl 3 (Nat.le_of_ble_eq_true rfl) rfl q1821 rfl (fun _ h => h) (Or.inl rfl) (fty := (.object "java/util/TreeMap$Entry")) (v := .null) (by decide +kernel) rfl rfl (Nat.le_of_ble_eq_true rfl) dJ6_rotateLeft_14 rfl (fun H2 locs2 hW2 => ?_)
  clear hW
  refine lv_aload_n C.hx C.hb dJ6_rotateLeft_17 rfl (lv_at hl1 0 rfl) ?_
  refine k_get (v := .null) C clJ31 (hW2.get 2 0 rfl rfl) 2 (Nat.le_of_ble_eq_true rfl) rfl q1820 rfl rfl dJ6_rotateLeft_18 ?_
  refine lv_ifnullN (tgt := 32) C.hx C.hb dJ6_rotateLeft_21 (by decide) ?_
  refine lv_aload_n C.hx C.hb dJ6_rotateLeft_32 rfl (lv_at hl1 0 rfl) ?_
  refine lv_aload_n C.hx C.hb dJ6_rotateLeft_33 rfl (lv_at hl1 2 rfl) ?_
  refine k_get (v := .ref g0) C clJ31 (hW2.get 1 0 rfl rfl) 4 (Nat.le_of_ble_eq_true rfl) rfl q1823 rfl rfl dJ6_rotateLeft_34 ?_
  refine k_put (S' := [[(t, .inr (13, [.null, .null, .null, vr rt, .int (nI n), .int md, .null, .null, .null]))], [(a0, .inr (20, [.ref ka, .ref va0, vr x1, .null, .ref g0, .int (nI (tcol c1))]))], [(b0, .inr (20, [.ref kb, .ref vb0, .null, vr x2, .ref g0, .int (nI (tcol c2))]))], [(g0, .inr (20, [.ref kg, .ref vg, vr z1, .ref a0, vr z2, .int (nI (tcol c4))]))]]) C clJ31 hW2 2 0 rfl rfl 4 (Nat.le_of_ble_eq_true rfl) rfl q1823 rfl (fun _ h => h) (Or.inl rfl) (fty := (.object "java/util/TreeMap$Entry")) (v := .ref g0) (by decide +kernel) rfl rfl (Nat.le_of_ble_eq_true rfl) dJ6_rotateLeft_37 rfl (fun H3 locs3 hW3 => ?_)
  clear hW2
  refine lv_aload_n C.hx C.hb dJ6_rotateLeft_40 rfl (lv_at hl1 2 rfl) ?_
  refine k_get (v := .ref g0) C clJ31 (hW3.get 1 0 rfl rfl) 4 (Nat.le_of_ble_eq_true rfl) rfl q1823 rfl rfl dJ6_rotateLeft_41 ?_
  refine lv_ifnonnull (tgt := 55) C.hx C.hb dJ6_rotateLeft_44 (by decide) ?_
  refine lv_aload_n C.hx C.hb dJ6_rotateLeft_55 rfl (lv_at hl1 2 rfl) ?_
  refine k_get (v := .ref g0) C clJ31 (hW3.get 1 0 rfl rfl) 4 (Nat.le_of_ble_eq_true rfl) rfl q1823 rfl rfl dJ6_rotateLeft_56 ?_
  refine k_get (v := vr z1) C clJ31 (hW3.get 3 0 rfl rfl) 2 (Nat.le_of_ble_eq_true rfl) rfl q1820 rfl rfl dJ6_rotateLeft_59 ?_
  refine lv_aload_n C.hx C.hb dJ6_rotateLeft_62 rfl (lv_at hl1 2 rfl) ?_
  refine lv_acmp_ne (rx := z1) (ry := (some a0)) (tgt := 77) C.hx C.hb dJ6_rotateLeft_63 (by decide) (fun c63 => ?_) (fun c63 => (absurd c63 hz))
  refine lv_aload_n C.hx C.hb dJ6_rotateLeft_77 rfl (lv_at hl1 2 rfl) ?_
  refine k_get (v := .ref g0) C clJ31 (hW3.get 1 0 rfl rfl) 4 (Nat.le_of_ble_eq_true rfl) rfl q1823 rfl rfl dJ6_rotateLeft_78 ?_
  refine lv_aload_n C.hx C.hb dJ6_rotateLeft_81 rfl (lv_at hl1 0 rfl) ?_
  refine k_put (S' := [[(t, .inr (13, [.null, .null, .null, vr rt, .int (nI n), .int md, .null, .null, .null]))], [(a0, .inr (20, [.ref ka, .ref va0, vr x1, .null, .ref g0, .int (nI (tcol c1))]))], [(b0, .inr (20, [.ref kb, .ref vb0, .null, vr x2, .ref g0, .int (nI (tcol c2))]))], [(g0, .inr (20, [.ref kg, .ref vg, vr z1, .ref b0, vr z2, .int (nI (tcol c4))]))]]) C clJ31 hW3 3 0 rfl rfl 3 (Nat.le_of_ble_eq_true rfl) rfl q1821 rfl (fun _ h => h) (Or.inl rfl) (fty := (.object "java/util/TreeMap$Entry")) (v := .ref b0) (by decide +kernel) rfl rfl (Nat.le_of_ble_eq_true rfl) dJ6_rotateLeft_82 rfl (fun H4 locs4 hW4 => ?_)
  clear hW3
  refine lv_aload_n C.hx C.hb dJ6_rotateLeft_85 rfl (lv_at hl1 0 rfl) ?_
  refine lv_aload_n C.hx C.hb dJ6_rotateLeft_86 rfl (lv_at hl1 2 rfl) ?_
  refine k_put (S' := [[(t, .inr (13, [.null, .null, .null, vr rt, .int (nI n), .int md, .null, .null, .null]))], [(a0, .inr (20, [.ref ka, .ref va0, vr x1, .null, .ref g0, .int (nI (tcol c1))]))], [(b0, .inr (20, [.ref kb, .ref vb0, .ref a0, vr x2, .ref g0, .int (nI (tcol c2))]))], [(g0, .inr (20, [.ref kg, .ref vg, vr z1, .ref b0, vr z2, .int (nI (tcol c4))]))]]) C clJ31 hW4 2 0 rfl rfl 2 (Nat.le_of_ble_eq_true rfl) rfl q1820 rfl (fun _ h => h) (Or.inl rfl) (fty := (.object "java/util/TreeMap$Entry")) (v := .ref a0) (by decide +kernel) rfl rfl (Nat.le_of_ble_eq_true rfl) dJ6_rotateLeft_87 rfl (fun H5 locs5 hW5 => ?_)
  clear hW4
  refine lv_aload_n C.hx C.hb dJ6_rotateLeft_90 rfl (lv_at hl1 2 rfl) ?_
  refine lv_aload_n C.hx C.hb dJ6_rotateLeft_91 rfl (lv_at hl1 0 rfl) ?_
  refine k_put (S' := [[(t, .inr (13, [.null, .null, .null, vr rt, .int (nI n), .int md, .null, .null, .null]))], [(a0, .inr (20, [.ref ka, .ref va0, vr x1, .null, .ref b0, .int (nI (tcol c1))]))], [(b0, .inr (20, [.ref kb, .ref vb0, .ref a0, vr x2, .ref g0, .int (nI (tcol c2))]))], [(g0, .inr (20, [.ref kg, .ref vg, vr z1, .ref b0, vr z2, .int (nI (tcol c4))]))]]) C clJ31 hW5 1 0 rfl rfl 4 (Nat.le_of_ble_eq_true rfl) rfl q1823 rfl (fun _ h => h) (Or.inl rfl) (fty := (.object "java/util/TreeMap$Entry")) (v := .ref b0) (by decide +kernel) rfl rfl (Nat.le_of_ble_eq_true rfl) dJ6_rotateLeft_92 rfl (fun H6 locs6 hW6 => ?_)
  clear hW5
  exact k_vret C hW6 rfl ⟨rfl, rfl⟩ (Nat.le_refl _) (Nat.le_refl _) dJ6_rotateLeft_95

def Q_ctJ6_rotateLeft_r1 (G : GT) (t a0 b0 m0 g0 ka va0 kb vb0 km vm kg vg n : Nat) (md : Int32) (rt x1 x2 y1 y2 z1 z2 : Option Nat) (c1 c2 c3 c4 : Bool) : Option Value → List va_W → Prop := fun v S1 => v = none ∧ S1 = [[(t, .inr (13, [.null, .null, .null, vr rt, .int (nI n), .int md, .null, .null, .null]))], [(a0, .inr (20, [.ref ka, .ref va0, vr x1, .ref m0, .ref b0, .int (nI (tcol c1))]))], [(b0, .inr (20, [.ref kb, .ref vb0, .ref a0, vr x2, .ref g0, .int (nI (tcol c2))]))], [(m0, .inr (20, [.ref km, .ref vm, vr y1, vr y2, .ref a0, .int (nI (tcol c3))]))], [(g0, .inr (20, [.ref kg, .ref vg, vr z1, .ref b0, vr z2, .int (nI (tcol c4))]))]]
set_option maxHeartbeats 4000000 in
set_option maxRecDepth 100000 in
theorem ctJ6_rotateLeft_r1 (l : Launch) (G : GT) (t a0 b0 m0 g0 ka va0 kb vb0 km vm kg vg n : Nat) (md : Int32) (rt x1 x2 y1 y2 z1 z2 : Option Nat) (c1 c2 c3 c4 : Bool) (hz : z1 ≠ some a0) : Ct l G yJ6_rotateLeft cJ6_rotateLeft 3 none 0 0 0 0 [.ref t, .ref a0] ([[(t, .inr (13, [.null, .null, .null, vr rt, .int (nI n), .int md, .null, .null, .null]))], [(a0, .inr (20, [.ref ka, .ref va0, vr x1, .ref b0, .ref g0, .int (nI (tcol c1))]))], [(b0, .inr (20, [.ref kb, .ref vb0, .ref m0, vr x2, .ref a0, .int (nI (tcol c2))]))], [(m0, .inr (20, [.ref km, .ref vm, vr y1, vr y2, .ref b0, .int (nI (tcol c3))]))], [(g0, .inr (20, [.ref kg, .ref vg, vr z1, .ref a0, vr z2, .int (nI (tcol c4))]))]]) noR (Q_ctJ6_rotateLeft_r1 G t a0 b0 m0 g0 ka va0 kb vb0 km vm kg vg n md rt x1 x2 y1 y2 z1 z2 c1 c2 c3 c4) := by
  refine Ct.of (by decide +kernel) (Nat.le_of_ble_eq_true rfl) ?_
  intro p e s m below meth c A ls C hW hRo hl
  have hl : lv_has ls 3 [(0, .ref t), (1, .ref a0)] := hl
  refine lv_aload_n C.hx C.hb dJ6_rotateLeft_0 rfl (lv_at hl 1 rfl) ?_
  refine lv_ifnull C.hx C.hb dJ6_rotateLeft_1 ?_
  refine lv_aload_n C.hx C.hb dJ6_rotateLeft_4 rfl (lv_at hl 1 rfl) ?_
  refine k_get (v := .ref b0) C clJ31 (hW.get 1 0 rfl rfl) 3 (Nat.le_of_ble_eq_true rfl) rfl q1821 rfl rfl dJ6_rotateLeft_5 ?_
  refine lv_astore_n (lv' := [(2, .ref b0), (0, .ref t), (1, .ref a0)]) C.hx C.hb dJ6_rotateLeft_8 rfl hl (Nat.le_of_ble_eq_true rfl) rfl (fun ls1 hl1 => ?_)
  clear hl
  refine lv_aload_n C.hx C.hb dJ6_rotateLeft_9 rfl (lv_at hl1 2 rfl) ?_
  refine lv_aload_n C.hx C.hb dJ6_rotateLeft_10 rfl (lv_at hl1 0 rfl) ?_
  refine k_get (v := .ref m0) C clJ31 (hW.get 2 0 rfl rfl) 2 (Nat.le_of_ble_eq_true rfl) rfl q1820 rfl rfl dJ6_rotateLeft_11 ?_
  refine k_put (S' := [[(t, .inr (13, [.null, .null, .null, vr rt, .int (nI n), .int md, .null, .null, .null]))], [(a0, .inr (20, [.ref ka, .ref va0, vr x1, .ref m0, .ref g0, .int (nI (tcol c1))]))], [(b0, .inr (20, [.ref kb, .ref vb0, .ref m0, vr x2, .ref a0, .int (nI (tcol c2))]))], [(m0, .inr (20, [.ref km, .ref vm, vr y1, vr y2, .ref b0, .int (nI (tcol c3))]))], [(g0, .inr (20, [.ref kg, .ref vg, vr z1, .ref a0, vr z2, .int (nI (tcol c4))]))]]) C clJ31 hW 1 0 rfl rfl 3 (Nat.le_of_ble_eq_true rfl) rfl q1821 rfl (fun _ h => h) (Or.inl rfl) (fty := (.object "java/util/TreeMap$Entry")) (v := .ref m0) (by decide +kernel) rfl rfl (Nat.le_of_ble_eq_true rfl) dJ6_rotateLeft_14 rfl (fun H2 locs2 hW2 => ?_)
  clear hW
  refine lv_aload_n C.hx C.hb dJ6_rotateLeft_17 rfl (lv_at hl1 0 rfl) ?_
  refine k_get (v := .ref m0) C clJ31 (hW2.get 2 0 rfl rfl) 2 (Nat.le_of_ble_eq_true rfl) rfl q1820 rfl rfl dJ6_rotateLeft_18 ?_
  refine lv_ifnull C.hx C.hb dJ6_rotateLeft_21 ?_
  refine lv_aload_n C.hx C.hb dJ6_rotateLeft_24 rfl (lv_at hl1 0 rfl) ?_
  refine k_get (v := .ref m0) C clJ31 (hW2.get 2 0 rfl rfl) 2 (Nat.le_of_ble_eq_true rfl) rfl q1820 rfl rfl dJ6_rotateLeft_25 ?_
  refine lv_aload_n C.hx C.hb dJ6_rotateLeft_28 rfl (lv_at hl1 2 rfl) ?_
  refine k_put (S' := [[(t, .inr (13, [.null, .null, .null, vr rt, .int (nI n), .int md, .null, .null, .null]))], [(a0, .inr (20, [.ref ka, .ref va0, vr x1, .ref m0, .ref g0, .int (nI (tcol c1))]))], [(b0, .inr (20, [.ref kb, .ref vb0, .ref m0, vr x2, .ref a0, .int (nI (tcol c2))]))], [(m0, .inr (20, [.ref km, .ref vm, vr y1, vr y2, .ref a0, .int (nI (tcol c3))]))], [(g0, .inr (20, [.ref kg, .ref vg, vr z1, .ref a0, vr z2, .int (nI (tcol c4))]))]]) C clJ31 hW2 3 0 rfl rfl 4 (Nat.le_of_ble_eq_true rfl) rfl q1823 rfl (fun _ h => h) (Or.inl rfl) (fty := (.object "java/util/TreeMap$Entry")) (v := .ref a0) (by decide +kernel) rfl rfl (Nat.le_of_ble_eq_true rfl) dJ6_rotateLeft_29 rfl (fun H3 locs3 hW3 => ?_)
  clear hW2
  refine lv_aload_n C.hx C.hb dJ6_rotateLeft_32 rfl (lv_at hl1 0 rfl) ?_
  refine lv_aload_n C.hx C.hb dJ6_rotateLeft_33 rfl (lv_at hl1 2 rfl) ?_
  refine k_get (v := .ref g0) C clJ31 (hW3.get 1 0 rfl rfl) 4 (Nat.le_of_ble_eq_true rfl) rfl q1823 rfl rfl dJ6_rotateLeft_34 ?_
  refine k_put (S' := [[(t, .inr (13, [.null, .null, .null, vr rt, .int (nI n), .int md, .null, .null, .null]))], [(a0, .inr (20, [.ref ka, .ref va0, vr x1, .ref m0, .ref g0, .int (nI (tcol c1))]))], [(b0, .inr (20, [.ref kb, .ref vb0, .ref m0, vr x2, .ref g0, .int (nI (tcol c2))]))], [(m0, .inr (20, [.ref km, .ref vm, vr y1, vr y2, .ref a0, .int (nI (tcol c3))]))], [(g0, .inr (20, [.ref kg, .ref vg, vr z1, .ref a0, vr z2, .int (nI (tcol c4))]))]]) C clJ31 hW3 2 0 rfl rfl 4 (Nat.le_of_ble_eq_true rfl) rfl q1823 rfl (fun _ h => h) (Or.inl rfl) (fty := (.object "java/util/TreeMap$Entry")) (v := .ref g0) (by decide +kernel) rfl rfl (Nat.le_of_ble_eq_true rfl) dJ6_rotateLeft_37 rfl (fun H4 locs4 hW4 => ?_)
  clear hW3
  refine lv_aload_n C.hx C.hb dJ6_rotateLeft_40 rfl (lv_at hl1 2 rfl) ?_
  refine k_get (v := .ref g0) C clJ31 (hW4.get 1 0 rfl rfl) 4 (Nat.le_of_ble_eq_true rfl) rfl q1823 rfl rfl dJ6_rotateLeft_41 ?_
  refine lv_ifnonnull (tgt := 55) C.hx C.hb dJ6_rotateLeft_44 (by decide) ?_
  refine lv_aload_n C.hx C.hb dJ6_rotateLeft_55 rfl (lv_at hl1 2 rfl) ?_
  refine k_get (v := .ref g0) C clJ31 (hW4.get 1 0 rfl rfl) 4 (Nat.le_of_ble_eq_true rfl) rfl q1823 rfl rfl dJ6_rotateLeft_56 ?_
  refine k_get (v := vr z1) C clJ31 (hW4.get 4 0 rfl rfl) 2 (Nat.le_of_ble_eq_true rfl) rfl q1820 rfl rfl dJ6_rotateLeft_59 ?_
  refine lv_aload_n C.hx C.hb dJ6_rotateLeft_62 rfl (lv_at hl1 2 rfl) ?_
  refine lv_acmp_ne (rx := z1) (ry := (some a0)) (tgt := 77) C.hx C.hb dJ6_rotateLeft_63 (by decide) (fun c63 => ?_) (fun c63 => (absurd c63 hz))
  refine lv_aload_n C.hx C.hb dJ6_rotateLeft_77 rfl (lv_at hl1 2 rfl) ?_
  refine k_get (v := .ref g0) C clJ31 (hW4.get 1 0 rfl rfl) 4 (Nat.le_of_ble_eq_true rfl) rfl q1823 rfl rfl dJ6_rotateLeft_78 ?_
  refine lv_aload_n C.hx C.hb dJ6_rotateLeft_81 rfl (lv_at hl1 0 rfl) ?_
  refine k_put (S' := [[(t, .inr (13, [.null, .null, .null, vr rt, .int (nI n), .int md, .null, .null, .null]))], [(a0, .inr (20, [.ref ka, .ref va0, vr x1, .ref m0, .ref g0, .int (nI (tcol c1))]))], [(b0, .inr (20, [.ref kb, .ref vb0, .ref m0, vr x2, .ref g0, .int (nI (tcol c2))]))], [(m0, .inr (20, [.ref km, .ref vm, vr y1, vr y2, .ref a0, .int (nI (tcol c3))]))], [(g0, .inr (20, [.ref kg, .ref vg, vr z1, .ref b0, vr z2, .int (nI (tcol c4))]))]]) C clJ31 hW4 4 0 rfl rfl 3 (Nat.le_of_ble_eq_true rfl) rfl q1821 rfl (fun _ h => h) (Or.inl rfl) (fty := (.object "java/util/TreeMap$Entry")) (v := .ref b0) (by decide +kernel) rfl rfl (Nat.le_of_ble_eq_true rfl) dJ6_rotateLeft_82 rfl (fun H5 locs5 hW5 => ?_)
  clear hW4
  refine lv_aload_n C.hx C.hb dJ6_rotateLeft_85 rfl (lv_at hl1 0 rfl) ?_
  refine lv_aload_n C.hx C.hb dJ6_rotateLeft_86 rfl (lv_at hl1 2 rfl) ?_
  refine k_put (S' := [[(t, .inr (13, [.null, .null, .null, vr rt, .int (nI n), .int md, .null, .null, .null]))], [(a0, .inr (20, [.ref ka, .ref va0, vr x1, .ref m0, .ref g0, .int (nI (tcol c1))]))], [(b0, .inr (20, [.ref kb, .ref vb0, .ref a0, vr x2, .ref g0, .int (nI (tcol c2))]))], [(m0, .inr (20, [.ref km, .ref vm, vr y1, vr y2, .ref a0, .int (nI (tcol c3))]))], [(g0, .inr (20, [.ref kg, .ref vg, vr z1, .ref b0, vr z2, .int (nI (tcol c4))]))]]) C clJ31 hW5 2 0 rfl rfl 2 (Nat.le_of_ble_eq_true rfl) rfl q1820 rfl (fun _ h => h) (Or.inl rfl) (fty := (.object "java/util/TreeMap$Entry")) (v := .ref a0) (by decide +kernel) rfl rfl (Nat.le_of_ble_eq_true rfl) dJ6_rotateLeft_87 rfl (fun H6 locs6 hW6 => ?_)
  clear hW5
  refine lv_aload_n C.hx C.hb dJ6_rotateLeft_90 rfl (lv_at hl1 2 rfl) ?_
  refine lv_aload_n C.hx C.hb dJ6_rotateLeft_91 rfl (lv_at hl1 0 rfl) ?_
  refine k_put (S' := [[(t, .inr (13, [.null, .null, .null, vr rt, .int (nI n), .int md, .null, .null, .null]))], [(a0, .inr (20, [.ref ka, .ref va0, vr x1, .ref m0, .ref b0, .int (nI (tcol c1))]))], [(b0, .inr (20, [.ref kb, .ref vb0, .ref a0, vr x2, .ref g0, .int (nI (tcol c2))]))], [(m0, .inr (20, [.ref km, .ref vm, vr y1, vr y2, .ref a0, .int (nI (tcol c3))]))], [(g0, .inr (20, [.ref kg, .ref vg, vr z1, .ref b0, vr z2, .int (nI (tcol c4))]))]]) C clJ31 hW6 1 0 rfl rfl 4 (Nat.le_of_ble_eq_true rfl) rfl q1823 rfl (fun _ h => h) (Or.inl rfl) (fty := (.object "java/util/TreeMap$Entry")) (v := .ref b0) (by decide +kernel) rfl rfl (Nat.le_of_ble_eq_true rfl) dJ6_rotateLeft_92 rfl (fun H7 locs7 hW7 => ?_)
  clear hW6
  exact k_vret C hW7 rfl ⟨rfl, rfl⟩ (Nat.le_refl _) (Nat.le_refl _) dJ6_rotateLeft_95

def Q_ctJ6_rotateRight_n0 (G : GT) (t a0 b0 m0 g0 ka va0 kb vb0 km vm kg vg n : Nat) (md : Int32) (rt x1 x2 y1 y2 z1 z2 : Option Nat) (c1 c2 c3 c4 : Bool) : Option Value → List va_W → Prop := fun v S1 => v = none ∧ S1 = [[(t, .inr (13, [.null, .null, .null, .ref b0, .int (nI n), .int md, .null, .null, .null]))], [(a0, .inr (20, [.ref ka, .ref va0, .null, vr x1, .ref b0, .int (nI (tcol c1))]))], [(b0, .inr (20, [.ref kb, .ref vb0, vr x2, .ref a0, .null, .int (nI (tcol c2))]))]]
set_option maxHeartbeats 4000000 in
set_option maxRecDepth 100000 in
theorem ctJ6_rotateRight_n0 (l : Launch) (G : GT) (t a0 b0 m0 g0 ka va0 kb vb0 km vm kg vg n : Nat) (md : Int32) (rt x1 x2 y1 y2 z1 z2 : Option Nat) (c1 c2 c3 c4 : Bool)  : Ct l G yJ6_rotateRight cJ6_rotateRight 3 none 0 0 0 0 [.ref t, .ref a0] ([[(t, .inr (13, [.null, .null, .null, .ref a0, .int (nI n), .int md, .null, .null, .null]))], [(a0, .inr (20, [.ref ka, .ref va0, .ref b0, vr x1, .null, .int (nI (tcol c1))]))], [(b0, .inr (20, [.ref kb, .ref vb0, vr x2, .null, .ref a0, .int (nI (tcol c2))]))]]) noR (Q_ctJ6_rotateRight_n0 G t a0 b0 m0 g0 ka va0 kb vb0 km vm kg vg n md rt x1 x2 y1 y2 z1 z2 c1 c2 c3 c4) := by
  refine Ct.of (by decide +kernel) (Nat.le_of_ble_eq_true rfl) ?_
  intro p e s m below meth c A ls C hW hRo hl
  have hl : lv_has ls 3 [(0, .ref t), (1, .ref a0)] := hl
  refine lv_aload_n C.hx C.hb dJ6_rotateRight_0 rfl (lv_at hl 1 rfl) ?_
  refine lv_ifnull C.hx C.hb dJ6_rotateRight_1 ?_
  refine lv_aload_n C.hx C.hb dJ6_rotateRight_4 rfl (lv_at hl 1 rfl) ?_
  refine k_get (v := .ref b0) C clJ31 (hW.get 1 0 rfl rfl) 2 (Nat.le_of_ble_eq_true rfl) rfl q1820 rfl rfl dJ6_rotateRight_5 ?_
  refine lv_astore_n (lv' := [(2, .ref b0), (0, .ref t), (1, .ref a0)]) C.hx C.hb dJ6_rotateRight_8 rfl hl (Nat.le_of_ble_eq_true rfl) rfl (fun ls1 hl1 => ?_)
  clear hl
  refine lv_aload_n C.hx C.hb dJ6_rotateRight_9 rfl (lv_at hl1 2 rfl) ?_
  refine lv_aload_n C.hx C.hb dJ6_rotateRight_10 rfl (lv_at hl1 0 rfl) ?_
  refine k_get (v := .null) C clJ31 (hW.get 2 0 rfl rfl) 3 (Nat.le_of_ble_eq_true rfl) rfl q1821 rfl rfl dJ6_rotateRight_11 ?_
  refine k_put (S' := [[(t, .inr (13, [.null, .null, .null, .ref a0, .int (nI n), .int md, .null, .null, .null]))], [(a0, .inr (20, [.ref ka, .ref va0, .null, vr x1, .null, .int (nI (tcol c1))]))], [(b0, .inr (20, [.ref kb, .ref vb0, vr x2, .null, .ref a0, .int (nI (tcol c2))]))]]) C clJ31 hW 1 0 rfl rfl 2 (Nat.le_of_ble_eq_true rfl) rfl q1820 rfl (fun _ h => h) (Or.inl rfl) (fty := (.object "java/util/TreeMap$Entry")) (v := .null) (by decide +kernel) rfl rfl (Nat.le_of_ble_eq_true rfl) dJ6_rotateRight_14 rfl (fun H2 locs2 hW2 => ?_)
  clear hW
  refine lv_aload_n C.hx C.hb dJ6_rotateRight_17 rfl (lv_at hl1 0 rfl) ?_
  refine k_get (v := .null) C clJ31 (hW2.get 2 0 rfl rfl) 3 (Nat.le_of_ble_eq_true rfl) rfl q1821 rfl rfl dJ6_rotateRight_18 ?_
  refine lv_ifnullN (tgt := 32) C.hx C.hb dJ6_rotateRight_21 (by decide) ?_
  refine lv_aload_n C.hx C.hb dJ6_rotateRight_32 rfl (lv_at hl1 0 rfl) ?_
  refine lv_aload_n C.hx C.hb dJ6_rotateRight_33 rfl (lv_at hl1 2 rfl) ?_
  refine k_get (v := .null) C clJ31 (hW2.get 1 0 rfl rfl) 4 (Nat.le_of_ble_eq_true rfl) rfl q1823 rfl rfl dJ6_rotateRight_34 ?_
  refine k_put (S' := [[(t, .inr (13, [.null, .null, .null, .ref a0, .int (nI n), .int md, .null, .null, .null]))], [(a0, .inr (20, [.ref ka, .ref va0, .null, vr x1, .null, .int (nI (tcol c1))]))], [(b0, .inr (20, [.ref kb, .ref vb0, vr x2, .null, .null, .int (nI (tcol c2))]))]]) C clJ31 hW2 2 0 rfl rfl 4 (Nat.le_of_ble_eq_true rfl) rfl q1823 rfl (fun _ h => h) (Or.inl rfl) (fty := (.object "java/util/TreeMap$Entry")) (v := .null) (by decide +kernel) rfl rfl (Nat.le_of_ble_eq_true rfl) dJ6_rotateRight_37 rfl (fun H3 locs3 hW3 => ?_)
  clear hW2
  refine lv_aload_n C.hx C.hb dJ6_rotateRight_40 rfl (lv_at hl1 2 rfl) ?_
  refine k_get (v := .null) C clJ31 (hW3.get 1 0 rfl rfl) 4 (Nat.le_of_ble_eq_true rfl) rfl q1823 rfl rfl dJ6_rotateRight_41 ?_
  refine lv_ifnonnullN C.hx C.hb dJ6_rotateRight_44 ?_
  refine lv_aload_n C.hx C.hb dJ6_rotateRight_47 rfl (lv_at hl1 1 rfl) ?_
  refine lv_aload_n C.hx C.hb dJ6_rotateRight_48 rfl (lv_at hl1 0 rfl) ?_
  refine k_put (S' := [[(t, .inr (13, [.null, .null, .null, .ref b0, .int (nI n), .int md, .null, .null, .null]))], [(a0, .inr (20, [.ref ka, .ref va0, .null, vr x1, .null, .int (nI (tcol c1))]))], [(b0, .inr (20, [.ref kb, .ref vb0, vr x2, .null, .null, .int (nI (tcol c2))]))]]) C clJ6 hW3 0 0 rfl rfl 3 (Nat.le_of_ble_eq_true rfl) rfl q226 rfl (fun _ h => h) (Or.inl rfl) (fty := (.object "java/util/TreeMap$Entry")) (v := .ref b0) (by decide +kernel) rfl rfl (Nat.le_of_ble_eq_true rfl) dJ6_rotateRight_49 rfl (fun H4 locs4 hW4 => ?_)
  clear hW3
  refine lv_goto (tgt := 85) C.hx C.hb dJ6_rotateRight_52 (by decide) ?_
  refine lv_aload_n C.hx C.hb dJ6_rotateRight_85 rfl (lv_at hl1 0 rfl) ?_
  refine lv_aload_n C.hx C.hb dJ6_rotateRight_86 rfl (lv_at hl1 2 rfl) ?_
  refine k_put (S' := [[(t, .inr (13, [.null, .null, .null, .ref b0, .int (nI n), .int md, .null, .null, .null]))], [(a0, .inr (20, [.ref ka, .ref va0, .null, vr x1, .null, .int (nI (tcol c1))]))], [(b0, .inr (20, [.ref kb, .ref vb0, vr x2, .ref a0, .null, .int (nI (tcol c2))]))]]) C clJ31 hW4 2 0 rfl rfl 3 (Nat.le_of_ble_eq_true rfl) rfl q1821 rfl (fun _ h => h) (Or.inl rfl) (fty := (.object "java/util/TreeMap$Entry")) (v := .ref a0) (by decide +kernel) rfl rfl (Nat.le_of_ble_eq_true rfl) dJ6_rotateRight_87 rfl (fun H5 locs5 hW5 => ?_)
  clear hW4
  refine lv_aload_n C.hx C.hb dJ6_rotateRight_90 rfl (lv_at hl1 2 rfl) ?_
  refine lv_aload_n C.hx C.hb dJ6_rotateRight_91 rfl (lv_at hl1 0 rfl) ?_
  refine k_put (S' := [[(t, .inr (13, [.null, .null, .null, .ref b0, .int (nI n), .int md, .null, .null, .null]))], [(a0, .inr (20, [.ref ka, .ref va0, .null, vr x1, .ref b0, .int (nI (tcol c1))]))], [(b0, .inr (20, [.ref kb, .ref vb0, vr x2, .ref a0, .null, .int (nI (tcol c2))]))]]) C clJ31 hW5 1 0 rfl rfl 4 (Nat.le_of_ble_eq_true rfl) rfl q1823 rfl (fun _ h => h) (Or.inl rfl) (fty := (.object "java/util/TreeMap$Entry")) (v := .ref b0) (by decide +kernel) rfl rfl (Nat.le_of_ble_eq_true rfl) dJ6_rotateRight_92 rfl (fun H6 locs6 hW6 => ?_)
  clear hW5
  exact k_vret C hW6 rfl ⟨rfl, rfl⟩ (Nat.le_refl _) (Nat.le_refl _) dJ6_rotateRight_95

def Q_ctJ6_rotateRight_n1 (G : GT) (t a0 b0 m0 g0 ka va0 kb vb0 km vm kg vg n : Nat) (md : Int32) (rt x1 x2 y1 y2 z1 z2 : Option Nat) (c1 c2 c3 c4 : Bool) : Option Value → List va_W → Prop := fun v S1 => v = none ∧ S1 = [[(t, .inr (13, [.null, .null, .null, .ref b0, .int (nI n), .int md, .null, .null, .null]))], [(a0, .inr (20, [.ref ka, .ref va0, .ref m0, vr x1, .ref b0, .int (nI (tcol c1))]))], [(b0, .inr (20, [.ref kb, .ref vb0, vr x2, .ref a0, .null, .int (nI (tcol c2))]))], [(m0, .inr (20, [.ref km, .ref vm, vr y1, vr y2, .ref a0, .int (nI (tcol c3))]))]]
set_option maxHeartbeats 4000000 in
set_option maxRecDepth 100000 in
theorem ctJ6_rotateRight_n1 (l : Launch) (G : GT) (t a0 b0 m0 g0 ka va0 kb vb0 km vm kg vg n : Nat) (md : Int32) (rt x1 x2 y1 y2 z1 z2 : Option Nat) (c1 c2 c3 c4 : Bool)  : Ct l G yJ6_rotateRight cJ6_rotateRight 3 none 0 0 0 0 [.ref t, .ref a0] ([[(t, .inr (13, [.null, .null, .null, .ref a0, .int (nI n), .int md, .null, .null, .null]))], [(a0, .inr (20, [.ref ka, .ref va0, .ref b0, vr x1, .null, .int (nI (tcol c1))]))], [(b0, .inr (20, [.ref kb, .ref vb0, vr x2, .ref m0, .ref a0, .int (nI (tcol c2))]))], [(m0, .inr (20, [.ref km, .ref vm, vr y1, vr y2, .ref b0, .int (nI (tcol c3))]))]]) noR (Q_ctJ6_rotateRight_n1 G t a0 b0 m0 g0 ka va0 kb vb0 km vm kg vg n md rt x1 x2 y1 y2 z1 z2 c1 c2 c3 c4) := by
  refine Ct.of (by decide +kernel) (Nat.le_of_ble_eq_true rfl) ?_
  intro p e s m below meth c A ls C hW hRo hl
  have hl : lv_has ls 3 [(0, .ref t), (1, .ref a0)] := hl
  refine lv_aload_n C.hx C.hb dJ6_rotateRight_0 rfl (lv_at hl 1 rfl) ?_
  refine lv_ifnull C.hx C.hb dJ6_rotateRight_1 ?_
  refine lv_aload_n C.hx C.hb dJ6_rotateRight_4 rfl (lv_at hl 1 rfl) ?_
  refine k_get (v := .ref b0) C clJ31 (hW.get 1 0 rfl rfl) 2 (Nat.le_of_ble_eq_true rfl) rfl q1820 rfl rfl dJ6_rotateRight_5 ?_
  refine lv_astore_n (lv' := [(2, .ref b0), (0, .ref t), (1, .ref a0)]) C.hx C.hb dJ6_rotateRight_8 rfl hl (Nat.le_of_ble_eq_true rfl) rfl (fun ls1 hl1 => ?_)
  clear hl
  refine lv_aload_n C.hx C.hb dJ6_rotateRight_9 rfl (lv_at hl1 2 rfl) ?_
  refine lv_aload_n C.hx C.hb dJ6_rotateRight_10 rfl (lv_at hl1 0 rfl) ?_
  refine k_get (v := .ref m0) C clJ31 (hW.get 2 0 rfl rfl) 3 (Nat.le_of_ble_eq_true rfl) rfl q1821 rfl rfl dJ6_rotateRight_11 ?_
  refine k_put (S' := [[(t, .inr (13, [.null, .null, .null, .ref a0, .int (nI n), .int md, .null, .null, .null]))], [(a0, .inr (20, [.ref ka, .ref va0, .ref m0, vr x1, .null, .int (nI (tcol c1))]))], [(b0, .inr (20, [.ref kb, .ref vb0, vr x2, .ref m0, .ref a0, .int (nI (tcol c2))]))], [(m0, .inr (20, [.ref km, .ref vm, vr y1, vr y2, .ref b0, .int (nI (tcol c3))]))]]) C clJ31 hW 1 0 rfl rfl 2 (Nat.le_of_ble_eq_true rfl) rfl q1820 rfl (fun _ h => h) (Or.inl rfl) (fty := (.object "java/util/TreeMap$Entry")) (v := .ref m0) (by decide +kernel) rfl rfl (Nat.le_of_ble_eq_true rfl) dJ6_rotateRight_14 rfl (fun H2 locs2 hW2 => ?_)
  clear hW
  refine lv_aload_n C.hx C.hb dJ6_rotateRight_17 rfl (lv_at hl1 0 rfl) ?_
  refine k_get (v := .ref m0) C clJ31 (hW2.get 2 0 rfl rfl) 3 (Nat.le_of_ble_eq_true rfl) rfl q1821 rfl rfl dJ6_rotateRight_18 ?_
  refine lv_ifnull C.hx C.hb dJ6_rotateRight_21 ?_
  refine lv_aload_n C.hx C.hb dJ6_rotateRight_24 rfl (lv_at hl1 0 rfl) ?_
  refine k_get (v := .ref m0) C clJ31 (hW2.get 2 0 rfl rfl) 3 (Nat.le_of_ble_eq_true rfl) rfl q1821 rfl rfl dJ6_rotateRight_25 ?_
  refine lv_aload_n C.hx C.hb dJ6_rotateRight_28 rfl (lv_at hl1 2 rfl) ?_
  refine k_put (S' := [[(t, .inr (13, [.null, .null, .null, .ref a0, .int (nI n), .int md, .null, .null, .null]))], [(a0, .inr (20, [.ref ka, .ref va0, .ref m0, vr x1, .null, .int (nI (tcol c1))]))], [(b0, .inr (20, [.ref kb, .ref vb0, vr x2, .ref m0, .ref a0, .int (nI (tcol c2))]))], [(m0, .inr (20, [.ref km, .ref vm, vr y1, vr y2, .ref a0, .int (nI (tcol c3))]))]]) C clJ31 hW2 3 0 rfl rfl 4 (Nat.le_of_ble_eq_true rfl) rfl q1823 rfl (fun _ h => h) (Or.inl rfl) (fty := (.object "java/util/TreeMap$Entry")) (v := .ref a0) (by decide +kernel) rfl rfl (Nat.le_of_ble_eq_true rfl) dJ6_rotateRight_29 rfl (fun H3 locs3 hW3 => ?_)
  clear hW2
  refine lv_aload_n C.hx C.hb dJ6_rotateRight_32 rfl (lv_at hl1 0 rfl) ?_
  refine lv_aload_n C.hx C.hb dJ6_rotateRight_33 rfl (lv_at hl1 2 rfl) ?_
  refine k_get (v := .null) C clJ31 (hW3.get 1 0 rfl rfl) 4 (Nat.le_of_ble_eq_true rfl) rfl q1823 rfl rfl dJ6_rotateRight_34 ?_
  refine k_put (S' := [[(t, .inr (13, [.null, .null, .null, .ref a0, .int (nI n), .int md, .null, .null, .null]))], [(a0, .inr (20, [.ref ka, .ref va0, .ref m0, vr x1, .null, .int (nI (tcol c1))]))], [(b0, .inr (20, [.ref kb, .ref vb0, vr x2, .ref m0, .null, .int (nI (tcol c2))]))], [(m0, .inr (20, [.ref km, .ref vm, vr y1, vr y2, .ref a0, .int (nI (tcol c3))]))]]) C clJ31 hW3 2 0 rfl rfl 4 (Nat.le_of_ble_eq_true rfl) rfl q1823 rfl (fun _ h => h) (Or.inl rfl) (fty := (.object "java/util/TreeMap$Entry")) (v := .null) (by decide +kernel) rfl rfl (Nat.le_of_ble_eq_true rfl) dJ6_rotateRight_37 rfl (fun H4 locs4 hW4 => ?_)
  clear hW3
  refine lv_aload_n C.hx C.hb dJ6_rotateRight_40 rfl (lv_at hl1 2 rfl) ?_
  refine k_get (v := .null) C clJ31 (hW4.get 1 0 rfl rfl) 4 (Nat.le_of_ble_eq_true rfl) rfl q1823 rfl rfl dJ6_rotateRight_41 ?_
  refine lv_ifnonnullN C.hx C.hb dJ6_rotateRight_44 ?_
  refine lv_aload_n C.hx C.hb dJ6_rotateRight_47 rfl (lv_at hl1 1 rfl) ?_
  refine lv_aload_n C.hx C.hb dJ6_rotateRight_48 rfl (lv_at hl1 0 rfl) ?_
  refine k_put (S' := [[(t, .inr (13, [.null, .null, .null, .ref b0, .int (nI n), .int md, .null, .null, .null]))], [(a0, .inr (20, [.ref ka, .ref va0, .ref m0, vr x1, .null, .int (nI (tcol c1))]))], [(b0, .inr (20, [.ref kb, .ref vb0, vr x2, .ref m0, .null, .int (nI (tcol c2))]))], [(m0, .inr (20, [.ref km, .ref vm, vr y1, vr y2, .ref a0, .int (nI (tcol c3))]))]]) C clJ6 hW4 0 0 rfl rfl 3 (Nat.le_of_ble_eq_true rfl) rfl q226 rfl (fun _ h => h) (Or.inl rfl) (fty := (.object "java/util/TreeMap$Entry")) (v := .ref b0) (by decide +kernel) rfl rfl (Nat.le_of_ble_eq_true rfl) dJ6_rotateRight_49 rfl (fun H5 locs5 hW5 => ?_)
  clear hW4
  refine lv_goto (tgt := 85) C.hx C.hb dJ6_rotateRight_52 (by decide) ?_
  refine lv_aload_n C.hx C.hb dJ6_rotateRight_85 rfl (lv_at hl1 0 rfl) ?_
  refine lv_aload_n C.hx C.hb dJ6_rotateRight_86 rfl (lv_at hl1 2 rfl) ?_
  refine k_put (S' := [[(t, .inr (13, [.null, .null, .null, .ref b0, .int (nI n), .int md, .null, .null, .null]))], [(a0, .inr (20, [.ref ka, .ref va0, .ref m0, vr x1, .null, .int (nI (tcol c1))]))], [(b0, .inr (20, [.ref kb, .ref vb0, vr x2, .ref a0, .null, .int (nI (tcol c2))]))], [(m0, .inr (20, [.ref km, .ref vm, vr y1, vr y2, .ref a0, .int (nI (tcol c3))]))]]) C clJ31 hW5 2 0 rfl rfl 3 (Nat.le_of_ble_eq_true rfl) rfl q1821 rfl (fun _ h => h) (Or.inl rfl) (fty := (.object "java/util/TreeMap$Entry")) (v := .ref a0) (by decide +kernel) rfl rfl (Nat.le_of_ble_eq_true rfl) dJ6_rotateRight_87 rfl (fun H6 locs6 hW6 => ?_)
  clear hW5
  refine lv_aload_n C.hx C.hb dJ6_rotateRight_90 rfl (lv_at hl1 2 rfl) ?_
  refine lv_aload_n C.hx C.hb dJ6_rotateRight_91 rfl (lv_at hl1 0 rfl) ?_
  refine k_put (S' := [[(t, .inr (13, [.null, .null, .null, .ref b0, .int (nI n), .int md, .null, .null, .null]))], [(a0, .inr (20, [.ref ka, .ref va0, .ref m0, vr x1, .ref b0, .int (nI (tcol c1))]))], [(b0, .inr (20, [.ref kb, .ref vb0, vr x2, .ref a0, .null, .int (nI (tcol c2))]))], [(m0, .inr (20, [.ref km, .ref vm, vr y1, vr y2, .ref a0, .int (nI (tcol c3))]))]]) C clJ31 hW6 1 0 rfl rfl 4 (Nat.le_of_ble_eq_true rfl) rfl q1823 rfl (fun _ h => h) (Or.inl rfl) (fty := (.object "java/util/TreeMap$Entry")) (v := .ref b0) (by decide +kernel) rfl rfl (Nat.le_of_ble_eq_true rfl) dJ6_rotateRight_92 rfl (fun H7 locs7 hW7 => ?_)
  clear hW6
  exact k_vret C hW7 rfl ⟨rfl, rfl⟩ (Nat.le_refl _) (Nat.le_refl _) dJ6_rotateRight_95

def Q_ctJ6_rotateRight_l0 (G : GT) (t a0 b0 m0 g0 ka va0 kb vb0 km vm kg vg n : Nat) (md : Int32) (rt x1 x2 y1 y2 z1 z2 : Option Nat) (c1 c2 c3 c4 : Bool) : Option Value → List va_W → Prop := fun v S1 => v = none ∧ S1 = [[(t, .inr (13, [.null, .null, .null, vr rt, .int (nI n), .int md, .null, .null, .null]))], [(a0, .inr (20, [.ref ka, .ref va0, .null, vr x1, .ref b0, .int (nI (tcol c1))]))], [(b0, .inr (20, [.ref kb, .ref vb0, vr x2, .ref a0, .ref g0, .int (nI (tcol c2))]))], [(g0, .inr (20, [.ref kg, .ref vg, .ref b0, vr z1, vr z2, .int (nI (tcol c4))]))]]
set_option maxHeartbeats 4000000 in
set_option maxRecDepth 100000 in
theorem ctJ6_rotateRight_l0 (l : Launch) (G : GT) (t a0 b0 m0 g0 ka va0 kb vb0 km vm kg vg n : Nat) (md : Int32) (rt x1 x2 y1 y2 z1 z2 : Option Nat) (c1 c2 c3 c4 : Bool) (hz : z1 ≠ some a0) : Ct l G yJ6_rotateRight cJ6_rotateRight 3 none 0 0 0 0 [.ref t, .ref a0] ([[(t, .inr (13, [.null, .null, .null, vr rt, .int (nI n), .int md, .null, .null, .null]))], [(a0, .inr (20, [.ref ka, .ref va0, .ref b0, vr x1, .ref g0, .int (nI (tcol c1))]))], [(b0, .inr (20, [.ref kb, .ref vb0, vr x2, .null, .ref a0, .int (nI (tcol c2))]))], [(g0, .inr (20, [.ref kg, .ref vg, .ref a0, vr z1, vr z2, .int (nI (tcol c4))]))]]) noR (Q_ctJ6_rotateRight_l0 G t a0 b0 m0 g0 ka va0 kb vb0 km vm kg vg n md rt x1 x2 y1 y2 z1 z2 c1 c2 c3 c4) := by
  refine Ct.of (by decide +kernel) (Nat.le_of_ble_eq_true rfl) ?_
  intro p e s m below meth c A ls C hW hRo hl
  have hl : lv_has ls 3 [(0, .ref t), (1, .ref a0)] := hl
  refine lv_aload_n C.hx C.hb dJ6_rotateRight_0 rfl (lv_at hl 1 rfl) ?_
  refine lv_ifnull C.hx C.hb dJ6_rotateRight_1 ?_
  refine lv_aload_n C.hx C.hb dJ6_rotateRight_4 rfl (lv_at hl 1 rfl) ?_
  refine k_get (v := .ref b0) C clJ31 (hW.get 1 0 rfl rfl) 2 (Nat.le_of_ble_eq_true rfl) rfl q1820 rfl rfl dJ6_rotateRight_5 ?_
  refine lv_astore_n (lv' := [(2, .ref b0), (0, .ref t), (1, .ref a0)]) C.hx C.hb dJ6_rotateRight_8 rfl hl (Nat.le_of_ble_eq_true rfl) rfl (fun ls1 hl1 => ?_)
  clear hl
  refine lv_aload_n C.hx C.hb dJ6_rotateRight_9 rfl (lv_at hl1 2 rfl) ?_
  refine lv_aload_n C.hx C.hb dJ6_rotateRight_10 rfl (lv_at hl1 0 rfl) ?_
  refine k_get (v := .null) C clJ31 (hW.get 2 0 rfl rfl) 3 (Nat.le_of_ble_eq_true rfl) rfl q1821 rfl rfl dJ6_rotateRight_11 ?_
  refine k_put (S' := [[(t, .inr (13, [.null, .null, .null, vr rt, .int (nI n), .int md, .null, .null, .null]))], [(a0, .inr (20, [.ref ka, .ref va0, .null, vr x1, .ref g0, .int (nI (tcol c1))]))], [(b0, .inr (20, [.ref kb, .ref vb0, vr x2, .null, .ref a0, .int (nI (tcol c2))]))], [(g0, .inr (20, [.ref kg, .ref vg, .ref a0, vr z1, vr z2, .int (nI (tcol c4))]))]]) C clJ31 hW 1 0 rfl rfl 2 (Nat.le_of_ble_eq_true rfl) rfl q1820 rfl (fun _ h => h) (Or.inl rfl) (fty := (.object "java/util/TreeMap$Entry")) (v := .null) (by decide +kernel) rfl rfl (Nat.le_of_ble_eq_true rfl) dJ6_rotateRight_14 rfl (fun H2 locs2 hW2 => ?_)
  clear hW
  refine lv_aload_n C.hx C.hb dJ6_rotateRight_17 rfl (lv_at hl1 0 rfl) ?_
  refine k_get (v := .null) C clJ31 (hW2.get 2 0 rfl rfl) 3 (Nat.le_of_ble_eq_true rfl) rfl q1821 rfl rfl dJ6_rotateRight_18 ?_
  refine lv_ifnullN (tgt := 32) C.hx C.hb dJ6_rotateRight_21 (by decide) ?_
  refine lv_aload_n C.hx C.hb dJ6_rotateRight_32 rfl (lv_at hl1 0 rfl) ?_
  refine lv_aload_n C.hx C.hb dJ6_rotateRight_33 rfl (lv_at hl1 2 rfl) ?_
  refine k_get (v := .ref g0) C clJ31 (hW2.get 1 0 rfl rfl) 4 (Nat.le_of_ble_eq_true rfl) rfl q1823 rfl rfl dJ6_rotateRight_34 ?_
  refine k_put (S' := [[(t, .inr (13, [.null, .null, .null, vr rt, .int (nI n), .int md, .null, .null, .null]))], [(a0, .inr (20, [.ref ka, .ref va0, .null, vr x1, .ref g0, .int (nI (tcol c1))]))], [(b0, .inr (20, [.ref kb, .ref vb0, vr x2, .null, .ref g0, .int (nI (tcol c2))]))], [(g0, .inr (20, [.ref kg, .ref vg, .ref a0, vr z1, vr z2, .int (nI (tcol c4))]))]]) C clJ31 hW2 2 0 rfl rfl 4 (Nat.le_of_ble_eq_true rfl) rfl q1823 rfl (fun _ h => h) (Or.inl rfl) (fty := (.object "java/util/TreeMap$Entry")) (v := .ref g0) (by decide +kernel) rfl rfl (Nat.le_of_ble_eq_true rfl) dJ6_rotateRight_37 rfl (fun H3 locs3 hW3 => ?_)
  clear hW2
  refine lv_aload_n C.hx C.hb dJ6_rotateRight_40 rfl (lv_at hl1 2 rfl) ?_
  refine k_get (v := .ref g0) C clJ31 (hW3.get 1 0 rfl rfl) 4 (Nat.le_of_ble_eq_true rfl) rfl q1823 rfl rfl dJ6_rotateRight_41 ?_
  refine lv_ifnonnull (tgt := 55) C.hx C.hb dJ6_rotateRight_44 (by decide) ?_
  refine lv_aload_n C.hx C.hb dJ6_rotateRight_55 rfl (lv_at hl1 2 rfl) ?_
  refine k_get (v := .ref g0) C clJ31 (hW3.get 1 0 rfl rfl) 4 (Nat.le_of_ble_eq_true rfl) rfl q1823 rfl rfl dJ6_rotateRight_56 ?_
  refine k_get (v := vr z1) C clJ31 (hW3.get 3 0 rfl rfl) 3 (Nat.le_of_ble_eq_true rfl) rfl q1821 rfl rfl dJ6_rotateRight_59 ?_
  refine lv_aload_n C.hx C.hb dJ6_rotateRight_62 rfl (lv_at hl1 2 rfl) ?_
  refine lv_acmp_ne (rx := z1) (ry := (some a0)) (tgt := 77) C.hx C.hb dJ6_rotateRight_63 (by decide) (fun c63 => ?_) (fun c63 => (absurd c63 hz))
  refine lv_aload_n C.hx C.hb dJ6_rotateRight_77 rfl (lv_at hl1 2 rfl) ?_
  refine k_get (v := .ref g0) C clJ31 (hW3.get 1 0 rfl rfl) 4 (Nat.le_of_ble_eq_true rfl) rfl q1823 rfl rfl dJ6_rotateRight_78 ?_
  refine lv_aload_n C.hx C.hb dJ6_rotateRight_81 rfl (lv_at hl1 0 rfl) ?_
  refine k_put (S' := [[(t, .inr (13, [.null, .null, .null, vr rt, .int (nI n), .int md, .null, .null, .null]))], [(a0, .inr (20, [.ref ka, .ref va0, .null, vr x1, .ref g0, .int (nI (tcol c1))]))], [(b0, .inr (20, [.ref kb, .ref vb0, vr x2, .null, .ref g0, .int (nI (tcol c2))]))], [(g0, .inr (20, [.ref kg, .ref vg, .ref b0, vr z1, vr z2, .int (nI (tcol c4))]))]]) C clJ31 hW3 3 0 rfl rfl 2 (Nat.le_of_ble_eq_true rfl) rfl q1820 rfl (fun _ h => h) (Or.inl rfl) (fty := (.object "java/util/TreeMap$Entry")) (v := .ref b0) (by decide +kernel) rfl rfl (Nat.le_of_ble_eq_true rfl) dJ6_rotateRight_82 rfl (fun H4 locs4 hW4 => ?_)
  clear hW3
  refine lv_aload_n C.hx C.hb dJ6_rotateRight_85 rfl (lv_at hl1 0 rfl) ?_
  refine lv_aload_n C.hx C.hb dJ6_rotateRight_86 rfl (lv_at hl1 2 rfl) ?_
  refine k_put (S' := [[(t, .inr (13, [.null, .null, .null, vr rt, .int (nI n), .int md, .null, .null, .null]))], [(a0, .inr (20, [.ref ka, .ref va0, .null, vr x1, .ref g0, .int (nI (tcol c1))]))], [(b0, .inr (20, [.ref kb, .ref vb0, vr x2, .ref a0, .ref g0, .int (nI (tcol c2))]))], [(g0, .inr (20, [.ref kg, .ref vg, .ref b0, vr z1, vr z2, .int (nI (tcol c4))]))]]) C clJ31 hW4 2 0 rfl rfl 3 (Nat.le_of_ble_eq_true rfl) rfl q1821 rfl (fun _ h => h) (Or.inl rfl) (fty := (.object "java/util/TreeMap$Entry")) (v := .ref a0) (by decide +kernel) rfl rfl (Nat.le_of_ble_eq_true rfl) dJ6_rotateRight_87 rfl (fun H5 locs5 hW5 => ?_)
  clear hW4
  refine lv_aload_n C.hx C.hb dJ6_rotateRight_90 rfl (lv_at hl1 2 rfl) ?_
  refine lv_aload_n C.hx C.hb dJ6_rotateRight_91 rfl (lv_at hl1 0 rfl) ?_
  refine k_put (S' := [[(t, .inr (13, [.null, .null, .null, vr rt, .int (nI n), .int md, .null, .null, .null]))], [(a0, .inr (20, [.ref ka, .ref va0, .null, vr x1, .ref b0, .int (nI (tcol c1))]))], [(b0, .inr (20, [.ref kb, .ref vb0, vr x2, .ref a0, .ref g0, .int (nI (tcol c2))]))], [(g0, .inr (20, [.ref kg, .ref vg, .ref b0, vr z1, vr z2, .int (nI (tcol c4))]))]]) C clJ31 hW5 1 0 rfl rfl 4 (Nat.le_of_ble_eq_true rfl) rfl q1823 rfl (fun _ h => h) (Or.inl rfl) (fty := (.object "java/util/TreeMap$Entry")) (v := .ref b0) (by decide +kernel) rfl rfl (Nat.le_of_ble_eq_true rfl) dJ6_rotateRight_92 rfl (fun H6 locs6 hW6 => ?_)
  clear hW5
  exact k_vret C hW6 rfl ⟨rfl, rfl⟩ (Nat.le_refl _) (Nat.le_refl _) dJ6_rotateRight_95

def Q_ctJ6_rotateRight_l1 (G : GT) (t a0 b0 m0 g0 ka va0 kb vb0 km vm kg vg n : Nat) (md : Int32) (rt x1 x2 y1 y2 z1 z2 : Option Nat) (c1 c2 c3 c4 : Bool) : Option Value → List va_W → Prop := fun v S1 => v = none ∧ S1 = [[(t, .inr (13, [.null, .null, .null, vr rt, .int (nI n), .int md, .null, .null, .null]))], [(a0, .inr (20, [.ref ka, .ref va0, .ref m0, vr x1, .ref b0, .int (nI (tcol c1))]))], [(b0, .inr (20, [.ref kb, .ref vb0, vr x2, .ref a0, .ref g0, .int (nI (tcol c2))]))], [(m0, .inr (20, [.ref km, .ref vm, vr y1, vr y2, .ref a0, .int (nI (tcol c3))]))], [(g0, .inr (20, [.ref kg, .ref vg, .ref b0, vr z1, vr z2, .int (nI (tcol c4))]))]]
set_option maxHeartbeats 4000000 in
set_option maxRecDepth 100000 in
theorem ctJ6_rotateRight_l1 (l : Launch) (G : GT) (t a0 b0 m0 g0 ka va0 kb vb0 km vm kg vg n : Nat) (md : Int32) (rt x1 x2 y1 y2 z1 z2 : Option Nat) (c1 c2 c3 c4 : Bool) (hz : z1 ≠ some a0) : Ct l G yJ6_rotateRight cJ6_rotateRight 3 none 0 0 0 0 [.ref t, .ref a0] ([[(t, .inr (13, [.null, .null, .null, vr rt, .int (nI n), .int md, .null, .null, .null]))], [(a0, .inr (20, [.ref ka, .ref va0, .ref b0, vr x1, .ref g0, .int (nI (tcol c1))]))], [(b0, .inr (20, [.ref kb, .ref vb0, vr x2, .ref m0, .ref a0, .int (nI (tcol c2))]))], [(m0, .inr (20, [.ref km, .ref vm, vr y1, vr y2, .ref b0, .int (nI (tcol c3))]))], [(g0, .inr (20, [.ref kg, .ref vg, .ref a0, vr z1, vr z2, .int (nI (tcol c4))]))]]) noR (Q_ctJ6_rotateRight_l1 G t a0 b0 m0 g0 ka va0 kb vb0 km vm kg vg n md rt x1 x2 y1 y2 z1 z2 c1 c2 c3 c4) := by
  refine Ct.of (by decide +kernel) (Nat.le_of_ble_eq_true rfl) ?_
  intro p e s m below meth c A ls C hW hRo hl
  have hl : lv_has ls 3 [(0, .ref t), (1, .ref a0)] := hl
  refine lv_aload_n C.hx C.hb dJ6_rotateRight_0 rfl (lv_at hl 1 rfl) ?_
  refine lv_ifnull C.hx C.hb dJ6_rotateRight_1 ?_
  refine lv_aload_n C.hx C.hb dJ6_rotateRight_4 rfl (lv_at hl 1 rfl) ?_
  refine k_get (v := .ref b0) C clJ31 (hW.get 1 0 rfl rfl) 2 (Nat.le_of_ble_eq_true rfl) rfl q1820 rfl rfl dJ6_rotateRight_5 ?_
  refine lv_astore_n (lv' := [(2, .ref b0), (0, .ref t), (1, .ref a0)]) C.hx C.hb dJ6_rotateRight_8 rfl hl (Nat.le_of_ble_eq_true rfl) rfl (fun ls1 hl1 => ?_)
  clear hl
  refine lv_aload_n C.hx C.hb dJ6_rotateRight_9 rfl (lv_at hl1 2 rfl) ?_
  refine lv_aload_n C.hx C.hb dJ6_rotateRight_10 rfl (lv_at hl1 0 rfl) ?_
  refine k_get (v := .ref m0) C clJ31 (hW.get 2 0 rfl rfl) 3 (Nat.le_of_ble_eq_true rfl) rfl q1821 rfl rfl dJ6_rotateRight_11 ?_
  refine k_put (S' := [[(t, .inr (13, [.null, .null, .null, vr rt, .int (nI n), .int md, .null, .null, .null]))], [(a0, .inr (20, [.ref ka, .ref va0, .ref m0, vr x1, .ref g0, .int (nI (tcol c1))]))], [(b0, .inr (20, [.ref kb, .ref vb0, vr x2, .ref m0, .ref a0, .int (nI (tcol c2))]))], [(m0, .inr (20, [.ref km, .ref vm, vr y1, vr y2, .ref b0, .int (nI (tcol c3))]))], [(g0, .inr (20, [.ref kg, .ref vg, .ref a0, vr z1, vr z2, .int (nI (tcol c4))]))]]) C clJ31 hW 1 0 rfl rfl 2 (Nat.le_of_ble_eq_true rfl) rfl q1820 rfl (fun _ h => h) (Or.inl rfl) (fty := (.object "java/util/TreeMap$Entry")) (v := .ref m0) (by decide +kernel) rfl rfl (Nat.le_of_ble_eq_true rfl) dJ6_rotateRight_14 rfl (fun H2 locs2 hW2 => ?_)
  clear hW
  refine lv_aload_n C.hx C.hb dJ6_rotateRight_17 rfl (lv_at hl1 0 rfl) ?_
  refine k_get (v := .ref m0) C clJ31 (hW2.get 2 0 rfl rfl) 3 (Nat.le_of_ble_eq_true rfl) rfl q1821 rfl rfl dJ6_rotateRight_18 ?_
  refine lv_ifnull C.hx C.hb dJ6_rotateRight_21 ?_
  refine lv_aload_n C.hx C.hb dJ6_rotateRight_24 rfl (lv_at hl1 0 rfl) ?_
  refine k_get (v := .ref m0) C clJ31 (hW2.get 2 0 rfl rfl) 3 (Nat.le_of_ble_eq_true rfl) rfl q1821 rfl rfl dJ6_rotateRight_25 ?_
  refine lv_aload_n C.hx C.hb dJ6_rotateRight_28 rfl (lv_at hl1 2 rfl) ?_
  refine k_put (S' := [[(t, .inr (13, [.null, .null, .null, vr rt, .int (nI n), .int md, .null, .null, .null]))], [(a0, .inr (20, [.ref ka, .ref va0, .ref m0, vr x1, .ref g0, .int (nI (tcol c1))]))], [(b0, .inr (20, [.ref kb, .ref vb0, vr x2, .ref m0, .ref a0, .int (nI (tcol c2))]))], [(m0, .inr (20, [.ref km, .ref vm, vr y1, vr y2, .ref a0, .int (nI (tcol c3))]))], [(g0, .inr (20, [.ref kg, .ref vg, .ref a0, vr z1, vr z2, .int (nI (tcol c4))]))]]) C clJ31 hW2 3 0 rfl rfl 4 (Nat.le_of_ble_eq_true rfl) rfl q1823 rfl (fun _ h => h) (Or.inl rfl) (fty := (.object "java/util/TreeMap$Entry")) (v := .ref a0) (by decide +kernel) rfl rfl (Nat.le_of_ble_eq_true rfl) dJ6_rotateRight_29 rfl (fun H3 locs3 hW3 => ?_)
  clear hW2
  refine lv_aload_n C.hx C.hb dJ6_rotateRight_32 rfl (lv_at hl1 0 rfl) ?_
  refine lv_aload_n C.hx C.hb dJ6_rotateRight_33 rfl (lv_at hl1 2 rfl) ?_
  refine k_get (v := .ref g0) C clJ31 (hW3.get 1 0 rfl rfl) 4 (Nat.le_of_ble_eq_true rfl) rfl q1823 rfl rfl dJ6_rotateRight_34 ?_
  refine k_put (S' := [[(t, .inr (13, [.null, .null, .null, vr rt, .int (nI n), .int md, .null, .null, .null]))], [(a0, .inr (20, [.ref ka, .ref va0, .ref m0, vr x1, .ref g0, .int (nI (tcol c1))]))], [(b0, .inr (20, [.ref kb, .ref vb0, vr x2, .ref m0, .ref g0, .int (nI (tcol c2))]))], [(m0, .inr (20, [.ref km, .ref vm, vr y1, vr y2, .ref a0, .int (nI (tcol c3))]))], [(g0, .inr (20, [.ref kg, .ref vg, .ref a0, vr z1, vr z2, .int (nI (tcol c4))]))]]) C clJ31 hW3 2 0 rfl rfl 4 (Nat.le_of_ble_eq_true rfl) rfl q1823 rfl (fun _ h => h) (Or.inl rfl) (fty := (.object "java/util/TreeMap$Entry")) (v := .ref g0) (by decide +kernel) rfl rfl (Nat.le_of_ble_eq_true rfl) dJ6_rotateRight_37 rfl (fun H4 locs4 hW4 => ?_)
  clear hW3
  refine lv_aload_n C.hx C.hb dJ6_rotateRight_40 rfl (lv_at hl1 2 rfl) ?_
  refine k_get (v := .ref g0) C clJ31 (hW4.get 1 0 rfl rfl) 4 (Nat.le_of_ble_eq_true rfl) rfl q1823 rfl rfl dJ6_rotateRight_41 ?_
  refine lv_ifnonnull (tgt := 55) C.hx C.hb dJ6_rotateRight_44 (by decide) ?_
  refine lv_aload_n C.hx C.hb dJ6_rotateRight_55 rfl (lv_at hl1 2 rfl) ?_
  refine k_get (v := .ref g0) C clJ31 (hW4.get 1 0 rfl rfl) 4 (Nat.le_of_ble_eq_true rfl) rfl q1823 rfl rfl dJ6_rotateRight_56 ?_
  refine k_get (v := vr z1) C clJ31 (hW4.get 4 0 rfl rfl) 3 (Nat.le_of_ble_eq_true rfl) rfl q1821 rfl rfl dJ6_rotateRight_59 ?_
  refine lv_aload_n C.hx C.hb dJ6_rotateRight_62 rfl (lv_at hl1 2 rfl) ?_
  refine lv_acmp_ne (rx := z1) (ry := (some a0)) (tgt := 77) C.hx C.hb dJ6_rotateRight_63 (by decide) (fun c63 => ?_) (fun c63 => (absurd c63 hz))
  refine lv_aload_n C.hx C.hb dJ6_rotateRight_77 rfl (lv_at hl1 2 rfl) ?_
  refine k_get (v := .ref g0) C clJ31 (hW4.get 1 0 rfl rfl) 4 (Nat.le_of_ble_eq_true rfl) rfl q1823 rfl rfl dJ6_rotateRight_78 ?_
  refine lv_aload_n C.hx C.hb dJ6_rotateRight_81 rfl (lv_at hl1 0 rfl) ?_
  refine k_put (S' := [[(t, .inr (13, [.null, .null, .null, vr rt, .int (nI n), .int md, .null, .null, .null]))], [(a0, .inr (20, [.ref ka, .ref va0, .ref m0, vr x1, .ref g0, .int (nI (tcol c1))]))], [(b0, .inr (20, [.ref kb, .ref vb0, vr x2, .ref m0, .ref g0, .int (nI (tcol c2))]))], [(m0, .inr (20, [.ref km, .ref vm, vr y1, vr y2, .ref a0, .int (nI (tcol c3))]))], [(g0, .inr (20, [.ref kg, .ref vg, .ref b0, vr z1, vr z2, .int (nI (tcol c4))]))]]) C clJ31 hW4 4 0 rfl rfl 2 (Nat.le_of_ble_eq_true rfl) rfl q1820 rfl (fun _ h => h) (Or.inl rfl) (fty := (.object "java/util/TreeMap$Entry")) (v := .ref b0) (by decide +kernel) rfl rfl (Nat.le_of_ble_eq_true rfl) dJ6_rotateRight_82 rfl (fun H5 locs5 hW5 => ?_)
  clear hW4
  refine lv_aload_n C.hx C.hb dJ6_rotateRight_85 rfl (lv_at hl1 0 rfl) ?_
  refine lv_aload_n C.hx C.hb dJ6_rotateRight_86 rfl (lv_at hl1 2 rfl) ?_
  refine k_put (S' := [[(t, .inr (13, [.null, .null, .null, vr rt, .int (nI n), .int md, .null, .null, .null]))], [(a0, .inr (20, [.ref ka, .ref va0, .ref m0, vr x1, .ref g0, .int (nI (tcol c1))]))], [(b0, .inr (20, [.ref kb, .ref vb0, vr x2, .ref a0, .ref g0, .int (nI (tcol c2))]))], [(m0, .inr (20, [.ref km, .ref vm, vr y1, vr y2, .ref a0, .int (nI (tcol c3))]))], [(g0, .inr (20, [.ref kg, .ref vg, .ref b0, vr z1, vr z2, .int (nI (tcol c4))]))]]) C clJ31 hW5 2 0 rfl rfl 3 (Nat.le_of_ble_eq_true rfl) rfl q1821 rfl (fun _ h => h) (Or.inl rfl) (fty := (.object "java/util/TreeMap$Entry")) (v := .ref a0) (by decide +kernel) rfl rfl (Nat.le_of_ble_eq_true rfl) dJ6_rotateRight_87 rfl (fun H6 locs6 hW6 => ?_)
  clear hW5
  refine lv_aload_n C.hx C.hb dJ6_rotateRight_90 rfl (lv_at hl1 2 rfl) ?_
  refine lv_aload_n C.hx C.hb dJ6_rotateRight_91 rfl (lv_at hl1 0 rfl) ?_
  refine k_put (S' := [[(t, .inr (13, [.null, .null, .null, vr rt, .int (nI n), .int md, .null, .null, .null]))], [(a0, .inr (20, [.ref ka, .ref va0, .ref m0, vr x1, .ref b0, .int (nI (tcol c1))]))], [(b0, .inr (20, [.ref kb, .ref vb0, vr x2, .ref a0, .ref g0, .int (nI (tcol c2))]))], [(m0, .inr (20, [.ref km, .ref vm, vr y1, vr y2, .ref a0, .int (nI (tcol c3))]))], [(g0, .inr (20, [.ref kg, .ref vg, .ref b0, vr z1, vr z2, .int (nI (tcol c4))]))]]) C clJ31 hW6 1 0 rfl rfl 4 (Nat.le_of_ble_eq_true rfl) rfl q1823 rfl (fun _ h => h) (Or.inl rfl) (fty := (.object "java/util/TreeMap$Entry")) (v := .ref b0) (by decide +kernel) rfl rfl (Nat.le_of_ble_eq_true rfl) dJ6_rotateRight_92 rfl (fun H7 locs7 hW7 => ?_)
  clear hW6
  exact k_vret C hW7 rfl ⟨rfl, rfl⟩ (Nat.le_refl _) (Nat.le_refl _) dJ6_rotateRight_95

def Q_ctJ6_rotateRight_r0 (G : GT) (t a0 b0 m0 g0 ka va0 kb vb0 km vm kg vg n : Nat) (md : Int32) (rt x1 x2 y1 y2 z1 z2 : Option Nat) (c1 c2 c3 c4 : Bool) : Option Value → List va_W → Prop := fun v S1 => v = none ∧ S1 = [[(t, .inr (13, [.null, .null, .null, vr rt, .int (nI n), .int md, .null, .null, .null]))], [(a0, .inr (20, [.ref ka, .ref va0, .null, vr x1, .ref b0, .int (nI (tcol c1))]))], [(b0, .inr (20, [.ref kb, .ref vb0, vr x2, .ref a0, .ref g0, .int (nI (tcol c2))]))], [(g0, .inr (20, [.ref kg, .ref vg, vr z1, .ref b0, vr z2, .int (nI (tcol c4))]))]]
set_option maxHeartbeats 4000000 in
set_option maxRecDepth 100000 in
theorem ctJ6_rotateRight_r0 (l : Launch) (G : GT) (t a0 b0 m0 g0 ka va0 kb vb0 km vm kg vg n : Nat) (md : Int32) (rt x1 x2 y1 y2 z1 z2 : Option Nat) (c1 c2 c3 c4 : Bool)  : Ct l G yJ6_rotateRight cJ6_rotateRight 3 none 0 0 0 0 [.ref t, .ref a0] ([[(t, .inr (13, [.null, .null, .null, vr rt, .int (nI n), .int md, .null, .null, .null]))], [(a0, .inr (20, [.ref ka, .ref va0, .ref b0, vr x1, .ref g0, .int (nI (tcol c1))]))], [(b0, .inr (20, [.ref kb, .ref vb0, vr x2, .null, .ref a0, .int (nI (tcol c2))]))], [(g0, .inr (20, [.ref kg, .ref vg, vr z1, .ref a0, vr z2, .int (nI (tcol c4))]))]]) noR (Q_ctJ6_rotateRight_r0 G t a0 b0 m0 g0 ka va0 kb vb0 km vm kg vg n md rt x1 x2 y1 y2 z1 z2 c1 c2 c3 c4) := by
  refine Ct.of (by decide +kernel) (Nat.le_of_ble_eq_true rfl) ?_
  intro p e s m below meth c A ls C hW hRo hl
  have hl : lv_has ls 3 [(0, .ref t), (1, .ref a0)] := hl
  refine lv_aload_n C.hx C.hb dJ6_rotateRight_0 rfl (lv_at hl 1 rfl) ?_
  refine lv_ifnull C.hx C.hb dJ6_rotateRight_1 ?_
  refine lv_aload_n C.hx C.hb dJ6_rotateRight_4 rfl (lv_at hl 1 rfl) ?_
  refine k_get (v := .ref b0) C clJ31 (hW.get 1 0 rfl rfl) 2 (Nat.le_of_ble_eq_true rfl) rfl q1820 rfl rfl dJ6_rotateRight_5 ?_
  refine lv_astore_n (lv' := [(2, .ref b0), (0, .ref t), (1, .ref a0)]) C.hx C.hb dJ6_rotateRight_8 rfl hl (Nat.le_of_ble_eq_true rfl) rfl (fun ls1 hl1 => ?_)
  clear hl
  refine lv_aload_n C.hx C.hb dJ6_rotateRight_9 rfl (lv_at hl1 2 rfl) ?_
  refine lv_aload_n C.hx C.hb dJ6_rotateRight_10 rfl (lv_at hl1 0 rfl) ?_
  refine k_get (v := .null) C clJ31 (hW.get 2 0 rfl rfl) 3 (Nat.le_of_ble_eq_true rfl) rfl q1821 rfl rfl dJ6_rotateRight_11 ?_
  refine k_put (S' := [[(t, .inr (13, [.null, .null, .null, vr rt, .int (nI n), .int md, .null, .null, .null]))], [(a0, .inr (20, [.ref ka, .ref va0, .null, vr x1, .ref g0, .int (nI (tcol c1))]))], [(b0, .inr (20, [.ref kb, .ref vb0, vr x2, .null, .ref a0, .int (nI (tcol c2))]))], [(g0, .inr (20, [.ref kg, .ref vg, vr z1, .ref a0, vr z2, .int (nI (tcol c4))]))]]) C clJ31 hW 1 0 rfl rfl 2 (Nat.le_of_ble_eq_true rfl) rfl q1820 rfl (fun _ h => h) (Or.inl rfl) (fty := (.object "java/util/TreeMap$Entry")) (v := .null) (by decide +kernel) rfl rfl (Nat.le_of_ble_eq_true rfl) dJ6_rotateRight_14 rfl (fun H2 locs2 hW2 => ?_)
  clear hW
  refine lv_aload_n C.hx C.hb dJ6_rotateRight_17 rfl (lv_at hl1 0 rfl) ?_
  refine k_get (v := .null) C clJ31 (hW2.get 2 0 rfl rfl) 3 (Nat.le_of_ble_eq_true rfl) rfl q1821 rfl rfl dJ6_rotateRight_18 ?_
  refine lv_ifnullN (tgt := 32) C.hx C.hb dJ6_rotateRight_21 (by decide) ?_
  refine lv_aload_n C.hx C.hb dJ6_rotateRight_32 rfl (lv_at hl1 0 rfl) ?_
  refine lv_aload_n C.hx C.hb dJ6_rotateRight_33 rfl (lv_at hl1 2 rfl) ?_
  refine k_get (v := .ref g0) C clJ31 (hW2.get 1 0 rfl rfl) 4 (Nat.le_of_ble_eq_true rfl) rfl q1823 rfl rfl dJ6_rotateRight_34 ?_
  refine k_put (S' := [[(t, .inr (13, [.null, .null, .null, vr rt, .int (nI n), .int md, .null, .null, .null]))], [(a0, .inr (20, [.ref ka, .ref va0, .null, vr x1, .ref g0, .int (nI (tcol c1))]))], [(b0, .inr (20, [.ref kb, .ref vb0, vr x2, .null, .ref g0, .int (nI (tcol c2))]))], [(g0, .inr (20, [.ref kg, .ref vg, vr z1, .ref a0, vr z2, .int (nI (tcol c4))]))]]) C clJ31 hW2 2 0 rfl rfl 4 (Nat.le_of_ble_eq_true rfl) rfl q1823 rfl (fun _ h => h) (Or.inl rfl) (fty := (.object "java/util/TreeMap$Entry")) (v := .ref g0) (by decide +kernel) rfl rfl (Nat.le_of_ble_eq_true rfl) dJ6_rotateRight_37 rfl (fun H3 locs3 hW3 => ?_)
  clear hW2
  refine lv_aload_n C.hx C.hb dJ6_rotateRight_40 rfl (lv_at hl1 2 rfl) ?_
  refine k_get (v := .ref g0) C clJ31 (hW3.get 1 0 rfl rfl) 4 (Nat.le_of_ble_eq_true rfl) rfl q1823 rfl rfl dJ6_rotateRight_41 ?_
  refine lv_ifnonnull (tgt := 55) C.hx C.hb dJ6_rotateRight_44 (by decide) ?_
  refine lv_aload_n C.hx C.hb dJ6_rotateRight_55 rfl (lv_at hl1 2 rfl) ?_
  refine k_get (v := .ref g0) C clJ31 (hW3.get 1 0 rfl rfl) 4 (Nat.le_of_ble_eq_true rfl) rfl q1823 rfl rfl dJ6_rotateRight_56 ?_
  refine k_get (v := .ref a0) C clJ31 (hW3.get 3 0 rfl rfl) 3 (Nat.le_of_ble_eq_true rfl) rfl q1821 rfl rfl dJ6_rotateRight_59 ?_
  refine lv_aload_n C.hx C.hb dJ6_rotateRight_62 rfl (lv_at hl1 2 rfl) ?_
  refine kr_acmp_ne (tgt := 77) C dJ6_rotateRight_63 (by decide) (fun cq => absurd rfl cq) (fun cq => ?_)
  refine lv_aload_n C.hx C.hb dJ6_rotateRight_66 rfl (lv_at hl1 2 rfl) ?_
  refine k_get (v := .ref g0) C clJ31 (hW3.get 1 0 rfl rfl) 4 (Nat.le_of_ble_eq_true rfl) rfl q1823 rfl rfl dJ6_rotateRight_67 ?_
  refine lv_aload_n C.hx C.hb dJ6_rotateRight_70 rfl (lv_at hl1 0 rfl) ?_
  refine k_put (S' := [[(t, .inr (13, [.null, .null, .null, vr rt, .int (nI n), .int md, .null, .null, .null]))], [(a0, .inr (20, [.ref ka, .ref va0, .null, vr x1, .ref g0, .int (nI (tcol c1))]))], [(b0, .inr (20, [.ref kb, .ref vb0, vr x2, .null, .ref g0, .int (nI (tcol c2))]))], [(g0, .inr (20, [.ref kg, .ref vg, vr z1, .ref b0, vr z2, .int (nI (tcol c4))]))]]) C clJ31 hW3 3 0 rfl rfl 3 (Nat.le_of_ble_eq_true rfl) rfl q1821 rfl (fun _ h => h) (Or.inl rfl) (fty := (.object "java/util/TreeMap$Entry")) (v := .ref b0) (by decide +kernel) rfl rfl (Nat.le_of_ble_eq_true rfl) dJ6_rotateRight_71 rfl (fun H4 locs4 hW4 => ?_)
  clear hW3
  refine lv_goto (tgt := 85) C.hx C.hb dJ6_rotateRight_74 (by decide) ?_
  refine lv_aload_n C.hx C.hb dJ6_rotateRight_85 rfl (lv_at hl1 0 rfl) ?_
  refine lv_aload_n C.hx C.hb dJ6_rotateRight_86 rfl (lv_at hl1 2 rfl) ?_
  refine k_put (S' := [[(t, .inr (13, [.null, .null, .null, vr rt, .int (nI n), .int md, .null, .null, .null]))], [(a0, .inr (20, [.ref ka, .ref va0, .null, vr x1, .ref g0, .int (nI (tcol c1))]))], [(b0, .inr (20, [.ref kb, .ref vb0, vr x2, .ref a0, .ref g0, .int (nI (tcol c2))]))], [(g0, .inr (20, [.ref kg, .ref vg, vr z1, .ref b0, vr z2, .int (nI (tcol c4))]))]]) C clJ31 hW4 2 0 rfl rfl 3 (Nat.le_of_ble_eq_true rfl) rfl q1821 rfl (fun _ h => h) (Or.inl rfl) (fty := (.object "java/util/TreeMap$Entry")) (v := .ref a0) (by decide +kernel) rfl rfl (Nat.le_of_ble_eq_true rfl) dJ6_rotateRight_87 rfl (fun H5 locs5 hW5 => ?_)
  clear hW4
  refine lv_aload_n C.hx C.hb dJ6_rotateRight_90 rfl (lv_at hl1 2 rfl) ?_
  refine lv_aload_n C.hx C.hb dJ6_rotateRight_91 rfl (lv_at hl1 0 rfl) ?_
  refine k_put (S' := [[(t, .inr (13, [.null, .null, .null, vr rt, .int (nI n), .int md, .null, .null, .null]))], [(a0, .inr (20, [.ref ka, .ref va0, .null, vr x1, .ref b0, .int (nI (tcol c1))]))], [(b0, .inr (20, [.ref kb, .ref vb0, vr x2, .ref a0, .ref g0, .int (nI (tcol c2))]))], [(g0, .inr (20, [.ref kg, .ref vg, vr z1, .ref b0, vr z2, .int (nI (tcol c4))]))]]) C clJ31 hW5 1 0 rfl rfl 4 (Nat.le_of_ble_eq_true rfl) rfl q1823 rfl (fun _ h => h) (Or.inl rfl) (fty := (.object "java/util/TreeMap$Entry")) (v := .ref b0) (by decide +kernel) rfl rfl (Nat.le_of_ble_eq_true rfl) dJ6_rotateRight_92 rfl (fun H6 locs6 hW6 => ?_)
  clear hW5
  exact k_vret C hW6 rfl ⟨rfl, rfl⟩ (Nat.le_refl _) (Nat.le_refl _) dJ6_rotateRight_95

def Q_ctJ6_rotateRight_r1 (G : GT) (t a0 b0 m0 g0 ka va0 kb vb0 km vm kg vg n : Nat) (md : Int32) (rt x1 x2 y1 y2 z1 z2 : Option Nat) (c1 c2 c3 c4 : Bool) : Option Value → List va_W → Prop := fun v S1 => v = none ∧ S1 = [[(t, .inr (13, [.null, .null, .null, vr rt, .int (nI n), .int md, .null, .null, .null]))], [(a0, .inr (20, [.ref ka, .ref va0, .ref m0, vr x1, .ref b0, .int (nI (tcol c1))]))], [(b0, .inr (20, [.ref kb, .ref vb0, vr x2, .ref a0, .ref g0, .int (nI (tcol c2))]))], [(m0, .inr (20, [.ref km, .ref vm, vr y1, vr y2, .ref a0, .int (nI (tcol c3))]))], [(g0, .inr (20, [.ref kg, .ref vg, vr z1, .ref b0, vr z2, .int (nI (tcol c4))]))]]
set_option maxHeartbeats 4000000 in
set_option maxRecDepth 100000 in
theorem ctJ6_rotateRight_r1 (l : Launch) (G : GT) (t a0 b0 m0 g0 ka va0 kb vb0 km vm kg vg n : Nat) (md : Int32) (rt x1 x2 y1 y2 z1 z2 : Option Nat) (c1 c2 c3 c4 : Bool)  : Ct l G yJ6_rotateRight cJ6_rotateRight 3 none 0 0 0 0 [.ref t, .ref a0] ([[(t, .inr (13, [.null, .null, .null, vr rt, .int (nI n), .int md, .null, .null, .null]))], [(a0, .inr (20, [.ref ka, .ref va0, .ref b0, vr x1, .ref g0, .int (nI (tcol c1))]))], [(b0, .inr (20, [.ref kb, .ref vb0, vr x2, .ref m0, .ref a0, .int (nI (tcol c2))]))], [(m0, .inr (20, [.ref km, .ref vm, vr y1, vr y2, .ref b0, .int (nI (tcol c3))]))], [(g0, .inr (20, [.ref kg, .ref vg, vr z1, .ref a0, vr z2, .int (nI (tcol c4))]))]]) noR (Q_ctJ6_rotateRight_r1 G t a0 b0 m0 g0 ka va0 kb vb0 km vm kg vg n md rt x1 x2 y1 y2 z1 z2 c1 c2 c3 c4) := by
  refine Ct.of (by decide +kernel) (Nat.le_of_ble_eq_true rfl) ?_
  intro p e s m below meth c A ls C hW hRo hl
  have hl : lv_has ls 3 [(0, .ref t), (1, .ref a0)] := hl
  refine lv_aload_n C.hx C.hb dJ6_rotateRight_0 rfl (lv_at hl 1 rfl) ?_
  refine lv_ifnull C.hx C.hb dJ6_rotateRight_1 ?_
  refine lv_aload_n C.hx C.hb dJ6_rotateRight_4 rfl (lv_at hl 1 rfl) ?_
  refine k_get (v := .ref b0) C clJ31 (hW.get 1 0 rfl rfl) 2 (Nat.le_of_ble_eq_true rfl) rfl q1820 rfl rfl dJ6_rotateRight_5 ?_
  refine lv_astore_n (lv' := [(2, .ref b0), (0, .ref t), (1, .ref a0)]) C.hx C.hb dJ6_rotateRight_8 rfl hl (Nat.le_of_ble_eq_true rfl) rfl (fun ls1 hl1 => ?_)
  clear hl
  refine lv_aload_n C.hx C.hb dJ6_rotateRight_9 rfl (lv_at hl1 2 rfl) ?_
  refine lv_aload_n C.hx C.hb dJ6_rotateRight_10 rfl (lv_at hl1 0 rfl) ?_
  refine k_get (v := .ref m0) C clJ31 (hW.get 2 0 rfl rfl) 3 (Nat.le_of_ble_eq_true rfl) rfl q1821 rfl rfl dJ6_rotateRight_11 ?_
  refine k_put (S' := [[(t, .inr (13, [.null, .null, .null, vr rt, .int (nI n), .int md, .null, .null, .null]))], [(a0, .inr (20, [.ref ka, .ref va0, .ref m0, vr x1, .ref g0, .int (nI (tcol c1))]))], [(b0, .inr (20, [.ref kb, .ref vb0, vr x2, .ref m0, .ref a0, .int (nI (tcol c2))]))], [(m0, .inr (20, [.ref km, .ref vm, vr y1, vr y2, .ref b0, .int (nI (tcol c3))]))], [(g0, .inr (20, [.ref kg, .ref vg, vr z1, .ref a0, vr z2, .int (nI (tcol c4))]))]]) C clJ31 hW 1 0 rfl rfl 2 (Nat.le_of_ble_eq_true rfl) rfl q1820 rfl (fun _ h => h) (Or.inl rfl) (fty := (.object "java/util/TreeMap$Entry")) (v := .ref m0) (by decide +kernel) rfl rfl (Nat.le_of_ble_eq_true rfl) dJ6_rotateRight_14 rfl (fun H2 locs2 hW2 => ?_)
  clear hW
  refine lv_aload_n C.hx C.hb dJ6_rotateRight_17 rfl (lv_at hl1 0 rfl) ?_
  refine k_get (v := .ref m0) C clJ31 (hW2.get 2 0 rfl rfl) 3 (Nat.le_of_ble_eq_true rfl) rfl q1821 rfl rfl dJ6_rotateRight_18 ?_
  refine lv_ifnull C.hx C.hb dJ6_rotateRight_21 ?_
  refine lv_aload_n C.hx C.hb dJ6_rotateRight_24 rfl (lv_at hl1 0 rfl) ?_
  refine k_get (v := .ref m0) C clJ31 (hW2.get 2 0 rfl rfl) 3 (Nat.le_of_ble_eq_true rfl) rfl q1821 rfl rfl dJ6_rotateRight_25 ?_
  refine lv_aload_n C.hx C.hb dJ6_rotateRight_28 rfl (lv_at hl1 2 rfl) ?_
  refine k_put (S' := [[(t, .inr (13, [.null, .null, .null, vr rt, .int (nI n), .int md, .null, .null, .null]))], [(a0, .inr (20, [.ref ka, .ref va0, .ref m0, vr x1, .ref g0, .int (nI (tcol c1))]))], [(b0, .inr (20, [.ref kb, .ref vb0, vr x2, .ref m0, .ref a0, .int (nI (tcol c2))]))], [(m0, .inr (20, [.ref km, .ref vm, vr y1, vr y2, .ref a0, .int (nI (tcol c3))]))], [(g0, .inr (20, [.ref kg, .ref vg, vr z1, .ref a0, vr z2, .int (nI (tcol c4))]))]]) C clJ31 hW2 3 0 rfl rfl 4 (Nat.le_of_ble_eq_true rfl) rfl q1823 rfl (fun _ h => h) (Or.inl rfl) (fty := (.object "java/util/TreeMap$Entry")) (v := .ref a0) (by decide +kernel) rfl rfl (Nat.le_of_ble_eq_true rfl) dJ6_rotateRight_29 rfl (fun H3 locs3 hW3 => ?_)
  clear hW2
  refine lv_aload_n C.hx C.hb dJ6_rotateRight_32 rfl (lv_at hl1 0 rfl) ?_
  refine lv_aload_n C.hx C.hb dJ6_rotateRight_33 rfl (lv_at hl1 2 rfl) ?_
  refine k_get (v := .ref g0) C clJ31 (hW3.get 1 0 rfl rfl) 4 (Nat.le_of_ble_eq_true rfl) rfl q1823 rfl rfl dJ6_rotateRight_34 ?_
  refine k_put (S' := [[(t, .inr (13, [.null, .null, .null, vr rt, .int (nI n), .int md, .null, .null, .null]))], [(a0, .inr (20, [.ref ka, .ref va0, .ref m0, vr x1, .ref g0, .int (nI (tcol c1))]))], [(b0, .inr (20, [.ref kb, .ref vb0, vr x2, .ref m0, .ref g0, .int (nI (tcol c2))]))], [(m0, .inr (20, [.ref km, .ref vm, vr y1, vr y2, .ref a0, .int (nI (tcol c3))]))], [(g0, .inr (20, [.ref kg, .ref vg, vr z1, .ref a0, vr z2, .int (nI (tcol c4))]))]]) C clJ31 hW3 2 0 rfl rfl 4 (Nat.le_of_ble_eq_true rfl) rfl q1823 rfl (fun _ h => h) (Or.inl rfl) (fty := (.object "java/util/TreeMap$Entry")) (v := .ref g0) (by decide +kernel) rfl rfl (Nat.le_of_ble_eq_true rfl) dJ6_rotateRight_37 rfl (fun H4 locs4 hW4 => ?_)
  clear hW3
  refine lv_aload_n C.hx C.hb dJ6_rotateRight_40 rfl (lv_at hl1 2 rfl) ?_
  refine k_get (v := .ref g0) C clJ31 (hW4.get 1 0 rfl rfl) 4 (Nat.le_of_ble_eq_true rfl) rfl q1823 rfl rfl dJ6_rotateRight_41 ?_
  refine lv_ifnonnull (tgt := 55) C.hx C.hb dJ6_rotateRight_44 (by decide) ?_
  refine lv_aload_n C.hx C.hb dJ6_rotateRight_55 rfl (lv_at hl1 2 rfl) ?_
  refine k_get (v := .ref g0) C clJ31 (hW4.get 1 0 rfl rfl) 4 (Nat.le_of_ble_eq_true rfl) rfl q1823 rfl rfl dJ6_rotateRight_56 ?_
  refine k_get (v := .ref a0) C clJ31 (hW4.get 4 0 rfl rfl) 3 (Nat.le_of_ble_eq_true rfl) rfl q1821 rfl rfl dJ6_rotateRight_59 ?_
  refine lv_aload_n C.hx C.hb dJ6_rotateRight_62 rfl (lv_at hl1 2 rfl) ?_
  refine kr_acmp_ne (tgt := 77) C dJ6_rotateRight_63 (by decide) (fun cq => absurd rfl cq) (fun cq => ?_)
  refine lv_aload_n C.hx C.hb dJ6_rotateRight_66 rfl (lv_at hl1 2 rfl) ?_
  refine k_get (v := .ref g0) C clJ31 (hW4.get 1 0 rfl rfl) 4 (Nat.le_of_ble_eq_true rfl) rfl q1823 rfl rfl dJ6_rotateRight_67 ?_
  refine lv_aload_n C.hx C.hb dJ6_rotateRight_70 rfl (lv_at hl1 0 rfl) ?_
  refine k_put (S' := [[(t, .inr (13, [.null, .null, .null, vr rt, .int (nI n), .int md, .null, .null, .null]))], [(a0, .inr (20, [.ref ka, .ref va0, .ref m0, vr x1, .ref g0, .int (nI (tcol c1))]))], [(b0, .inr (20, [.ref kb, .ref vb0, vr x2, .ref m0, .ref g0, .int (nI (tcol c2))]))], [(m0, .inr (20, [.ref km, .ref vm, vr y1, vr y2, .ref a0, .int (nI (tcol c3))]))], [(g0, .inr (20, [.ref kg, .ref vg, vr z1, .ref b0, vr z2, .int (nI (tcol c4))]))]]) C clJ31 hW4 4 0 rfl rfl 3 (Nat.le_of_ble_eq_true rfl) rfl q1821 rfl (fun _ h => h) (Or.inl rfl) (fty := (.object "java/util/TreeMap$Entry")) (v := .ref b0) (by decide +kernel) rfl rfl (Nat.le_of_ble_eq_true rfl) dJ6_rotateRight_71 rfl (fun H5 locs5 hW5 => ?_)
  clear hW4
  refine lv_goto (tgt := 85) C.hx C.hb dJ6_rotateRight_74 (by decide) ?_
  refine lv_aload_n C.hx C.hb dJ6_rotateRight_85 rfl (lv_at hl1 0 rfl) ?_
  refine lv_aload_n C.hx C.hb dJ6_rotateRight_86 rfl (lv_at hl1 2 rfl) ?_
  refine k_put (S' := [[(t, .inr (13, [.null, .null, .null, vr rt, .int (nI n), .int md, .null, .null, .null]))], [(a0, .inr (20, [.ref ka, .ref va0, .ref m0, vr x1, .ref g0, .int (nI (tcol c1))]))], [(b0, .inr (20, [.ref kb, .ref vb0, vr x2, .ref a0, .ref g0, .int (nI (tcol c2))]))], [(m0, .inr (20, [.ref km, .ref vm, vr y1, vr y2, .ref a0, .int (nI (tcol c3))]))], [(g0, .inr (20, [.ref kg, .ref vg, vr z1, .ref b0, vr z2, .int (nI (tcol c4))]))]]) C clJ31 hW5 2 0 rfl rfl 3 (Nat.le_of_ble_eq_true rfl) rfl q1821 rfl (fun _ h => h) (Or.inl rfl) (fty := (.object "java/util/TreeMap$Entry")) (v := .ref a0) (by decide +kernel) rfl rfl (Nat.le_of_ble_eq_true rfl) dJ6_rotateRight_87 rfl (fun H6 locs6 hW6 => ?_)
  clear hW5
  refine lv_aload_n C.hx C.hb dJ6_rotateRight_90 rfl (lv_at hl1 2 rfl) ?_
  refine lv_aload_n C.hx C.hb dJ6_rotateRight_91 rfl (lv_at hl1 0 rfl) ?_
  refine k_put (S' := [[(t, .inr (13, [.null, .null, .null, vr rt, .int (nI n), .int md, .null, .null, .null]))], [(a0, .inr (20, [.ref ka, .ref va0, .ref m0, vr x1, .ref b0, .int (nI (tcol c1))]))], [(b0, .inr (20, [.ref kb, .ref vb0, vr x2, .ref a0, .ref g0, .int (nI (tcol c2))]))], [(m0, .inr (20, [.ref km, .ref vm, vr y1, vr y2, .ref a0, .int (nI (tcol c3))]))], [(g0, .inr (20, [.ref kg, .ref vg, vr z1, .ref b0, vr z2, .int (nI (tcol c4))]))]]) C clJ31 hW6 1 0 rfl rfl 4 (Nat.le_of_ble_eq_true rfl) rfl q1823 rfl (fun _ h => h) (Or.inl rfl) (fty := (.object "java/util/TreeMap$Entry")) (v := .ref b0) (by decide +kernel) rfl rfl (Nat.le_of_ble_eq_true rfl) dJ6_rotateRight_92 rfl (fun H7 locs7 hW7 => ?_)
  clear hW6
  exact k_vret C hW7 rfl ⟨rfl, rfl⟩ (Nat.le_refl _) (Nat.le_refl _) dJ6_rotateRight_95
