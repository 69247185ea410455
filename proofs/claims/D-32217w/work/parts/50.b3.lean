/-! ===== B 2: boards, stretches ===== -/
/-- a board's fields: 0 number 1 season 2 came 3 where 4 stretch 5 depth 6 from 7 to -/
def bdL (δ : Sg) (b : Nat) : List Value := [.int (nI (δ 0 b)), .int (nI (δ 1 b)), .int (nI (δ 2 b)), .int (nI (δ 3 b)), .int (nI (δ 4 b)), .int (nI (δ 5 b)), .int (nI (δ 6 b)), .int (nI (δ 7 b))]
def bdF (bo : Nat → Nat) (δ : Sg) : Nat → va_W := fun b => [(bo b, .inr (4, bdL δ b))]
theorem bdF_set {bo : Nat → Nat} {δ : Sg} {f b v : Nat} : ∀ t, t ≠ b → bdF bo δ t = bdF bo (s2 δ f b v) t := by
  intro t ht
  have h : ∀ g, s2 δ f b v g t = δ g t := fun g => by simp [s2_rd, ht]
  unfold bdF bdL
  simp only [h]
theorem bdF_set2 {bo : Nat → Nat} {δ : Sg} {f b v f' v' : Nat} : ∀ t, t ≠ b → bdF bo δ t = bdF bo (s2 (s2 δ f b v) f' b v') t := fun t ht => (bdF_set t ht).trans (bdF_set t ht)
abbrev nilP : List (Nat × Nat) := []
def lm (bo : Nat → Nat) (ns : List (Nat × Nat)) : List (Nat × Nat) := ns.map (fun z => (z.1, bo z.2))
theorem lm_app (bo : Nat → Nat) (i j : List (Nat × Nat)) : lm bo (i ++ j) = lm bo i ++ lm bo j := List.map_append
theorem lm_cons (bo : Nat → Nat) (n b : Nat) (t : List (Nat × Nat)) : lm bo ((n, b) :: t) = (n, bo b) :: lm bo t := rfl
theorem lm_nil (bo : Nat → Nat) : lm bo [] = [] := rfl
theorem lm_len (bo : Nat → Nat) (ns : List (Nat × Nat)) : (lm bo ns).length = ns.length := List.length_map _
/-- the node that comes next, its cell -/
theorem lm_nd (bo : Nat → Nat) (a : Nat) (md : Int32) (k n b : Nat) {ns i t : List (Nat × Nat)} (h : ns = i ++ (n, b) :: t) : (n, .inr (19, [.ref (bo b), vr (hdo (lm bo t) none), vr (lst (lm bo i) none)])) ∈ llK a md k (lm bo ns) := by
  rw [h, lm_app, lm_cons]
  exact llK_nd a md k (lm bo i) (lm bo t) n (bo b)
def sumD (δ : Sg) (ns : List (Nat × Nat)) : Nat := ns.foldl (fun a z => a + δ 5 z.2) 0
def maxD (δ : Sg) (ns : List (Nat × Nat)) : Nat := ns.foldl (fun a z => max a (δ 5 z.2)) 0
theorem sumD_snoc (δ : Sg) (i : List (Nat × Nat)) (z : Nat × Nat) : sumD δ (i ++ [z]) = sumD δ i + δ 5 z.2 := by simp [sumD]
theorem maxD_snoc (δ : Sg) (i : List (Nat × Nat)) (z : Nat × Nat) : maxD δ (i ++ [z]) = max (maxD δ i) (δ 5 z.2) := by simp [maxD]
theorem sumD_le {δ : Sg} {M : Nat} : ∀ (ns : List (Nat × Nat)), (∀ z ∈ ns, δ 5 z.2 ≤ M) → sumD δ ns ≤ M * ns.length := by
  intro ns
  have key : ∀ (ns : List (Nat × Nat)) (a : Nat), (∀ z ∈ ns, δ 5 z.2 ≤ M) → ns.foldl (fun a z => a + δ 5 z.2) a ≤ a + M * ns.length := by
    intro ns
    induction ns with
    | nil => intro a _; simp
    | cons z t ih =>
      intro a h
      have h1 := h z List.mem_cons_self
      have h2 := ih (a + δ 5 z.2) (fun y hy => h y (List.mem_cons_of_mem _ hy))
      simp only [List.foldl_cons, List.length_cons, Nat.mul_add, Nat.mul_one]
      omega
  intro h
  have := key ns 0 h
  simpa [sumD] using this
theorem maxD_le {δ : Sg} {M : Nat} (ns : List (Nat × Nat)) (h : ∀ z ∈ ns, δ 5 z.2 ≤ M) : maxD δ ns ≤ M := by
  have key : ∀ (ns : List (Nat × Nat)) (a : Nat), a ≤ M → (∀ z ∈ ns, δ 5 z.2 ≤ M) → ns.foldl (fun a z => max a (δ 5 z.2)) a ≤ M := by
    intro ns
    induction ns with
    | nil => intro a h _; exact h
    | cons z t ih => intro a ha h; exact ih _ (by have := h z List.mem_cons_self; show max a (δ 5 z.2) ≤ M; omega) (fun y hy => h y (List.mem_cons_of_mem _ hy))
  exact key ns 0 (Nat.zero_le _) h
/-- all boards of a list sink by y -/
def dpF (δ : Sg) (y : Nat) (ns : List (Nat × Nat)) : Sg := ns.foldl (fun τ z => s2 τ 5 z.2 (τ 5 z.2 + y)) δ
theorem dpF_snoc (δ : Sg) (y : Nat) (i : List (Nat × Nat)) (z : Nat × Nat) : dpF δ y (i ++ [z]) = s2 (dpF δ y i) 5 z.2 (dpF δ y i 5 z.2 + y) := by simp [dpF]
theorem dpF_o (δ : Sg) (y f j : Nat) (hf : f ≠ 5) (ns : List (Nat × Nat)) : dpF δ y ns f j = δ f j := by
  unfold dpF
  induction ns generalizing δ with
  | nil => rfl
  | cons z t ih => rw [List.foldl_cons, ih]; simp [s2_rd, hf]
/-- those that are too deep leave -/
def lvF (δ : Sg) (K : Nat) (ns : List (Nat × Nat)) : Sg := ns.foldl (fun τ z => if τ 5 z.2 < 1000 then τ else s2 (s2 τ 3 z.2 3) 7 z.2 K) δ
theorem lvF_snoc (δ : Sg) (K : Nat) (i : List (Nat × Nat)) (z : Nat × Nat) : lvF δ K (i ++ [z]) = if lvF δ K i 5 z.2 < 1000 then lvF δ K i else s2 (s2 (lvF δ K i) 3 z.2 3) 7 z.2 K := by
  unfold lvF
  rw [List.foldl_append]
  rfl
theorem lvF_o (δ : Sg) (K f j : Nat) (h3 : f ≠ 3) (h7 : f ≠ 7) (ns : List (Nat × Nat)) : lvF δ K ns f j = δ f j := by
  unfold lvF
  induction ns generalizing δ with
  | nil => rfl
  | cons z t ih =>
    rw [List.foldl_cons, ih]
    split
    · rfl
    · simp [s2_rd, h3, h7]
/-- a cell of an Integer: the small ones are cached -/
def intC (q i : Nat) : va_W := if i ≤ 127 then [] else [(q, .inr (16, [.int (nI i)]))]
def intE (G : GT) (z : Nat × Nat) : Prop := z.2 ≤ 127 → z.1 = G.2.2.2 (1000 + (z.2 + 128))
/-- Integers that are owned, of a list of them -/
def intsW (E : List (Nat × Nat)) : va_W := E.flatMap (fun z => intC z.1 z.2)
theorem int_ro {G : GT} {A : Nat → Prop} {s : State} {S : List va_W} {H : Heap} {locs : List Loc} (hX : Kx G s) (hW : Ws G A s S H locs) {q i : Nat} (h : intE G (q, i)) (hm : ∀ x ∈ intC q i, x ∈ S.flatten) : roAt G (q, .inr (16, [.int (nI i)])) H := by
  by_cases hi : i ≤ 127
  · have hq : q = _ := h hi
    rw [hq]
    exact (Ro.cacheI hX hW.2.2.2.2 hi).at hW
  · exact hW.mem (hm _ (by unfold intC; rw [if_neg hi]; exact List.mem_cons_self))
/-- what a call may read of an Integer -/
theorem int_hR {G : GT} {A : Nat → Prop} {s : State} {Sr : List va_W} {H : Heap} (hX : Kx G s) (hA : ∀ q, A q → gB G ≤ q) {q i : Nat} (h : intE G (q, i)) (hm : ∀ x ∈ intC q i, x ∈ Sr.flatten) : (∃ z, (Sum.inl (q, .inr (16, [.int (nI i)])) : roI) = .inl z ∧ z ∈ Sr.flatten) ∨ (∃ z, (Sum.inl (q, .inr (16, [.int (nI i)])) : roI) = .inr z.1 ∧ z ∈ Sr.flatten ∧ roLv G z.1 H) ∨ Ro G A s (.inl (q, .inr (16, [.int (nI i)]))) := by
  by_cases hi : i ≤ 127
  · have hq : q = _ := h hi
    rw [hq]
    exact Or.inr (Or.inr (Ro.cacheI hX hA hi))
  · exact Or.inl ⟨_, rfl, hm _ (by unfold intC; rw [if_neg hi]; exact List.mem_cons_self)⟩
theorem int_lv {G : GT} {A : Nat → Prop} {s : State} {S Sr : List va_W} {H : Heap} {locs : List Loc} (hX : Kx G s) (hW : Ws G A s S H locs) {q i : Nat} (h : intE G (q, i)) (hm : ∀ x ∈ intC q i, x ∈ Sr.flatten) (hS : ∀ x ∈ intC q i, x ∈ S.flatten) : (∃ z, (Sum.inr q : roI) = .inl z ∧ z ∈ Sr.flatten) ∨ (∃ z, (Sum.inr q : roI) = .inr z.1 ∧ z ∈ Sr.flatten ∧ roLv G z.1 H) ∨ Ro G A s (.inr q) := by
  by_cases hi : i ≤ 127
  · have hq : q = _ := h hi
    have hr := Ro.cacheI hX hW.2.2.2.2 hi
    rw [hq]
    exact Or.inr (Or.inr ⟨hr.1.lv, hr.2⟩)
  · have hx : (q, .inr (16, [.int (nI i)])) ∈ intC q i := by unfold intC; rw [if_neg hi]; exact List.mem_cons_self
    exact Or.inr (Or.inl ⟨_, rfl, hm _ hx, (hW.mem (hS _ hx)).lv⟩)
/-- the presses from a on, m of them -/
def prS (vs : List Nat) (a m : Nat) : Nat := lp (fun j acc => acc + vs.getD (a + j) 0) m 0
theorem prS_le {vs : List Nat} {M : Nat} (h : ∀ v ∈ vs, v ≤ M) (a m : Nat) : prS vs a m ≤ M * m := by
  unfold prS
  induction m with
  | zero => exact Nat.zero_le _
  | succ m ih =>
    have : vs.getD (a + m) 0 ≤ M := by
      rw [List.getD_eq_getElem?_getD]
      cases e : vs[a + m]? with
      | none => exact Nat.zero_le _
      | some x => exact h x (List.mem_of_getElem? e)
    simp only [lp]
    rw [Nat.mul_add, Nat.mul_one]
    omega
theorem dpF_le (δ : Sg) (y : Nat) (ns : List (Nat × Nat)) (b : Nat) (h : (ns.map (fun z => z.2)).Nodup) : dpF δ y ns 5 b ≤ δ 5 b + y := by
  unfold dpF
  have out : ∀ (ns : List (Nat × Nat)) (δ : Sg), b ∉ ns.map (fun z => z.2) → ns.foldl (fun τ z => s2 τ 5 z.2 (τ 5 z.2 + y)) δ 5 b = δ 5 b := by
    intro ns
    induction ns with
    | nil => intro δ _; rfl
    | cons z t ih =>
      intro δ hb
      rw [List.map_cons, List.mem_cons, not_or] at hb
      rw [List.foldl_cons, ih _ hb.2]
      simp [s2_rd, hb.1]
  induction ns generalizing δ with
  | nil => exact Nat.le_add_right _ _
  | cons z t ih =>
    rw [List.map_cons, List.nodup_cons] at h
    rw [List.foldl_cons]
    by_cases e : b = z.2
    · subst e
      rw [out _ _ h.1]
      simp [s2_rd]
    · have := ih (s2 δ 5 z.2 (δ 5 z.2 + y)) h.2
      simpa [s2_rd, e] using this
def Q_ctX2_isBare (G : GT) (st sn lb lp sf wt fd isf lat k : Nat) (md : Int32) (f lf : Option Nat) : Option Value → List va_W → Prop := fun v S1 => v = some (.int (b01 (k = 0))) ∧ S1 = []
set_option maxHeartbeats 4000000 in
set_option maxRecDepth 100000 in
theorem ctX2_isBare (l : Launch) (G : GT) (st sn lb lp sf wt fd isf lat k : Nat) (md : Int32) (f lf : Option Nat) (hk : k < 2 ^ 31) : Ct l G yX2_isBare cX2_isBare 1 (some .boolean) 2 40 0 0 [.ref st] ([]) ((fun z => z = .inl (st, .inr (1, [.int (nI sn), .ref lb, .ref lp, .int (nI sf), .int (nI wt), .int (nI fd), .int (nI isf), .ref lat])) ∨ z = .inl (lb, .inr (14, [.int md, .int (nI k), vr f, vr lf])))) (Q_ctX2_isBare G st sn lb lp sf wt fd isf lat k md f lf) := by
  refine Ct.of (by decide +kernel) (Nat.le_of_ble_eq_true rfl) ?_
  intro p e s m below meth c A ls C hW hRo hl
  have hl : lv_has ls 1 [(0, .ref st)] := hl
  refine lv_aload_n C.hx C.hb dX2_isBare_0 rfl (lv_at hl 0 rfl) ?_
  refine k_get (v := .ref lb) C clX2 ((hRo _ (Or.inl rfl)).at hW) 1 (Nat.le_of_ble_eq_true rfl) rfl q284 rfl rfl dX2_isBare_1 ?_
  refine k_callU (owner := "java/util/AbstractCollection") (Sc := []) (Sr := []) (As := []) (rest := []) C (ctJ0_isEmpty_L l G lb k md f lf hk) hW clJ8 ((hRo _ (Or.inr rfl)).at hW) q1974 q1559 q1561 q1562 q73 q1563 rfl rfl ⟨by decide, by decide, Eq.trans (b := some 0) (by decide +kernel) rfl⟩ (Nat.le_of_ble_eq_true rfl) (Nat.le_of_ble_eq_true rfl) (Nat.le_refl _) (Nat.le_refl _) hl.1 rfl (Nat.le_of_ble_eq_true rfl) dX2_isBare_4 (k_permR _) (fun z hz => by cases hz; exact Or.inr (Or.inr (hRo _ (Or.inr rfl)))) (fun v H1 locs1 S1 hQ hz1 hW1 => ?_)
  obtain ⟨rfl, rfl⟩ := hQ
  have hW1 : Ws G A s ([]) H1 locs1 := hW1
  clear hW
  refine W.eq (g2 := F0 m 7 ls [.int (b01 (k = 0))]) rfl ?_
  exact k_zret C hW1 rfl (b01_nar _) ⟨rfl, rfl⟩ (Nat.le_refl _) (Nat.le_refl _) dX2_isBare_7

def Q_ctX2_depth (G : GT) (st sn lb lp sf wt fd isf lat k n : Nat) (md : Int32) (bo : Nat → Nat) (δ : Sg) (ns : List (Nat × Nat)) : Option Value → List va_W → Prop := fun v S1 => v = some (.int (nI (if k = 0 then 999 else sumD δ ns / k))) ∧ S1 = []
set_option maxHeartbeats 4000000 in
set_option maxRecDepth 100000 in
theorem ctX2_depth (l : Launch) (G : GT) (st sn lb lp sf wt fd isf lat k n : Nat) (md : Int32) (bo : Nat → Nat) (δ : Sg) (ns : List (Nat × Nat)) (hk : ns.length = k) (hk2 : k ≤ 200) (hns : ∀ z ∈ ns, z.2 < n) (hd : ∀ b, b < n → δ 5 b < 30000) : Ct l G yX2_depth cX2_depth 4 (some .int) 10 270 1 5 [.ref st] ([]) ((fun z => z = .inl (st, .inr (1, [.int (nI sn), .ref lb, .ref lp, .int (nI sf), .int (nI wt), .int (nI fd), .int (nI isf), .ref lat])) ∨ (∃ y ∈ llK lb md k (lm bo ns), z = .inl y) ∨ ∃ b, b < n ∧ z = .inl (bo b, .inr (4, bdL δ b)))) (Q_ctX2_depth G st sn lb lp sf wt fd isf lat k n md bo δ ns) := by
  refine Ct.of (by decide +kernel) (Nat.le_of_ble_eq_true rfl) ?_
  intro p e s m below meth c A ls C hW hRo hl
  have hl : lv_has ls 4 [(0, .ref st)] := hl
  refine lv_aload_n C.hx C.hb dX2_depth_0 rfl (lv_at hl 0 rfl) ?_
  refine k_callV (Sc := []) (Sr := []) (As := []) (rest := []) C (ctX2_isBare l G st sn lb lp sf wt fd isf lat k md (hdo (lm bo ns) none) (lst (lm bo ns) none) (by omega)) hW clX2 ((hRo _ (Or.inl rfl)).at hW) q1970 q1971 q1972 q80 q1973 rfl rfl ⟨by decide, by decide, Eq.trans (b := some 0) (by decide +kernel) rfl⟩ (Nat.le_of_ble_eq_true rfl) (Nat.le_of_ble_eq_true rfl) (show 0 + 0 ≤ 1 by omega) (show 0 + 0 ≤ 5 by omega) hl.1 rfl (Nat.le_of_ble_eq_true rfl) dX2_depth_1 (k_permR _) (fun z => (fun hz => hz.elim (fun e => by cases e; exact Or.inr (Or.inr (hRo _ (Or.inl rfl)))) (fun e => by cases e; exact Or.inr (Or.inr (hRo _ (Or.inr (Or.inl ⟨_, llK_hd _ _ _ _, rfl⟩))))))) (fun v H1 locs1 S1 hQ hz1 hW1 => ?_)
  obtain ⟨rfl, rfl⟩ := hQ
  have hW1 : Ws G A s ([]) H1 locs1 := hW1
  clear hW
  refine W.eq (g2 := F0 m 4 ls [.int (b01 (k = 0))]) rfl ?_
  refine kb_if_eq (tgt := 11) C dX2_depth_4 (by decide) (fun c4 => ?_) (fun c4 => ?_)
  · refine kn_iconst (a := 0) C (by decide) dX2_depth_11 ?_
    refine lv_istore_n (lv' := [(1, .int (nI 0)), (0, .ref st)]) C.hx C.hb dX2_depth_12 rfl hl (Nat.le_of_ble_eq_true rfl) rfl (fun ls2 hl2 => ?_)
    clear hl
    refine lv_aload_n C.hx C.hb dX2_depth_13 rfl (lv_at hl2 1 rfl) ?_
    refine k_get (v := .ref lb) C clX2 ((hRo _ (Or.inl rfl)).at hW1) 1 (Nat.le_of_ble_eq_true rfl) rfl q284 rfl rfl dX2_depth_14 ?_
    refine k_callU (owner := "java/util/AbstractSequentialList") (Sc := []) (Sr := []) (As := []) (rest := []) C (cL_iter l G lb k md (lm bo ns) (by rw [lm_len]; exact hk) (by omega)) hW1 clJ8 ((hRo _ (Or.inr (Or.inl ⟨_, llK_hd _ _ _ _, rfl⟩))).at hW1) q1978 q1100 q1102 q403 q81 q405 rfl rfl ⟨by decide, by decide, Eq.trans (b := some 0) (by decide +kernel) rfl⟩ (Nat.le_of_ble_eq_true rfl) (Nat.le_of_ble_eq_true rfl) (show 0 + 1 ≤ 1 by omega) (show 0 + 5 ≤ 5 by omega) hl2.1 rfl (Nat.le_of_ble_eq_true rfl) dX2_depth_17 (k_permR _) (fun z => (fun e => by cases e; exact Or.inr (Or.inr (hRo _ (Or.inr (Or.inl ⟨_, llK_hd _ _ _ _, rfl⟩)))))) (fun v H3 locs3 S1 hQ hz3 hW3 => ?_)
    obtain ⟨q0, rfl, rfl⟩ := hQ
    have hW3 : Ws G A s ([[(q0, .inr (22, [.null, vr (hdo (lm bo ns) none), .int (nI 0), .int md, .ref lb]))]]) H3 locs3 := hW3
    clear hW1
    refine W.eq (g2 := F0 m 20 ls2 [.ref q0]) rfl ?_
    refine lv_astore_n (lv' := [(2, .ref q0), (1, .int (nI 0)), (0, .ref st)]) C.hx C.hb dX2_depth_20 rfl hl2 (Nat.le_of_ble_eq_true rfl) rfl (fun ls4 hl4 => ?_)
    clear hl2
    have L : ∀ (k5 : Nat) (i1 t1 : List (Nat × Nat)) (lr : Option Nat), (ns = i1 ++ t1) → t1.length < k5 → ∀ (H5 : Heap) (locs5 : List Loc) (ls5 : Array Slot), Ws G A s ([[(q0, .inr (22, [vr lr, vr (hdo (lm bo t1) none), .int (nI i1.length), .int md, .ref lb]))]]) H5 locs5 → lv_has ls5 4 [(1, .int (nI (sumD δ i1))), (2, .ref q0), (0, .ref st)] → W p l e ({ frames := 10, cells := 1, slots := 5, locals := 270 } : Room) s m ([.ref st] : List Value).toArray below meth c H5 locs5 1 5 (MQ below (cQ G A (Q_ctX2_depth G st sn lb lp sf wt fd isf lat k n md bo δ ns)) ([.ref st] : List Value).toArray s 1 5 A) (F0 m 21 ls5 []) := by
      intro k5
      induction k5 with
      | zero => intro i1 t1 lr hL_0 hm5; exact absurd hm5 (Nat.not_lt_zero _)
      | succ k5 ih5 =>
        intro i1 t1 lr hL_0 hm5 H5 locs5 ls5 hW5 hl5
        have hlen := congrArg List.length hL_0
        rw [List.length_append] at hlen
        have hi1 : ∀ z ∈ i1, δ 5 z.2 ≤ 29999 := fun z hz => by have := hd z.2 (hns z (by rw [hL_0]; exact List.mem_append_left _ hz)); omega
        have hsl := sumD_le i1 hi1
        refine lv_aload_n C.hx C.hb dX2_depth_21 rfl (lv_at hl5 1 rfl) ?_
        refine k_callF (Sc := [[(q0, .inr (22, [vr lr, vr (hdo (lm bo t1) none), .int (nI i1.length), .int md, .ref lb]))]]) (Sr := []) (As := []) (rest := []) C (ctJ35_hasNext l G q0 lb k i1.length md (hdo (lm bo ns) none) (lst (lm bo ns) none) lr (hdo (lm bo t1) none) (by omega) (by have := congrArg List.length hL_0; simp at this; omega)) hW5 clJ35 (hW5.get 0 0 rfl rfl) q1980 q856 q858 q118 q860 q824 q823 q859 q857 q855 rfl ⟨by decide, by decide, Eq.trans (b := some 0) (by decide +kernel) rfl⟩ (Nat.le_of_ble_eq_true rfl) (Nat.le_of_ble_eq_true rfl) (show 1 + 0 ≤ 1 by omega) (show 5 + 0 ≤ 5 by omega) hl5.1 rfl (Nat.le_of_ble_eq_true rfl) dX2_depth_22 ((pick_perm [[(q0, .inr (22, [vr lr, vr (hdo (lm bo t1) none), .int (nI i1.length), .int md, .ref lb]))]] 1 rfl (is := [0]) (by decide)).flatten.symm) (fun z => (fun e => by cases e; exact Or.inr (Or.inr (hRo _ (Or.inr (Or.inl ⟨_, llK_hd _ _ _ _, rfl⟩)))))) (fun v H6 locs6 S1 hQ hz6 hW6 => ?_)
        obtain ⟨rfl, rfl⟩ := hQ
        have hW6 : Ws G A s ([[(q0, .inr (22, [vr lr, vr (hdo (lm bo t1) none), .int (nI i1.length), .int md, .ref lb]))]]) H6 locs6 := hW6
        clear hW5
        refine W.eq (g2 := F0 m 27 ls5 [.int (b01 (i1.length < k))]) rfl ?_
        refine kb_if_eq (tgt := 50) C dX2_depth_27 (by decide) (fun c27 => ?_) (fun c27 => ?_)
        · have ht1 : t1 = [] := List.eq_nil_of_length_eq_zero (by omega)
          subst ht1
          rw [List.append_nil] at hL_0
          subst hL_0
          refine lv_iload_n C.hx C.hb dX2_depth_50 rfl (lv_at hl5 0 rfl) ?_
          refine lv_aload_n C.hx C.hb dX2_depth_51 rfl (lv_at hl5 2 rfl) ?_
          refine k_get (v := .ref lb) C clX2 ((hRo _ (Or.inl rfl)).at hW6) 1 (Nat.le_of_ble_eq_true rfl) rfl q284 rfl rfl dX2_depth_52 ?_
          refine k_callV (Sc := []) (Sr := [[(q0, .inr (22, [vr lr, vr (hdo (lm bo []) none), .int (nI ns.length), .int md, .ref lb]))]]) (As := []) (rest := [.int (nI (sumD δ ns))]) C (ctJ8_size l G lb k md (hdo (lm bo ns) none) (lst (lm bo ns) none)) hW6 clJ8 ((hRo _ (Or.inr (Or.inl ⟨_, llK_hd _ _ _ _, rfl⟩))).at hW6) q1984 q838 q2666 q82 q839 rfl rfl ⟨by decide, by decide, Eq.trans (b := some 0) (by decide +kernel) rfl⟩ (Nat.le_of_ble_eq_true rfl) (Nat.le_of_ble_eq_true rfl) (show 1 + 0 ≤ 1 by omega) (show 5 + 0 ≤ 5 by omega) hl5.1 rfl (Nat.le_of_ble_eq_true rfl) dX2_depth_55 (k_permR _) (fun z => (fun e => by cases e; exact Or.inr (Or.inr (hRo _ (Or.inr (Or.inl ⟨_, llK_hd _ _ _ _, rfl⟩)))))) (fun v H7 locs7 S1 hQ hz7 hW7 => ?_)
          obtain ⟨rfl, rfl⟩ := hQ
          have hW7 : Ws G A s ([[(q0, .inr (22, [vr lr, vr (hdo (lm bo []) none), .int (nI ns.length), .int md, .ref lb]))]]) H7 locs7 := hW7
          clear hW6
          refine W.eq (g2 := F0 m 58 ls5 [.int (nI k), .int (nI (sumD δ ns))]) rfl ?_
          refine kn_idiv C (by omega) (by omega) (by omega) dX2_depth_58 ?_
          have hW8 : Ws G A s [] H7 locs7 := hW7.drop (S2 := [[(q0, .inr (22, [vr lr, vr (hdo (lm bo []) none), .int (nI ns.length), .int md, .ref lb]))]]) rfl
          clear hW7
          exact k_iret C hW8 rfl ⟨by rw [if_neg (by assumption)], rfl⟩ (by omega) (by omega) dX2_depth_59
        · rcases t1 with _ | ⟨⟨n1, b1⟩, t2⟩
          · exact absurd (congrArg List.length hL_0) (by simp; omega)
          have hb1 : b1 < n := hns (n1, b1) (by rw [hL_0]; simp)
          have hdb := hd b1 hb1
          have hW9 : Ws G A s [[(q0, .inr (22, [vr lr, .ref n1, .int (nI i1.length), .int md, .ref lb]))]] H6 locs6 := hW6
          clear hW6
          refine lv_aload_n C.hx C.hb dX2_depth_30 rfl (lv_at hl5 1 rfl) ?_
          refine k_callF (Sc := [[(q0, .inr (22, [vr lr, .ref n1, .int (nI i1.length), .int md, .ref lb]))]]) (Sr := []) (As := []) (rest := []) C (ctJ35_next l G q0 lb k i1.length n1 (bo b1) md (hdo (lm bo ns) none) (lst (lm bo ns) none) lr (hdo (lm bo t2) none) (lst (lm bo i1) none) (by omega) (by assumption)) hW9 clJ35 (hW9.get 0 0 rfl rfl) q1982 q1032 q1034 q118 q1036 q864 q863 q1035 q1033 q855 rfl ⟨by decide, by decide, Eq.trans (b := some 0) (by decide +kernel) rfl⟩ (Nat.le_of_ble_eq_true rfl) (Nat.le_of_ble_eq_true rfl) (show 1 + 0 ≤ 1 by omega) (show 5 + 0 ≤ 5 by omega) hl5.1 rfl (Nat.le_of_ble_eq_true rfl) dX2_depth_31 ((pick_perm [[(q0, .inr (22, [vr lr, .ref n1, .int (nI i1.length), .int md, .ref lb]))]] 1 rfl (is := [0]) (by decide)).flatten.symm) (fun z => (fun hz => hz.elim (fun e => by cases e; exact Or.inr (Or.inr (hRo _ (Or.inr (Or.inl ⟨_, llK_hd _ _ _ _, rfl⟩))))) (fun e => by cases e; exact Or.inr (Or.inr (hRo _ (Or.inr (Or.inl ⟨_, lm_nd bo lb md k n1 b1 hL_0, rfl⟩))))))) (fun v H10 locs10 S1 hQ hz10 hW10 => ?_)
          obtain ⟨rfl, rfl⟩ := hQ
          have hW10 : Ws G A s ([[(q0, .inr (22, [.ref n1, vr (hdo (lm bo t2) none), .int (nI (i1.length + 1)), .int md, .ref lb]))]]) H10 locs10 := hW10
          clear hW9
          refine W.eq (g2 := F0 m 36 ls5 [.ref (bo b1)]) rfl ?_
          refine k_castS C clX5 ((hRo _ (Or.inr (Or.inr ⟨b1, hb1, rfl⟩))).at hW10) q1983 rfl dX2_depth_36 ?_
          refine lv_astore_n (lv' := [(3, .ref (bo b1)), (1, .int (nI (sumD δ i1))), (2, .ref q0), (0, .ref st)]) C.hx C.hb dX2_depth_39 rfl hl5 (Nat.le_of_ble_eq_true rfl) rfl (fun ls11 hl11 => ?_)
          clear hl5
          refine lv_iload_n C.hx C.hb dX2_depth_40 rfl (lv_at hl11 1 rfl) ?_
          refine lv_aload_n C.hx C.hb dX2_depth_41 rfl (lv_at hl11 0 rfl) ?_
          refine k_getN (v := .int (nI (δ 5 b1))) C clX5 ((hRo _ (Or.inr (Or.inr ⟨b1, hb1, rfl⟩))).at hW10) 5 (Nat.le_of_ble_eq_true rfl) rfl q1640 rfl rfl dX2_depth_42 ?_
          refine kn_iadd C  dX2_depth_45 ?_
          refine lv_istore_n (lv' := [(1, .int (nI ((sumD δ i1) + (δ 5 b1)))), (3, .ref (bo b1)), (2, .ref q0), (0, .ref st)]) C.hx C.hb dX2_depth_46 rfl hl11 (Nat.le_of_ble_eq_true rfl) rfl (fun ls12 hl12 => ?_)
          clear hl11
          refine lv_goto (tgt := 21) C.hx C.hb dX2_depth_47 (by decide) ?_
          have e13 : (sumD δ (i1 ++ [(n1, b1)])) = ((sumD δ i1) + (δ 5 b1)) := by first | rfl | (simp [sumD_snoc, vr_s]; done)
          have e14 : ([[(q0, .inr (22, [vr (some n1), vr (hdo (lm bo t2) none), .int (nI (i1 ++ [(n1, b1)]).length), .int md, .ref lb]))]] : List va_W) = [[(q0, .inr (22, [.ref n1, vr (hdo (lm bo t2) none), .int (nI (i1.length + 1)), .int md, .ref lb]))]] := by first | rfl | (simp [sumD_snoc, vr_s]; done)
          exact ih5 (i1 ++ [(n1, b1)]) t2 (some n1) (by rw [hL_0]; simp) (by simp at hm5; omega) _ _ _ (by rw [e14]; exact hW10) (by rw [e13]; exact (lv_sub hl12 [0, 2, 3] rfl))
    have e15 : (sumD δ nilP) = 0 := by first | rfl | (simp [sumD_snoc, vr_s]; done)
    have e16 : ([[(q0, .inr (22, [vr none, vr (hdo (lm bo ns) none), .int (nI nilP.length), .int md, .ref lb]))]] : List va_W) = [[(q0, .inr (22, [.null, vr (hdo (lm bo ns) none), .int (nI 0), .int md, .ref lb]))]] := by first | rfl | (simp [sumD_snoc, vr_s]; done)
    exact L (ns.length + 1) nilP ns none rfl (Nat.lt_succ_self _) _ _ _ (by rw [e16]; exact hW3) (by rw [e15]; exact (lv_sub hl4 [1, 0, 2] rfl))
  · refine kn_sipush (a := 999) C (by decide) dX2_depth_7 ?_
    exact k_iret C hW1 rfl ⟨by rw [if_pos (by assumption)], rfl⟩ (by omega) (by omega) dX2_depth_10

def Q_ctX2_deepest (G : GT) (st sn lb lp sf wt fd isf lat k n : Nat) (md : Int32) (bo : Nat → Nat) (δ : Sg) (ns : List (Nat × Nat)) : Option Value → List va_W → Prop := fun v S1 => v = some (.int (nI (maxD δ ns))) ∧ S1 = []
set_option maxHeartbeats 4000000 in
set_option maxRecDepth 100000 in
theorem ctX2_deepest (l : Launch) (G : GT) (st sn lb lp sf wt fd isf lat k n : Nat) (md : Int32) (bo : Nat → Nat) (δ : Sg) (ns : List (Nat × Nat)) (hk : ns.length = k) (hk2 : k ≤ 200) (hns : ∀ z ∈ ns, z.2 < n) (hd : ∀ b, b < n → δ 5 b < 30000) : Ct l G yX2_deepest cX2_deepest 4 (some .int) 10 270 1 5 [.ref st] ([]) ((fun z => z = .inl (st, .inr (1, [.int (nI sn), .ref lb, .ref lp, .int (nI sf), .int (nI wt), .int (nI fd), .int (nI isf), .ref lat])) ∨ (∃ y ∈ llK lb md k (lm bo ns), z = .inl y) ∨ ∃ b, b < n ∧ z = .inl (bo b, .inr (4, bdL δ b)))) (Q_ctX2_deepest G st sn lb lp sf wt fd isf lat k n md bo δ ns) := by
  refine Ct.of (by decide +kernel) (Nat.le_of_ble_eq_true rfl) ?_
  intro p e s m below meth c A ls C hW hRo hl
  have hl : lv_has ls 4 [(0, .ref st)] := hl
  refine kn_iconst (a := 0) C (by decide) dX2_deepest_0 ?_
  refine lv_istore_n (lv' := [(1, .int (nI 0)), (0, .ref st)]) C.hx C.hb dX2_deepest_1 rfl hl (Nat.le_of_ble_eq_true rfl) rfl (fun ls1 hl1 => ?_)
  clear hl
  refine lv_aload_n C.hx C.hb dX2_deepest_2 rfl (lv_at hl1 1 rfl) ?_
  refine k_get (v := .ref lb) C clX2 ((hRo _ (Or.inl rfl)).at hW) 1 (Nat.le_of_ble_eq_true rfl) rfl q284 rfl rfl dX2_deepest_3 ?_
  refine k_callU (owner := "java/util/AbstractSequentialList") (Sc := []) (Sr := []) (As := []) (rest := []) C (cL_iter l G lb k md (lm bo ns) (by rw [lm_len]; exact hk) (by omega)) hW clJ8 ((hRo _ (Or.inr (Or.inl ⟨_, llK_hd _ _ _ _, rfl⟩))).at hW) q1978 q1100 q1102 q403 q81 q405 rfl rfl ⟨by decide, by decide, Eq.trans (b := some 0) (by decide +kernel) rfl⟩ (Nat.le_of_ble_eq_true rfl) (Nat.le_of_ble_eq_true rfl) (show 0 + 1 ≤ 1 by omega) (show 0 + 5 ≤ 5 by omega) hl1.1 rfl (Nat.le_of_ble_eq_true rfl) dX2_deepest_6 (k_permR _) (fun z => (fun e => by cases e; exact Or.inr (Or.inr (hRo _ (Or.inr (Or.inl ⟨_, llK_hd _ _ _ _, rfl⟩)))))) (fun v H2 locs2 S1 hQ hz2 hW2 => ?_)
  obtain ⟨q0, rfl, rfl⟩ := hQ
  have hW2 : Ws G A s ([[(q0, .inr (22, [.null, vr (hdo (lm bo ns) none), .int (nI 0), .int md, .ref lb]))]]) H2 locs2 := hW2
  clear hW
  refine W.eq (g2 := F0 m 9 ls1 [.ref q0]) rfl ?_
  refine lv_astore_n (lv' := [(2, .ref q0), (1, .int (nI 0)), (0, .ref st)]) C.hx C.hb dX2_deepest_9 rfl hl1 (Nat.le_of_ble_eq_true rfl) rfl (fun ls3 hl3 => ?_)
  clear hl1
  have L : ∀ (k4 : Nat) (i1 t1 : List (Nat × Nat)) (lr : Option Nat), (ns = i1 ++ t1) → t1.length < k4 → ∀ (H4 : Heap) (locs4 : List Loc) (ls4 : Array Slot), Ws G A s ([[(q0, .inr (22, [vr lr, vr (hdo (lm bo t1) none), .int (nI i1.length), .int md, .ref lb]))]]) H4 locs4 → lv_has ls4 4 [(1, .int (nI (maxD δ i1))), (2, .ref q0), (0, .ref st)] → W p l e ({ frames := 10, cells := 1, slots := 5, locals := 270 } : Room) s m ([.ref st] : List Value).toArray below meth c H4 locs4 1 5 (MQ below (cQ G A (Q_ctX2_deepest G st sn lb lp sf wt fd isf lat k n md bo δ ns)) ([.ref st] : List Value).toArray s 1 5 A) (F0 m 10 ls4 []) := by
    intro k4
    induction k4 with
    | zero => intro i1 t1 lr hL_0 hm4; exact absurd hm4 (Nat.not_lt_zero _)
    | succ k4 ih4 =>
      intro i1 t1 lr hL_0 hm4 H4 locs4 ls4 hW4 hl4
      have hlen := congrArg List.length hL_0
      rw [List.length_append] at hlen
      have hi1 : ∀ z ∈ i1, δ 5 z.2 ≤ 29999 := fun z hz => by have := hd z.2 (hns z (by rw [hL_0]; exact List.mem_append_left _ hz)); omega
      have hsl := maxD_le i1 hi1
      refine lv_aload_n C.hx C.hb dX2_deepest_10 rfl (lv_at hl4 1 rfl) ?_
      refine k_callF (Sc := [[(q0, .inr (22, [vr lr, vr (hdo (lm bo t1) none), .int (nI i1.length), .int md, .ref lb]))]]) (Sr := []) (As := []) (rest := []) C (ctJ35_hasNext l G q0 lb k i1.length md (hdo (lm bo ns) none) (lst (lm bo ns) none) lr (hdo (lm bo t1) none) (by omega) (by have := congrArg List.length hL_0; simp at this; omega)) hW4 clJ35 (hW4.get 0 0 rfl rfl) q1980 q856 q858 q118 q860 q824 q823 q859 q857 q855 rfl ⟨by decide, by decide, Eq.trans (b := some 0) (by decide +kernel) rfl⟩ (Nat.le_of_ble_eq_true rfl) (Nat.le_of_ble_eq_true rfl) (show 1 + 0 ≤ 1 by omega) (show 5 + 0 ≤ 5 by omega) hl4.1 rfl (Nat.le_of_ble_eq_true rfl) dX2_deepest_11 ((pick_perm [[(q0, .inr (22, [vr lr, vr (hdo (lm bo t1) none), .int (nI i1.length), .int md, .ref lb]))]] 1 rfl (is := [0]) (by decide)).flatten.symm) (fun z => (fun e => by cases e; exact Or.inr (Or.inr (hRo _ (Or.inr (Or.inl ⟨_, llK_hd _ _ _ _, rfl⟩)))))) (fun v H5 locs5 S1 hQ hz5 hW5 => ?_)
      obtain ⟨rfl, rfl⟩ := hQ
      have hW5 : Ws G A s ([[(q0, .inr (22, [vr lr, vr (hdo (lm bo t1) none), .int (nI i1.length), .int md, .ref lb]))]]) H5 locs5 := hW5
      clear hW4
      refine W.eq (g2 := F0 m 16 ls4 [.int (b01 (i1.length < k))]) rfl ?_
      refine kb_if_eq (tgt := 41) C dX2_deepest_16 (by decide) (fun c16 => ?_) (fun c16 => ?_)
      · have ht1 : t1 = [] := List.eq_nil_of_length_eq_zero (by omega)
        subst ht1
        rw [List.append_nil] at hL_0
        subst hL_0
        refine lv_iload_n C.hx C.hb dX2_deepest_41 rfl (lv_at hl4 0 rfl) ?_
        have hW6 : Ws G A s [] H5 locs5 := hW5.drop (S2 := [[(q0, .inr (22, [vr lr, vr (hdo (lm bo []) none), .int (nI ns.length), .int md, .ref lb]))]]) rfl
        clear hW5
        exact k_iret C hW6 rfl ⟨rfl, rfl⟩ (by omega) (by omega) dX2_deepest_42
      · rcases t1 with _ | ⟨⟨n1, b1⟩, t2⟩
        · exact absurd (congrArg List.length hL_0) (by simp; omega)
        have hb1 : b1 < n := hns (n1, b1) (by rw [hL_0]; simp)
        have hdb := hd b1 hb1
        have hW7 : Ws G A s [[(q0, .inr (22, [vr lr, .ref n1, .int (nI i1.length), .int md, .ref lb]))]] H5 locs5 := hW5
        clear hW5
        refine lv_aload_n C.hx C.hb dX2_deepest_19 rfl (lv_at hl4 1 rfl) ?_
        refine k_callF (Sc := [[(q0, .inr (22, [vr lr, .ref n1, .int (nI i1.length), .int md, .ref lb]))]]) (Sr := []) (As := []) (rest := []) C (ctJ35_next l G q0 lb k i1.length n1 (bo b1) md (hdo (lm bo ns) none) (lst (lm bo ns) none) lr (hdo (lm bo t2) none) (lst (lm bo i1) none) (by omega) (by assumption)) hW7 clJ35 (hW7.get 0 0 rfl rfl) q1982 q1032 q1034 q118 q1036 q864 q863 q1035 q1033 q855 rfl ⟨by decide, by decide, Eq.trans (b := some 0) (by decide +kernel) rfl⟩ (Nat.le_of_ble_eq_true rfl) (Nat.le_of_ble_eq_true rfl) (show 1 + 0 ≤ 1 by omega) (show 5 + 0 ≤ 5 by omega) hl4.1 rfl (Nat.le_of_ble_eq_true rfl) dX2_deepest_20 ((pick_perm [[(q0, .inr (22, [vr lr, .ref n1, .int (nI i1.length), .int md, .ref lb]))]] 1 rfl (is := [0]) (by decide)).flatten.symm) (fun z => (fun hz => hz.elim (fun e => by cases e; exact Or.inr (Or.inr (hRo _ (Or.inr (Or.inl ⟨_, llK_hd _ _ _ _, rfl⟩))))) (fun e => by cases e; exact Or.inr (Or.inr (hRo _ (Or.inr (Or.inl ⟨_, lm_nd bo lb md k n1 b1 hL_0, rfl⟩))))))) (fun v H8 locs8 S1 hQ hz8 hW8 => ?_)
        obtain ⟨rfl, rfl⟩ := hQ
        have hW8 : Ws G A s ([[(q0, .inr (22, [.ref n1, vr (hdo (lm bo t2) none), .int (nI (i1.length + 1)), .int md, .ref lb]))]]) H8 locs8 := hW8
        clear hW7
        refine W.eq (g2 := F0 m 25 ls4 [.ref (bo b1)]) rfl ?_
        refine k_castS C clX5 ((hRo _ (Or.inr (Or.inr ⟨b1, hb1, rfl⟩))).at hW8) q1983 rfl dX2_deepest_25 ?_
        refine lv_astore_n (lv' := [(3, .ref (bo b1)), (1, .int (nI (maxD δ i1))), (2, .ref q0), (0, .ref st)]) C.hx C.hb dX2_deepest_28 rfl hl4 (Nat.le_of_ble_eq_true rfl) rfl (fun ls9 hl9 => ?_)
        clear hl4
        refine lv_iload_n C.hx C.hb dX2_deepest_29 rfl (lv_at hl9 1 rfl) ?_
        refine lv_aload_n C.hx C.hb dX2_deepest_30 rfl (lv_at hl9 0 rfl) ?_
        refine k_getN (v := .int (nI (δ 5 b1))) C clX5 ((hRo _ (Or.inr (Or.inr ⟨b1, hb1, rfl⟩))).at hW8) 5 (Nat.le_of_ble_eq_true rfl) rfl q1640 rfl rfl dX2_deepest_31 ?_
        refine k_callS (Sc := []) (Sr := [[(q0, .inr (22, [.ref n1, vr (hdo (lm bo t2) none), .int (nI (i1.length + 1)), .int md, .ref lb]))]]) (As := [.int (nI (maxD δ i1)), .int (nI (δ 5 b1))]) (rest := []) C (ctJ20_max l G (maxD δ i1) (δ 5 b1) (by omega) (by omega)) hW8 q2288 q525 q97 q526 rfl ⟨by decide, by decide, Eq.trans (b := some 2) (by decide +kernel) rfl⟩ (Nat.le_of_ble_eq_true rfl) (Nat.le_of_ble_eq_true rfl) (show 1 + 0 ≤ 1 by omega) (show 5 + 0 ≤ 5 by omega) hl9.1 rfl (Nat.le_of_ble_eq_true rfl) dX2_deepest_34 (k_permR _) (fun _ h => h.elim) (fun v H10 locs10 S1 hQ hz10 hW10 => ?_)
        obtain ⟨rfl, rfl⟩ := hQ
        have hW10 : Ws G A s ([[(q0, .inr (22, [.ref n1, vr (hdo (lm bo t2) none), .int (nI (i1.length + 1)), .int md, .ref lb]))]]) H10 locs10 := hW10
        clear hW8
        refine W.eq (g2 := F0 m 37 ls9 [.int (nI (max (maxD δ i1) (δ 5 b1)))]) rfl ?_
        refine lv_istore_n (lv' := [(1, .int (nI (max (maxD δ i1) (δ 5 b1)))), (3, .ref (bo b1)), (2, .ref q0), (0, .ref st)]) C.hx C.hb dX2_deepest_37 rfl hl9 (Nat.le_of_ble_eq_true rfl) rfl (fun ls11 hl11 => ?_)
        clear hl9
        refine lv_goto (tgt := 10) C.hx C.hb dX2_deepest_38 (by decide) ?_
        have e12 : (maxD δ (i1 ++ [(n1, b1)])) = (max (maxD δ i1) (δ 5 b1)) := by first | rfl | (simp [maxD_snoc, vr_s]; done)
        have e13 : ([[(q0, .inr (22, [vr (some n1), vr (hdo (lm bo t2) none), .int (nI (i1 ++ [(n1, b1)]).length), .int md, .ref lb]))]] : List va_W) = [[(q0, .inr (22, [.ref n1, vr (hdo (lm bo t2) none), .int (nI (i1.length + 1)), .int md, .ref lb]))]] := by first | rfl | (simp [maxD_snoc, vr_s]; done)
        exact ih4 (i1 ++ [(n1, b1)]) t2 (some n1) (by rw [hL_0]; simp) (by simp at hm4; omega) _ _ _ (by rw [e13]; exact hW10) (by rw [e12]; exact (lv_sub hl11 [0, 2, 3] rfl))
  have e14 : (maxD δ nilP) = 0 := by first | rfl | (simp [maxD_snoc, vr_s]; done)
  have e15 : ([[(q0, .inr (22, [vr none, vr (hdo (lm bo ns) none), .int (nI nilP.length), .int md, .ref lb]))]] : List va_W) = [[(q0, .inr (22, [.null, vr (hdo (lm bo ns) none), .int (nI 0), .int md, .ref lb]))]] := by first | rfl | (simp [maxD_snoc, vr_s]; done)
  exact L (ns.length + 1) nilP ns none rfl (Nat.lt_succ_self _) _ _ _ (by rw [e15]; exact hW2) (by rw [e14]; exact (lv_sub hl3 [1, 0, 2] rfl))

