/-! ===== B 3: what is to come ===== -/
abbrev KV : Type := Nat × Nat × Nat × Nat
/-- the days' lists, by the tree's keys -/
def wTL (μd : Nat → Int32) (Λd : Nat → List (Nat × Nat)) (co : Nat → Nat) (K : List KV) : va_W := K.flatMap (fun x => llK x.2.2.2 (μd x.2.2.1) (Λd x.2.2.1).length (lm co (Λd x.2.2.1)))
def wTK (K : List KV) : va_W := K.flatMap (fun x => intC x.2.1 x.2.2.1)
def u1 {α : Type} (f : Nat → α) (i : Nat) (v : α) : Nat → α := fun j => if j = i then v else f j
theorem u1_s {α : Type} (f : Nat → α) (i : Nat) (v : α) : u1 f i v i = v := if_pos rfl
theorem u1_n {α : Type} (f : Nat → α) {i j : Nat} (v : α) (h : j ≠ i) : u1 f i v j = f j := if_neg h
theorem flatMap_cg {α β : Type} {f g : α → List β} : ∀ {L : List α}, (∀ x ∈ L, f x = g x) → L.flatMap f = L.flatMap g
  | [], _ => rfl
  | a :: t, h => by rw [List.flatMap_cons, List.flatMap_cons, h a List.mem_cons_self, flatMap_cg (fun x hx => h x (List.mem_cons_of_mem _ hx))]
theorem wTL_app (μd : Nat → Int32) (Λd : Nat → List (Nat × Nat)) (co : Nat → Nat) (A B : List KV) (x : KV) : wTL μd Λd co (A ++ x :: B) = wTL μd Λd co A ++ (llK x.2.2.2 (μd x.2.2.1) (Λd x.2.2.1).length (lm co (Λd x.2.2.1)) ++ wTL μd Λd co B) := by
  unfold wTL
  rw [List.flatMap_append, List.flatMap_cons]
theorem wTL_app0 (μd : Nat → Int32) (Λd : Nat → List (Nat × Nat)) (co : Nat → Nat) (A B : List KV) : wTL μd Λd co (A ++ B) = wTL μd Λd co A ++ wTL μd Λd co B := by
  unfold wTL
  rw [List.flatMap_append]
theorem wTK_app (A B : List KV) (x : KV) : wTK (A ++ x :: B) = wTK A ++ (intC x.2.1 x.2.2.1 ++ wTK B) := by
  unfold wTK
  rw [List.flatMap_append, List.flatMap_cons]
theorem wTK_app0 (A B : List KV) : wTK (A ++ B) = wTK A ++ wTK B := by
  unfold wTK
  rw [List.flatMap_append]
theorem wTL_cg {μd μd' : Nat → Int32} {Λd Λd' : Nat → List (Nat × Nat)} {co : Nat → Nat} {K : List KV} (h : ∀ x ∈ K, μd x.2.2.1 = μd' x.2.2.1 ∧ Λd x.2.2.1 = Λd' x.2.2.1) : wTL μd Λd co K = wTL μd' Λd' co K :=
  flatMap_cg (fun x hx => by rw [(h x hx).1, (h x hx).2])
theorem wTK_mem {T : TT} {x : TN} (hx : x ∈ inord T) : ∀ y ∈ intC x.2.1 x.2.2.1, y ∈ wTK (ink T) := fun y hy => List.mem_flatMap.mpr ⟨nk x, List.mem_map.mpr ⟨x, hx, rfl⟩, hy⟩
/-- the map of days is in order; a day has a list only if something comes on it -/
def tmOk (G : GT) (T : TT) (Λd : Nat → List (Nat × Nat)) : Prop := srt (inord T) ∧ (∀ x ∈ ink T, x.2.2.1 < 2 ^ 31 ∧ intE G (x.2.1, x.2.2.1)) ∧ ∀ d, (∃ x ∈ ink T, x.2.2.1 = d) ↔ Λd d ≠ []
theorem srt_ink {T : TT} : srt (inord T) ↔ (ink T).Pairwise (fun a b => a.2.2.1 < b.2.2.1) := by
  unfold ink
  rw [List.pairwise_map]
  rfl
theorem ink_ne {A B : List KV} {x : KV} (h : (A ++ x :: B).Pairwise (fun a b => a.2.2.1 < b.2.2.1)) : (∀ y ∈ A, y.2.2.1 ≠ x.2.2.1) ∧ ∀ y ∈ B, y.2.2.1 ≠ x.2.2.1 := by
  obtain ⟨h1, h2, h3⟩ := List.pairwise_append.mp h
  refine ⟨fun y hy => ?_, fun y hy => ?_⟩
  · have := h3 y hy x List.mem_cons_self; omega
  · have := (List.pairwise_cons.mp h2).1 y hy; omega
theorem mem_ink {T : TT} {x : KV} (h : x ∈ ink T) : ∃ y ∈ inord T, nk y = x := List.mem_map.mp h
theorem ink_mem {T : TT} {x : TN} (h : x ∈ inord T) : nk x ∈ ink T := List.mem_map.mpr ⟨x, h, rfl⟩
def Q_ctX1_willCome_1 (G : GT) (h a1 hb hd hq hm an ar ht dy li od on e0 : Nat) (md : Int32) (μd : Nat → Int32) (Λd : Nat → List (Nat × Nat)) (co : Nat → Nat) (T : TT) (x1 : TN) : Option Value → List va_W → Prop := fun v S1 => v = none ∧ ∃ (T2 : TT) (md2 : Int32) (μ2 : Nat → Int32) (q9 : Nat), tmOk G T2 (u1 Λd on (Λd on ++ [(q9, e0)])) ∧ S1 = [[(ht, .inr (13, [.null, .null, .null, vr (tad T2), .int (nI ((ink T2).length)), .int md2, .null, .null, .null]))], (tw none T2), (wTK (ink T2)), (wTL μ2 (u1 Λd on (Λd on ++ [(q9, e0)])) co (ink T2))]
set_option maxHeartbeats 4000000 in
set_option maxRecDepth 100000 in
theorem ctX1_willCome_1 (l : Launch) (G : GT) (h a1 hb hd hq hm an ar ht dy li od on e0 : Nat) (md : Int32) (μd : Nat → Int32) (Λd : Nat → List (Nat × Nat)) (co : Nat → Nat) (T : TT) (x1 : TN) (hon : on < 2 ^ 31) (hok : tmOk G T Λd) (hf : tfind T on = some x1) : Ct l G yX1_willCome cX1_willCome 3 none 10 271 3 5 [.ref h, .int (nI on), .ref (co e0)] ([[(ht, .inr (13, [.null, .null, .null, vr (tad T), .int (nI ((ink T).length)), .int md, .null, .null, .null]))], (tw none T), (wTK (ink T)), (wTL μd Λd co (ink T))]) ((fun z => z = .inl (h, .inr (0, [.ref a1, .ref hb, .ref hd, .ref hq, .ref hm, .ref an, .ref ar, .ref ht, .int (nI dy), .int (nI li), .int (nI od)])))) (Q_ctX1_willCome_1 G h a1 hb hd hq hm an ar ht dy li od on e0 md μd Λd co T x1) := by
  refine Ct.of (by decide +kernel) (Nat.le_of_ble_eq_true rfl) ?_
  intro p e s m below meth c A ls C hW hRo hl
  have hl : lv_has ls 3 [(0, .ref h), (1, .int (nI on)), (2, .ref (co e0))] := hl
  refine lv_aload_n C.hx C.hb dX1_willCome_0 rfl (lv_at hl 0 rfl) ?_
  refine k_get (v := .ref ht) C clX1 ((hRo _ rfl).at hW) 7 (Nat.le_of_ble_eq_true rfl) rfl q331 rfl rfl dX1_willCome_1 ?_
  refine lv_iload_n C.hx C.hb dX1_willCome_4 rfl (lv_at hl 1 rfl) ?_
  refine k_callS (Sc := []) (Sr := [[(ht, .inr (13, [.null, .null, .null, vr (tad T), .int (nI ((ink T).length)), .int md, .null, .null, .null]))], (tw none T), (wTK (ink T)), (wTL μd Λd co (ink T))]) (As := [.int (nI on)]) (rest := [.ref ht]) C (cI_val l G on hon) hW q1288 q1289 q92 q1290 rfl ⟨by decide, by decide, Eq.trans (b := some 1) (by decide +kernel) rfl⟩ (Nat.le_of_ble_eq_true rfl) (Nat.le_of_ble_eq_true rfl) (show 0 + 1 ≤ 3 by omega) (show 0 + 1 ≤ 5 by omega) hl.1 rfl (Nat.le_of_ble_eq_true rfl) dX1_willCome_5 (k_permR _) (fun _ h => h.elim) (fun v H1 locs1 S1 hQ hz1 hW1 => ?_)
  obtain ⟨q4, rfl, rfl, hq4⟩ := hQ
  have hW1 : Ws G A s ([[(ht, .inr (13, [.null, .null, .null, vr (tad T), .int (nI ((ink T).length)), .int md, .null, .null, .null]))], (tw none T), (wTK (ink T)), (wTL μd Λd co (ink T)), (intC q4 on)]) H1 locs1 := hW1
  clear hW
  refine W.eq (g2 := F0 m 8 ls [.ref q4, .ref ht]) rfl ?_
  refine k_callV (Sc := []) (Sr := [[(ht, .inr (13, [.null, .null, .null, vr (tad T), .int (nI ((ink T).length)), .int md, .null, .null, .null]))], (tw none T), (wTK (ink T)), (wTL μd Λd co (ink T)), (intC q4 on)]) (As := [.ref q4]) (rest := []) C (ctJ6_containsKey_1 l G ht q4 on (ink T).length md T x1 hon (fun x hx => (hok.2.1 _ (ink_mem hx)).1) hf) hW1 clJ6 (hW1.get 0 0 rfl rfl) q1789 q1790 q1791 q79 q1792 rfl rfl ⟨by decide, by decide, Eq.trans (b := some 1) (by decide +kernel) rfl⟩ (Nat.le_of_ble_eq_true rfl) (Nat.le_of_ble_eq_true rfl) (show 1 + 0 ≤ 3 by omega) (show 1 + 0 ≤ 5 by omega) hl.1 rfl (Nat.le_of_ble_eq_true rfl) dX1_willCome_8 (k_permR _) (fun z => (fun hz => hz.elim (fun e => by cases e; exact Or.inl ⟨_, rfl, seg_mem (i := 0) (j := 0) rfl rfl⟩) (fun hz => hz.elim (fun e => by cases e; exact int_hR C.hX hW1.2.2.2.2 hq4 (fun x hx => seg_memP (i := 4) rfl hx)) (fun hz => hz.elim (fun hz => by obtain ⟨y9, hy9, e9⟩ := hz; cases e9; exact Or.inl ⟨_, rfl, seg_memP (i := 1) rfl hy9⟩) (fun hz => by obtain ⟨x9, hx9, e9⟩ := hz; cases e9; exact int_hR C.hX hW1.2.2.2.2 (hok.2.1 _ (ink_mem hx9)).2 (fun x hx => seg_memP (i := 2) rfl (wTK_mem hx9 x hx))))))) (fun v H2 locs2 S1 hQ hz2 hW2 => ?_)
  obtain ⟨rfl, rfl⟩ := hQ
  have hW2 : Ws G A s ([[(ht, .inr (13, [.null, .null, .null, vr (tad T), .int (nI ((ink T).length)), .int md, .null, .null, .null]))], (tw none T), (wTK (ink T)), (wTL μd Λd co (ink T)), (intC q4 on)]) H2 locs2 := hW2
  clear hW1
  refine W.eq (g2 := F0 m 11 ls [.int (nI 1)]) rfl ?_
  refine kn_if_ne (tgt := 33) C (by decide) dX1_willCome_11 (by decide) (fun cq => ?_) (fun cq => absurd cq (by decide))
  refine lv_aload_n C.hx C.hb dX1_willCome_33 rfl (lv_at hl 0 rfl) ?_
  refine k_get (v := .ref ht) C clX1 ((hRo _ rfl).at hW2) 7 (Nat.le_of_ble_eq_true rfl) rfl q331 rfl rfl dX1_willCome_34 ?_
  refine lv_iload_n C.hx C.hb dX1_willCome_37 rfl (lv_at hl 1 rfl) ?_
  refine k_callS (Sc := []) (Sr := [[(ht, .inr (13, [.null, .null, .null, vr (tad T), .int (nI ((ink T).length)), .int md, .null, .null, .null]))], (tw none T), (wTK (ink T)), (wTL μd Λd co (ink T)), (intC q4 on)]) (As := [.int (nI on)]) (rest := [.ref ht]) C (cI_val l G on hon) hW2 q1288 q1289 q92 q1290 rfl ⟨by decide, by decide, Eq.trans (b := some 1) (by decide +kernel) rfl⟩ (Nat.le_of_ble_eq_true rfl) (Nat.le_of_ble_eq_true rfl) (show 1 + 1 ≤ 3 by omega) (show 1 + 1 ≤ 5 by omega) hl.1 rfl (Nat.le_of_ble_eq_true rfl) dX1_willCome_38 (k_permR _) (fun _ h => h.elim) (fun v H3 locs3 S1 hQ hz3 hW3 => ?_)
  obtain ⟨q6, rfl, rfl, hq6⟩ := hQ
  have hW3 : Ws G A s ([[(ht, .inr (13, [.null, .null, .null, vr (tad T), .int (nI ((ink T).length)), .int md, .null, .null, .null]))], (tw none T), (wTK (ink T)), (wTL μd Λd co (ink T)), (intC q4 on), (intC q6 on)]) H3 locs3 := hW3
  clear hW2
  refine W.eq (g2 := F0 m 41 ls [.ref q6, .ref ht]) rfl ?_
  refine k_callV (Sc := []) (Sr := [[(ht, .inr (13, [.null, .null, .null, vr (tad T), .int (nI ((ink T).length)), .int md, .null, .null, .null]))], (tw none T), (wTK (ink T)), (wTL μd Λd co (ink T)), (intC q4 on), (intC q6 on)]) (As := [.ref q6]) (rest := []) C (ctJ6_get_1 l G ht q6 on (ink T).length md T x1 hon (fun x hx => (hok.2.1 _ (ink_mem hx)).1) hf) hW3 clJ6 (hW3.get 0 0 rfl rfl) q1847 q1848 q1849 q79 q1850 rfl rfl ⟨by decide, by decide, Eq.trans (b := some 1) (by decide +kernel) rfl⟩ (Nat.le_of_ble_eq_true rfl) (Nat.le_of_ble_eq_true rfl) (show 2 + 0 ≤ 3 by omega) (show 2 + 0 ≤ 5 by omega) hl.1 rfl (Nat.le_of_ble_eq_true rfl) dX1_willCome_41 (k_permR _) (fun z => (fun hz => hz.elim (fun e => by cases e; exact Or.inl ⟨_, rfl, seg_mem (i := 0) (j := 0) rfl rfl⟩) (fun hz => hz.elim (fun e => by cases e; exact int_hR C.hX hW3.2.2.2.2 hq6 (fun x hx => seg_memP (i := 5) rfl hx)) (fun hz => hz.elim (fun hz => by obtain ⟨y9, hy9, e9⟩ := hz; cases e9; exact Or.inl ⟨_, rfl, seg_memP (i := 1) rfl hy9⟩) (fun hz => by obtain ⟨x9, hx9, e9⟩ := hz; cases e9; exact int_hR C.hX hW3.2.2.2.2 (hok.2.1 _ (ink_mem hx9)).2 (fun x hx => seg_memP (i := 2) rfl (wTK_mem hx9 x hx))))))) (fun v H4 locs4 S1 hQ hz4 hW4 => ?_)
  obtain ⟨rfl, rfl⟩ := hQ
  have hW4 : Ws G A s ([[(ht, .inr (13, [.null, .null, .null, vr (tad T), .int (nI ((ink T).length)), .int md, .null, .null, .null]))], (tw none T), (wTK (ink T)), (wTL μd Λd co (ink T)), (intC q4 on), (intC q6 on)]) H4 locs4 := hW4
  clear hW3
  refine W.eq (g2 := F0 m 44 ls [.ref x1.2.2.2.1]) rfl ?_
  have hx1 := tfind_cell none T on x1 hf
  have hm1 : nk x1 ∈ ink T := ink_mem hx1.2.1
  obtain ⟨A9, B9, hAB⟩ := List.append_of_mem hm1
  have hke : (nk x1).2.2.1 = on := hx1.1
  have hW5 : Ws G A s [[(ht, .inr (13, [.null, .null, .null, vr (tad T), .int (nI ((ink T).length)), .int md, .null, .null, .null]))], (tw none T), (wTK (ink T)), (intC q4 on), (intC q6 on), (wTL μd Λd co A9), (wTL μd Λd co B9), (llK x1.2.2.2.1 (μd on) (Λd on).length (lm co (Λd on)))] H4 locs4 := by
    refine (hW4).perm (wperm (fun d x => ?_))
    have h9 : wTL μd Λd co (ink T) = wTL μd Λd co A9 ++ (llK x1.2.2.2.1 (μd on) (Λd on).length (lm co (Λd on)) ++ wTL μd Λd co B9) := by
      rw [hAB, wTL_app, hke]
      rfl
    simp only [List.flatten_cons, List.flatten_nil, List.count_append, List.count_nil, h9]
    omega
  clear hW4
  refine k_castS C clJ8 (hW5.mem (seg_memP (i := 7) rfl (llK_hd _ _ _ _))) q1557 rfl dX1_willCome_44 ?_
  refine lv_aload_n C.hx C.hb dX1_willCome_47 rfl (lv_at hl 2 rfl) ?_
  refine k_callV (Sc := [(llK x1.2.2.2.1 (μd on) (Λd on).length (lm co (Λd on)))]) (Sr := [[(ht, .inr (13, [.null, .null, .null, vr (tad T), .int (nI ((ink T).length)), .int md, .null, .null, .null]))], (tw none T), (wTK (ink T)), (intC q4 on), (intC q6 on), (wTL μd Λd co A9), (wTL μd Λd co B9)]) (As := [.ref (co e0)]) (rest := []) C (cL_add l G x1.2.2.2.1 (co e0) (Λd on).length (μd on) (lm co (Λd on)) (lm_len _ _)) hW5 clJ8 (hW5.mem (seg_memP (i := 7) rfl (llK_hd _ _ _ _))) q1851 q1852 q1853 q82 q1854 rfl rfl ⟨by decide, by decide, Eq.trans (b := some 1) (by decide +kernel) rfl⟩ (Nat.le_of_ble_eq_true rfl) (Nat.le_of_ble_eq_true rfl) (show 2 + 1 ≤ 3 by omega) (show 2 + 3 ≤ 5 by omega) hl.1 rfl (Nat.le_of_ble_eq_true rfl) dX1_willCome_48 ((pick_perm [[(ht, .inr (13, [.null, .null, .null, vr (tad T), .int (nI ((ink T).length)), .int md, .null, .null, .null]))], (tw none T), (wTK (ink T)), (intC q4 on), (intC q6 on), (wTL μd Λd co A9), (wTL μd Λd co B9), (llK x1.2.2.2.1 (μd on) (Λd on).length (lm co (Λd on)))] 8 rfl (is := [0, 1, 2, 3, 4, 5, 6, 7]) (by decide)).flatten.symm) (fun _ h => h.elim) (fun v H6 locs6 S1 hQ hz6 hW6 => ?_)
  obtain ⟨rfl, q9, rfl⟩ := hQ
  have hW6 : Ws G A s ([[(ht, .inr (13, [.null, .null, .null, vr (tad T), .int (nI ((ink T).length)), .int md, .null, .null, .null]))], (tw none T), (wTK (ink T)), (intC q4 on), (intC q6 on), (wTL μd Λd co A9), (wTL μd Λd co B9), (llK x1.2.2.2.1 (μd on + 1) ((Λd on).length + 1) (lm co (Λd on) ++ [(q9, co e0)]))]) H6 locs6 := hW6
  clear hW5
  refine W.eq (g2 := F0 m 51 ls []) rfl ?_
  have hsr := srt_ink.mp hok.1
  rw [hAB] at hsr
  obtain ⟨hnA, hnB⟩ := ink_ne hsr
  rw [hke] at hnA hnB
  have hW7 : Ws G A s [[(ht, .inr (13, [.null, .null, .null, vr (tad T), .int (nI ((ink T).length)), .int md, .null, .null, .null]))], (tw none T), (wTK (ink T)), (wTL (u1 μd on (μd on + 1)) (u1 Λd on (Λd on ++ [(q9, e0)])) co (ink T)), (intC q4 on), (intC q6 on)] H6 locs6 := by
    refine (hW6).perm (wperm (fun d x => ?_))
    have h9 : wTL (u1 μd on (μd on + 1)) (u1 Λd on (Λd on ++ [(q9, e0)])) co (ink T) = wTL μd Λd co A9 ++ (llK x1.2.2.2.1 (μd on + 1) ((Λd on).length + 1) (lm co (Λd on) ++ [(q9, co e0)]) ++ wTL μd Λd co B9) := by
      rw [hAB, wTL_app, hke, u1_s, u1_s, lm_app, List.length_append, wTL_cg (μd := (u1 μd on (μd on + 1))) (μd' := μd) (Λd := (u1 Λd on (Λd on ++ [(q9, e0)]))) (Λd' := Λd) (K := A9) (fun y hy => ⟨u1_n _ _ (hnA y hy), u1_n _ _ (hnA y hy)⟩), wTL_cg (μd := (u1 μd on (μd on + 1))) (μd' := μd) (Λd := (u1 Λd on (Λd on ++ [(q9, e0)]))) (Λd' := Λd) (K := B9) (fun y hy => ⟨u1_n _ _ (hnB y hy), u1_n _ _ (hnB y hy)⟩)]
      rfl
    simp only [List.flatten_cons, List.flatten_nil, List.count_append, List.count_nil, h9]
    omega
  clear hW6
  have hW8 : Ws G A s [[(ht, .inr (13, [.null, .null, .null, vr (tad T), .int (nI ((ink T).length)), .int md, .null, .null, .null]))], (tw none T), (wTK (ink T)), (wTL (u1 μd on (μd on + 1)) (u1 Λd on (Λd on ++ [(q9, e0)])) co (ink T))] H6 locs6 := hW7.drop (S2 := [(intC q4 on), (intC q6 on)]) rfl
  clear hW7
  have hok2 : tmOk G T (u1 Λd on (Λd on ++ [(q9, e0)])) := ⟨hok.1, hok.2.1, fun d9 => by
    by_cases hd9 : d9 = on
    · subst hd9; rw [u1_s]; exact ⟨fun _ => by simp, fun _ => ⟨_, hm1, hke⟩⟩
    · rw [u1_n _ _ hd9]; exact hok.2.2 d9⟩
  exact k_vret C hW8 rfl ⟨rfl, T, md, (u1 μd on (μd on + 1)), q9, hok2, rfl⟩ (by omega) (by omega) dX1_willCome_51

