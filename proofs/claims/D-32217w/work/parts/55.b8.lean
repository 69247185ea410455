def Q_ctX1_willCome_0 (G : GT) (h a1 hb hd hq hm an ar ht dy li od on e0 : Nat) (md : Int32) (μd : Nat → Int32) (Λd : Nat → List (Nat × Nat)) (co : Nat → Nat) (T : TT) : Option Value → List va_W → Prop := fun v S1 => v = none ∧ ∃ (T2 : TT) (md2 : Int32) (μ2 : Nat → Int32) (q9 : Nat), tmOk G T2 (u1 Λd on (Λd on ++ [(q9, e0)])) ∧ S1 = [[(ht, .inr (13, [.null, .null, .null, vr (tad T2), .int (nI ((ink T2).length)), .int md2, .null, .null, .null]))], (tw none T2), (wTK (ink T2)), (wTL μ2 (u1 Λd on (Λd on ++ [(q9, e0)])) co (ink T2))]
set_option maxHeartbeats 4000000 in
set_option maxRecDepth 100000 in
theorem ctX1_willCome_0 (l : Launch) (G : GT) (h a1 hb hd hq hm an ar ht dy li od on e0 : Nat) (md : Int32) (μd : Nat → Int32) (Λd : Nat → List (Nat × Nat)) (co : Nat → Nat) (T : TT) (hon : on < 2 ^ 31) (hok : tmOk G T Λd) (hf : tfind T on = none) : Ct l G yX1_willCome cX1_willCome 3 none 10 271 6 16 [.ref h, .int (nI on), .ref (co e0)] ([[(ht, .inr (13, [.null, .null, .null, vr (tad T), .int (nI ((ink T).length)), .int md, .null, .null, .null]))], (tw none T), (wTK (ink T)), (wTL μd Λd co (ink T))]) ((fun z => z = .inl (h, .inr (0, [.ref a1, .ref hb, .ref hd, .ref hq, .ref hm, .ref an, .ref ar, .ref ht, .int (nI dy), .int (nI li), .int (nI od)])))) (Q_ctX1_willCome_0 G h a1 hb hd hq hm an ar ht dy li od on e0 md μd Λd co T) := by
  refine Ct.of (by decide +kernel) (Nat.le_of_ble_eq_true rfl) ?_
  intro p e s m below meth c A ls C hW hRo hl
  have hl : lv_has ls 3 [(0, .ref h), (1, .int (nI on)), (2, .ref (co e0))] := hl
  refine lv_aload_n C.hx C.hb dX1_willCome_0 rfl (lv_at hl 0 rfl) ?_
  refine k_get (v := .ref ht) C clX1 ((hRo _ rfl).at hW) 7 (Nat.le_of_ble_eq_true rfl) rfl q331 rfl rfl dX1_willCome_1 ?_
  refine lv_iload_n C.hx C.hb dX1_willCome_4 rfl (lv_at hl 1 rfl) ?_
  refine k_callS (Sc := []) (Sr := [[(ht, .inr (13, [.null, .null, .null, vr (tad T), .int (nI ((ink T).length)), .int md, .null, .null, .null]))], (tw none T), (wTK (ink T)), (wTL μd Λd co (ink T))]) (As := [.int (nI on)]) (rest := [.ref ht]) C (cI_val l G on hon) hW q1288 q1289 q92 q1290 rfl ⟨by decide, by decide, Eq.trans (b := some 1) (by decide +kernel) rfl⟩ (Nat.le_of_ble_eq_true rfl) (Nat.le_of_ble_eq_true rfl) (show 0 + 1 ≤ 6 by omega) (show 0 + 1 ≤ 16 by omega) hl.1 rfl (Nat.le_of_ble_eq_true rfl) dX1_willCome_5 (k_permR _) (fun _ h => h.elim) (fun v H1 locs1 S1 hQ hz1 hW1 => ?_)
  obtain ⟨qa, rfl, rfl, hqa⟩ := hQ
  have hW1 : Ws G A s ([[(ht, .inr (13, [.null, .null, .null, vr (tad T), .int (nI ((ink T).length)), .int md, .null, .null, .null]))], (tw none T), (wTK (ink T)), (wTL μd Λd co (ink T)), (intC qa on)]) H1 locs1 := hW1
  clear hW
  refine W.eq (g2 := F0 m 8 ls [.ref qa, .ref ht]) rfl ?_
  refine k_callV (Sc := []) (Sr := [[(ht, .inr (13, [.null, .null, .null, vr (tad T), .int (nI ((ink T).length)), .int md, .null, .null, .null]))], (tw none T), (wTK (ink T)), (wTL μd Λd co (ink T)), (intC qa on)]) (As := [.ref qa]) (rest := []) C (ctJ6_containsKey_0 l G ht qa on (ink T).length md T hon (fun x hx => (hok.2.1 _ (ink_mem hx)).1) hf) hW1 clJ6 (hW1.get 0 0 rfl rfl) q1789 q1790 q1791 q79 q1792 rfl rfl ⟨by decide, by decide, Eq.trans (b := some 1) (by decide +kernel) rfl⟩ (Nat.le_of_ble_eq_true rfl) (Nat.le_of_ble_eq_true rfl) (show 1 + 0 ≤ 6 by omega) (show 1 + 0 ≤ 16 by omega) hl.1 rfl (Nat.le_of_ble_eq_true rfl) dX1_willCome_8 (k_permR _) (fun z => (fun hz => hz.elim (fun e => by cases e; exact Or.inl ⟨_, rfl, seg_mem (i := 0) (j := 0) rfl rfl⟩) (fun hz => hz.elim (fun e => by cases e; exact int_hR C.hX hW1.2.2.2.2 hqa (fun x hx => seg_memP (i := 4) rfl hx)) (fun hz => hz.elim (fun hz => by obtain ⟨y9, hy9, e9⟩ := hz; cases e9; exact Or.inl ⟨_, rfl, seg_memP (i := 1) rfl hy9⟩) (fun hz => by obtain ⟨x9, hx9, e9⟩ := hz; cases e9; exact int_hR C.hX hW1.2.2.2.2 (hok.2.1 _ (ink_mem hx9)).2 (fun x hx => seg_memP (i := 2) rfl (wTK_mem hx9 x hx))))))) (fun v H2 locs2 S1 hQ hz2 hW2 => ?_)
  obtain ⟨rfl, rfl⟩ := hQ
  have hW2 : Ws G A s ([[(ht, .inr (13, [.null, .null, .null, vr (tad T), .int (nI ((ink T).length)), .int md, .null, .null, .null]))], (tw none T), (wTK (ink T)), (wTL μd Λd co (ink T)), (intC qa on)]) H2 locs2 := hW2
  clear hW1
  refine W.eq (g2 := F0 m 11 ls [.int (nI 0)]) rfl ?_
  refine kn_if_ne (tgt := 33) C (by decide) dX1_willCome_11 (by decide) (fun cq => absurd cq (by decide)) (fun cq => ?_)
  refine lv_aload_n C.hx C.hb dX1_willCome_14 rfl (lv_at hl 0 rfl) ?_
  refine k_get (v := .ref ht) C clX1 ((hRo _ rfl).at hW2) 7 (Nat.le_of_ble_eq_true rfl) rfl q331 rfl rfl dX1_willCome_15 ?_
  refine lv_iload_n C.hx C.hb dX1_willCome_18 rfl (lv_at hl 1 rfl) ?_
  refine k_callS (Sc := []) (Sr := [[(ht, .inr (13, [.null, .null, .null, vr (tad T), .int (nI ((ink T).length)), .int md, .null, .null, .null]))], (tw none T), (wTK (ink T)), (wTL μd Λd co (ink T)), (intC qa on)]) (As := [.int (nI on)]) (rest := [.ref ht]) C (cI_val l G on hon) hW2 q1288 q1289 q92 q1290 rfl ⟨by decide, by decide, Eq.trans (b := some 1) (by decide +kernel) rfl⟩ (Nat.le_of_ble_eq_true rfl) (Nat.le_of_ble_eq_true rfl) (show 1 + 1 ≤ 6 by omega) (show 1 + 1 ≤ 16 by omega) hl.1 rfl (Nat.le_of_ble_eq_true rfl) dX1_willCome_19 (k_permR _) (fun _ h => h.elim) (fun v H3 locs3 S1 hQ hz3 hW3 => ?_)
  obtain ⟨qb, rfl, rfl, hqb⟩ := hQ
  have hW3 : Ws G A s ([[(ht, .inr (13, [.null, .null, .null, vr (tad T), .int (nI ((ink T).length)), .int md, .null, .null, .null]))], (tw none T), (wTK (ink T)), (wTL μd Λd co (ink T)), (intC qa on), (intC qb on)]) H3 locs3 := hW3
  clear hW2
  refine W.eq (g2 := F0 m 22 ls [.ref qb, .ref ht]) rfl ?_
  refine k_new (fs := [.int 0, .int 0, .null, .null]) C clJ8 hW3 q1557 rfl q255 q82 (fun j hj => (by have := co_dec (P := fun j => defaultValue (tyJ8 j) = vp_V [.int 0, .int 0, .null, .null] j) (N := 4) (by decide +kernel) hj; exact this)) (show 2 + 1 ≤ 6 by omega) (show 2 + 4 ≤ 16 by omega) dX1_willCome_22 (fun q4 H4 hW4 => ?_)
  have hW4 : Ws G A s [[(ht, .inr (13, [.null, .null, .null, vr (tad T), .int (nI ((ink T).length)), .int md, .null, .null, .null]))], (tw none T), (wTK (ink T)), (wTL μd Λd co (ink T)), (intC qa on), (intC qb on), [(q4, .inr (14, [.int 0, .int 0, .null, .null]))]] H4 locs3 := hW4
  clear hW3
  refine lv_dup C.hx C.hb dX1_willCome_25 rfl ?_
  refine k_callI (Sc := [[(q4, .inr (14, [.int 0, .int 0, .null, .null]))]]) (Sr := [[(ht, .inr (13, [.null, .null, .null, vr (tad T), .int (nI ((ink T).length)), .int md, .null, .null, .null]))], (tw none T), (wTK (ink T)), (wTL μd Λd co (ink T)), (intC qa on), (intC qb on)]) (As := []) (rest := [.ref q4, .ref qb, .ref ht]) C (ctJ8_init l G q4) hW4 q1793 q257 q82 q258 rfl rfl ⟨by decide, by decide, Eq.trans (b := some 0) (by decide +kernel) rfl⟩ (Nat.le_of_ble_eq_true rfl) (Nat.le_of_ble_eq_true rfl) (show 3 + 0 ≤ 6 by omega) (show 6 + 0 ≤ 16 by omega) hl.1 rfl (Nat.le_of_ble_eq_true rfl) dX1_willCome_26 ((pick_perm [[(ht, .inr (13, [.null, .null, .null, vr (tad T), .int (nI ((ink T).length)), .int md, .null, .null, .null]))], (tw none T), (wTK (ink T)), (wTL μd Λd co (ink T)), (intC qa on), (intC qb on), [(q4, .inr (14, [.int 0, .int 0, .null, .null]))]] 7 rfl (is := [0, 1, 2, 3, 4, 5, 6]) (by decide)).flatten.symm) (fun _ h => h.elim) (fun v H5 locs5 S1 hQ hz5 hW5 => ?_)
  obtain ⟨rfl, rfl⟩ := hQ
  have hW5 : Ws G A s ([[(ht, .inr (13, [.null, .null, .null, vr (tad T), .int (nI ((ink T).length)), .int md, .null, .null, .null]))], (tw none T), (wTK (ink T)), (wTL μd Λd co (ink T)), (intC qa on), (intC qb on), [(q4, .inr (14, [.int (nI 0), .int (nI 0), .null, .null]))]]) H5 locs5 := hW5
  clear hW4
  refine W.eq (g2 := F0 m 29 ls [.ref q4, .ref qb, .ref ht]) rfl ?_
  have hnk : ∀ x ∈ inord T, x.2.2.1 ≠ on := fun x hx e => by
    have h9 := tfind_some hok.1 hx
    rw [e, hf] at h9
    cases h9
  refine k_callV (Sc := [[(ht, .inr (13, [.null, .null, .null, vr (tad T), .int (nI ((ink T).length)), .int md, .null, .null, .null]))], (tw none T)]) (Sr := [(wTK (ink T)), (wTL μd Λd co (ink T)), (intC qa on), (intC qb on), [(q4, .inr (14, [.int (nI 0), .int (nI 0), .null, .null]))]]) (As := [.ref qb, .ref q4]) (rest := []) C (ctJ6_put l G ht qb q4 on (ink T).length md T hon (fun x hx => (hok.2.1 _ (ink_mem hx)).1) hok.1 hnk rfl) hW5 clJ6 (hW5.get 0 0 rfl rfl) q1794 q1795 q1796 q79 q1797 rfl rfl ⟨by decide, by decide, Eq.trans (b := some 2) (by decide +kernel) rfl⟩ (Nat.le_of_ble_eq_true rfl) (Nat.le_of_ble_eq_true rfl) (show 3 + 1 ≤ 6 by omega) (show 6 + 6 ≤ 16 by omega) hl.1 rfl (Nat.le_of_ble_eq_true rfl) dX1_willCome_29 ((pick_perm [[(ht, .inr (13, [.null, .null, .null, vr (tad T), .int (nI ((ink T).length)), .int md, .null, .null, .null]))], (tw none T), (wTK (ink T)), (wTL μd Λd co (ink T)), (intC qa on), (intC qb on), [(q4, .inr (14, [.int (nI 0), .int (nI 0), .null, .null]))]] 7 rfl (is := [2, 3, 4, 5, 6, 0, 1]) (by decide)).flatten.symm) (fun z => (fun hz => hz.elim (fun e => by cases e; exact int_hR C.hX hW5.2.2.2.2 hqb (fun x hx => seg_memP (i := 3) rfl hx)) (fun hz => by obtain ⟨x9, hx9, e9⟩ := hz; cases e9; exact int_hR C.hX hW5.2.2.2.2 (hok.2.1 _ (ink_mem hx9)).2 (fun x hx => seg_memP (i := 0) rfl (wTK_mem hx9 x hx))))) (fun v H6 locs6 S1 hQ hz6 hW6 => ?_)
  obtain ⟨rfl, n2, e9, T2, A9, B9, rfl, he1, he2, he3, hi1, hi2, hA9, hB9, hn2⟩ := hQ
  have hW6 : Ws G A s ([(wTK (ink T)), (wTL μd Λd co (ink T)), (intC qa on), (intC qb on), [(q4, .inr (14, [.int (nI 0), .int (nI 0), .null, .null]))], [(ht, .inr (13, [.null, .null, .null, vr (tad T2), .int (nI n2), .int (md + 1), .null, .null, .null]))], (tw none T2)]) H6 locs6 := hW6
  clear hW5
  refine W.eq (g2 := F0 m 32 ls [.null]) rfl ?_
  have hke : (nk e9).2.2.1 = on := he2
  have hln : (ink T2).length = n2 := by rw [hi2, hn2, hi1]; simp; omega
  subst hln
  have hsr0 := srt_ink.mp hok.1
  rw [hi1] at hsr0
  have hsr : (ink T2).Pairwise (fun a b => a.2.2.1 < b.2.2.1) := by
    rw [hi2]
    obtain ⟨p1, p2, p3⟩ := List.pairwise_append.mp hsr0
    refine List.pairwise_append.mpr ⟨p1, List.pairwise_cons.mpr ⟨fun y hy => by rw [hke]; exact hB9 y hy, p2⟩, fun a ha b hb => ?_⟩
    rcases List.mem_cons.mp hb with rfl | hb
    · rw [hke]; exact hA9 a ha
    · exact p3 a ha b hb
  have hkeys : ∀ x ∈ ink T2, x.2.2.1 < 2 ^ 31 ∧ intE G (x.2.1, x.2.2.1) := fun x hx => by
    rw [hi2] at hx
    rcases List.mem_append.mp hx with h | h
    · exact hok.2.1 x (by rw [hi1]; exact List.mem_append_left _ h)
    · rcases List.mem_cons.mp h with rfl | h
      · refine ⟨by rw [hke]; exact hon, ?_⟩
        show intE G (e9.2.1, e9.2.2.1)
        rw [he1, he2]; exact hqb
      · exact hok.2.1 x (by rw [hi1]; exact List.mem_append_right _ h)
  obtain ⟨y9, hy9, hye⟩ := mem_ink (T := T2) (x := nk e9) (by rw [hi2]; simp)
  have hyk : y9.2.2.1 = on := (congrArg (fun q => q.2.2.1) hye).trans he2
  have hyv : y9.2.2.2.1 = q4 := (congrArg (fun q => q.2.2.2) hye).trans he3
  have hf2 : tfind T2 on = some y9 := by rw [← hyk]; exact tfind_some (srt_ink.mpr hsr) hy9
  have hde : Λd on = [] := by
    cases h9 : Λd on with
    | nil => rfl
    | cons a t =>
      obtain ⟨x9, hx9, hx8⟩ := (hok.2.2 on).mpr (by rw [h9]; simp)
      obtain ⟨y8, hy8, rfl⟩ := mem_ink hx9
      exact absurd hx8 (hnk y8 hy8)
  have hW7 : Ws G A s [[(ht, .inr (13, [.null, .null, .null, vr (tad T2), .int (nI ((ink T2).length)), .int (md + 1), .null, .null, .null]))], (tw none T2), (wTK (ink T2)), (wTL μd Λd co A9), (wTL μd Λd co B9), (llK q4 (nI 0) 0 []), (intC qa on)] H6 locs6 := by
    refine (hW6).perm (wperm (fun d x => ?_))
    have h8 : wTK (ink T2) = wTK A9 ++ (intC qb on ++ wTK B9) := by rw [hi2, wTK_app]; show _ ++ (intC e9.2.1 e9.2.2.1 ++ _) = _; rw [he1, he2]
    have h7 : wTK (ink T) = wTK A9 ++ wTK B9 := by rw [hi1, wTK_app0]
    have h9 : wTL μd Λd co (ink T) = wTL μd Λd co A9 ++ wTL μd Λd co B9 := by rw [hi1, wTL_app0]
    simp only [llK, llG, hdo_nil, lst_nil, vr_n, List.flatten_cons, List.flatten_nil, List.count_append, List.count_cons, List.count_nil, h7, h8, h9]
    omega
  clear hW6
  have hW8 : Ws G A s [[(ht, .inr (13, [.null, .null, .null, vr (tad T2), .int (nI ((ink T2).length)), .int (md + 1), .null, .null, .null]))], (tw none T2), (wTK (ink T2)), (wTL μd Λd co A9), (wTL μd Λd co B9), (llK q4 (nI 0) 0 [])] H6 locs6 := hW7.drop (S2 := [(intC qa on)]) rfl
  clear hW7
  refine lv_pop C.hx C.hb dX1_willCome_32 rfl ?_
  refine lv_aload_n C.hx C.hb dX1_willCome_33 rfl (lv_at hl 0 rfl) ?_
  refine k_get (v := .ref ht) C clX1 ((hRo _ rfl).at hW8) 7 (Nat.le_of_ble_eq_true rfl) rfl q331 rfl rfl dX1_willCome_34 ?_
  refine lv_iload_n C.hx C.hb dX1_willCome_37 rfl (lv_at hl 1 rfl) ?_
  refine k_callS (Sc := []) (Sr := [[(ht, .inr (13, [.null, .null, .null, vr (tad T2), .int (nI ((ink T2).length)), .int (md + 1), .null, .null, .null]))], (tw none T2), (wTK (ink T2)), (wTL μd Λd co A9), (wTL μd Λd co B9), (llK q4 (nI 0) 0 [])]) (As := [.int (nI on)]) (rest := [.ref ht]) C (cI_val l G on hon) hW8 q1288 q1289 q92 q1290 rfl ⟨by decide, by decide, Eq.trans (b := some 1) (by decide +kernel) rfl⟩ (Nat.le_of_ble_eq_true rfl) (Nat.le_of_ble_eq_true rfl) (show 4 + 1 ≤ 6 by omega) (show 12 + 1 ≤ 16 by omega) hl.1 rfl (Nat.le_of_ble_eq_true rfl) dX1_willCome_38 (k_permR _) (fun _ h => h.elim) (fun v H9 locs9 S1 hQ hz9 hW9 => ?_)
  obtain ⟨qc, rfl, rfl, hqc⟩ := hQ
  have hW9 : Ws G A s ([[(ht, .inr (13, [.null, .null, .null, vr (tad T2), .int (nI ((ink T2).length)), .int (md + 1), .null, .null, .null]))], (tw none T2), (wTK (ink T2)), (wTL μd Λd co A9), (wTL μd Λd co B9), (llK q4 (nI 0) 0 []), (intC qc on)]) H9 locs9 := hW9
  clear hW8
  refine W.eq (g2 := F0 m 41 ls [.ref qc, .ref ht]) rfl ?_
  refine k_callV (Sc := []) (Sr := [[(ht, .inr (13, [.null, .null, .null, vr (tad T2), .int (nI ((ink T2).length)), .int (md + 1), .null, .null, .null]))], (tw none T2), (wTK (ink T2)), (wTL μd Λd co A9), (wTL μd Λd co B9), (llK q4 (nI 0) 0 []), (intC qc on)]) (As := [.ref qc]) (rest := []) C (ctJ6_get_1 l G ht qc on (ink T2).length (md + 1) T2 y9 hon (fun x hx => (hkeys _ (ink_mem hx)).1) hf2) hW9 clJ6 (hW9.get 0 0 rfl rfl) q1847 q1848 q1849 q79 q1850 rfl rfl ⟨by decide, by decide, Eq.trans (b := some 1) (by decide +kernel) rfl⟩ (Nat.le_of_ble_eq_true rfl) (Nat.le_of_ble_eq_true rfl) (show 5 + 0 ≤ 6 by omega) (show 13 + 0 ≤ 16 by omega) hl.1 rfl (Nat.le_of_ble_eq_true rfl) dX1_willCome_41 (k_permR _) (fun z => (fun hz => hz.elim (fun e => by cases e; exact Or.inl ⟨_, rfl, seg_mem (i := 0) (j := 0) rfl rfl⟩) (fun hz => hz.elim (fun e => by cases e; exact int_hR C.hX hW9.2.2.2.2 hqc (fun x hx => seg_memP (i := 6) rfl hx)) (fun hz => hz.elim (fun hz => by obtain ⟨y9, hy9, e9⟩ := hz; cases e9; exact Or.inl ⟨_, rfl, seg_memP (i := 1) rfl hy9⟩) (fun hz => by obtain ⟨x9, hx9, e9⟩ := hz; cases e9; exact int_hR C.hX hW9.2.2.2.2 (hkeys _ (ink_mem hx9)).2 (fun x hx => seg_memP (i := 2) rfl (wTK_mem hx9 x hx))))))) (fun v H10 locs10 S1 hQ hz10 hW10 => ?_)
  obtain ⟨rfl, rfl⟩ := hQ
  have hW10 : Ws G A s ([[(ht, .inr (13, [.null, .null, .null, vr (tad T2), .int (nI ((ink T2).length)), .int (md + 1), .null, .null, .null]))], (tw none T2), (wTK (ink T2)), (wTL μd Λd co A9), (wTL μd Λd co B9), (llK q4 (nI 0) 0 []), (intC qc on)]) H10 locs10 := hW10
  clear hW9
  refine W.eq (g2 := F0 m 44 ls [.ref y9.2.2.2.1]) rfl ?_
  refine k_op (y := .ref q4) (congrArg Value.ref hyv) ?_
  refine k_castS C clJ8 (hW10.mem (seg_memP (i := 5) rfl (llK_hd _ _ _ []))) q1557 rfl dX1_willCome_44 ?_
  refine lv_aload_n C.hx C.hb dX1_willCome_47 rfl (lv_at hl 2 rfl) ?_
  refine k_callV (Sc := [(llK q4 (nI 0) 0 [])]) (Sr := [[(ht, .inr (13, [.null, .null, .null, vr (tad T2), .int (nI ((ink T2).length)), .int (md + 1), .null, .null, .null]))], (tw none T2), (wTK (ink T2)), (wTL μd Λd co A9), (wTL μd Λd co B9), (intC qc on)]) (As := [.ref (co e0)]) (rest := []) C (cL_add l G q4 (co e0) 0 (nI 0) [] rfl) hW10 clJ8 (hW10.mem (seg_memP (i := 5) rfl (llK_hd _ _ _ []))) q1851 q1852 q1853 q82 q1854 rfl rfl ⟨by decide, by decide, Eq.trans (b := some 1) (by decide +kernel) rfl⟩ (Nat.le_of_ble_eq_true rfl) (Nat.le_of_ble_eq_true rfl) (show 5 + 1 ≤ 6 by omega) (show 13 + 3 ≤ 16 by omega) hl.1 rfl (Nat.le_of_ble_eq_true rfl) dX1_willCome_48 ((pick_perm [[(ht, .inr (13, [.null, .null, .null, vr (tad T2), .int (nI ((ink T2).length)), .int (md + 1), .null, .null, .null]))], (tw none T2), (wTK (ink T2)), (wTL μd Λd co A9), (wTL μd Λd co B9), (llK q4 (nI 0) 0 []), (intC qc on)] 7 rfl (is := [0, 1, 2, 3, 4, 6, 5]) (by decide)).flatten.symm) (fun _ h => h.elim) (fun v H11 locs11 S1 hQ hz11 hW11 => ?_)
  obtain ⟨rfl, q9, rfl⟩ := hQ
  have hW11 : Ws G A s ([[(ht, .inr (13, [.null, .null, .null, vr (tad T2), .int (nI ((ink T2).length)), .int (md + 1), .null, .null, .null]))], (tw none T2), (wTK (ink T2)), (wTL μd Λd co A9), (wTL μd Λd co B9), (intC qc on), (llK q4 (nI 0 + 1) (0 + 1) ([] ++ [(q9, co e0)]))]) H11 locs11 := hW11
  clear hW10
  refine W.eq (g2 := F0 m 51 ls []) rfl ?_
  have hsr2 := hsr
  rw [hi2] at hsr2
  obtain ⟨hnA, hnB⟩ := ink_ne hsr2
  rw [hke] at hnA hnB
  have hW12 : Ws G A s [[(ht, .inr (13, [.null, .null, .null, vr (tad T2), .int (nI ((ink T2).length)), .int (md + 1), .null, .null, .null]))], (tw none T2), (wTK (ink T2)), (wTL (u1 μd on (nI 0 + 1)) (u1 Λd on (Λd on ++ [(q9, e0)])) co (ink T2)), (intC qc on)] H11 locs11 := by
    refine (hW11).perm (wperm (fun d x => ?_))
    have h9 : wTL (u1 μd on (nI 0 + 1)) (u1 Λd on (Λd on ++ [(q9, e0)])) co (ink T2) = wTL μd Λd co A9 ++ (llK q4 (nI 0 + 1) (0 + 1) ([] ++ [(q9, co e0)]) ++ wTL μd Λd co B9) := by
      rw [hi2, wTL_app, hke, u1_s, u1_s, hde, wTL_cg (μd := (u1 μd on (nI 0 + 1))) (μd' := μd) (Λd := (u1 Λd on ([] ++ [(q9, e0)]))) (Λd' := Λd) (K := A9) (fun y hy => ⟨u1_n _ _ (hnA y hy), by rw [← hde]; exact u1_n _ _ (hnA y hy)⟩), wTL_cg (μd := (u1 μd on (nI 0 + 1))) (μd' := μd) (Λd := (u1 Λd on ([] ++ [(q9, e0)]))) (Λd' := Λd) (K := B9) (fun y hy => ⟨u1_n _ _ (hnB y hy), by rw [← hde]; exact u1_n _ _ (hnB y hy)⟩)]
      show _ ++ (llK e9.2.2.2.1 _ _ _ ++ _) = _
      rw [he3]
      rfl
    simp only [List.flatten_cons, List.flatten_nil, List.count_append, List.count_nil, h9]
    omega
  clear hW11
  have hW13 : Ws G A s [[(ht, .inr (13, [.null, .null, .null, vr (tad T2), .int (nI ((ink T2).length)), .int (md + 1), .null, .null, .null]))], (tw none T2), (wTK (ink T2)), (wTL (u1 μd on (nI 0 + 1)) (u1 Λd on (Λd on ++ [(q9, e0)])) co (ink T2))] H11 locs11 := hW12.drop (S2 := [(intC qc on)]) rfl
  clear hW12
  have hok2 : tmOk G T2 (u1 Λd on (Λd on ++ [(q9, e0)])) := ⟨srt_ink.mpr hsr, hkeys, fun d9 => by
    by_cases hd9 : d9 = on
    · subst hd9; rw [u1_s]; exact ⟨fun _ => by simp, fun _ => ⟨nk e9, by rw [hi2]; simp, hke⟩⟩
    · rw [u1_n _ _ hd9, ← hok.2.2 d9, hi2, hi1]
      constructor
      · rintro ⟨x9, hx9, hx8⟩
        rcases List.mem_append.mp hx9 with h | h
        · exact ⟨x9, List.mem_append_left _ h, hx8⟩
        · rcases List.mem_cons.mp h with rfl | h
          · exact absurd (hx8.symm.trans hke) hd9
          · exact ⟨x9, List.mem_append_right _ h, hx8⟩
      · rintro ⟨x9, hx9, hx8⟩
        rcases List.mem_append.mp hx9 with h | h
        · exact ⟨x9, List.mem_append_left _ h, hx8⟩
        · exact ⟨x9, List.mem_append_right _ (List.mem_cons_of_mem _ h), hx8⟩⟩
  exact k_vret C hW13 rfl ⟨rfl, T2, md + 1, (u1 μd on (nI 0 + 1)), q9, hok2, rfl⟩ (by omega) (by omega) dX1_willCome_51

/-- what comes on a day stands last in that day's list -/
theorem cW_come (l : Launch) (G : GT) (h a1 hb hd hq hm an ar ht dy li od on e0 : Nat) (md : Int32) (μd : Nat → Int32) (Λd : Nat → List (Nat × Nat)) (co : Nat → Nat) (T : TT) (hon : on < 2 ^ 31) (hok : tmOk G T Λd) : Ct l G yX1_willCome cX1_willCome 3 none 10 271 6 16 [.ref h, .int (nI on), .ref (co e0)] [[(ht, .inr (13, [.null, .null, .null, vr (tad T), .int (nI ((ink T).length)), .int md, .null, .null, .null]))], (tw none T), (wTK (ink T)), (wTL μd Λd co (ink T))] (fun z => z = .inl (h, .inr (0, [.ref a1, .ref hb, .ref hd, .ref hq, .ref hm, .ref an, .ref ar, .ref ht, .int (nI dy), .int (nI li), .int (nI od)]))) (fun v S1 => v = none ∧ ∃ (T2 : TT) (md2 : Int32) (μ2 : Nat → Int32) (q9 : Nat), tmOk G T2 (u1 Λd on (Λd on ++ [(q9, e0)])) ∧ S1 = [[(ht, .inr (13, [.null, .null, .null, vr (tad T2), .int (nI ((ink T2).length)), .int md2, .null, .null, .null]))], (tw none T2), (wTK (ink T2)), (wTL μ2 (u1 Λd on (Λd on ++ [(q9, e0)])) co (ink T2))]) := by
  cases hf : tfind T on with
  | none => exact Ct.wide (by decide) (by decide) (by decide) (by decide) (ctX1_willCome_0 l G h a1 hb hd hq hm an ar ht dy li od on e0 md μd Λd co T hon hok hf)
  | some x1 => exact Ct.wide (by decide) (by decide) (by decide) (by decide) (ctX1_willCome_1 l G h a1 hb hd hq hm an ar ht dy li od on e0 md μd Λd co T x1 hon hok hf)
