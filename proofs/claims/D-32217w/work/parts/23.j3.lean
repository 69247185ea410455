def Q_ctJ8_remove (G : GT) (a n o0 f0 l0 k : Nat) (md : Int32) (i t : List (Nat × Nat)) (fs : List Value) : Option Value → List va_W → Prop := fun v S1 => v = some (.int (nI 1)) ∧ S1.flatten.Perm (llK a (md + 1) k (i ++ t))
set_option maxHeartbeats 4000000 in
set_option maxRecDepth 100000 in
theorem ctJ8_remove (l : Launch) (G : GT) (a n o0 f0 l0 k : Nat) (md : Int32) (i t : List (Nat × Nat)) (fs : List Value) (hk : k < 2 ^ 30) (hlen : i.length + t.length = k) (hf : hdo i (some n) = some f0) (hl0 : lst t (some n) = some l0) (ho : ∀ z ∈ i, z.2 ≠ o0) : Ct l G yJ8_remove cJ8_remove 3 (some .boolean) 1 24 0 0 [.ref a, .ref o0] ([[(a, .inr (14, [.int md, .int (nI (k + 1)), .ref f0, .ref l0]))], (llG none (i ++ (n, o0) :: t) none)]) ((fun z => z = .inl (o0, .inr (4, fs)))) (Q_ctJ8_remove G a n o0 f0 l0 k md i t fs) := by
  refine Ct.of (by decide +kernel) (Nat.le_of_ble_eq_true rfl) ?_
  intro p e s m below meth c A ls C hW hRo hl
  have hl : lv_has ls 3 [(0, .ref a), (1, .ref o0)] := hl
  refine lv_aload_n C.hx C.hb dJ8_remove_0 rfl (lv_at hl 1 rfl) ?_
  refine lv_ifnonnull (tgt := 39) C.hx C.hb dJ8_remove_1 (by decide) ?_
  refine lv_aload_n C.hx C.hb dJ8_remove_39 rfl (lv_at hl 0 rfl) ?_
  refine k_get (v := .ref f0) C clJ8 (hW.get 0 0 rfl rfl) 2 (Nat.le_of_ble_eq_true rfl) rfl q265 rfl rfl dJ8_remove_40 ?_
  refine lv_astore_n (lv' := [(2, .ref f0), (0, .ref a), (1, .ref o0)]) C.hx C.hb dJ8_remove_43 rfl hl (Nat.le_of_ble_eq_true rfl) rfl (fun ls1 hl1 => ?_)
  clear hl
  have La : ∀ (k2 : Nat) (i1 t1 : List (Nat × Nat)) (n1 x1 : Nat), (i ++ (n, o0) :: t = i1 ++ (n1, x1) :: t1) → (i1.length ≤ i.length) → i.length + 1 - i1.length < k2 → ∀ (H2 : Heap) (locs2 : List Loc) (ls2 : Array Slot), Ws G A s ([[(a, .inr (14, [.int md, .int (nI (k + 1)), .ref f0, .ref l0]))], (llG none (i ++ (n, o0) :: t) none)]) H2 locs2 → lv_has ls2 3 [(2, .ref n1), (0, .ref a), (1, .ref o0)] → W p l e ({ frames := 1, cells := 0, slots := 0, locals := 24 } : Room) s m ([.ref a, .ref o0] : List Value).toArray below meth c H2 locs2 0 0 (MQ below (cQ G A (Q_ctJ8_remove G a n o0 f0 l0 k md i t fs)) ([.ref a, .ref o0] : List Value).toArray s 0 0 A) (F0 m 44 ls2 []) := by
    intro k2
    induction k2 with
    | zero => intro i1 t1 n1 x1 hLa_0 hLa_1 hm2; exact absurd hm2 (Nat.not_lt_zero _)
    | succ k2 ih2 =>
      intro i1 t1 n1 x1 hLa_0 hLa_1 hm2 H2 locs2 ls2 hW2 hl2
      refine lv_aload_n C.hx C.hb dJ8_remove_44 rfl (lv_at hl2 0 rfl) ?_
      refine lv_ifnull C.hx C.hb dJ8_remove_45 ?_
      refine lv_aload_n C.hx C.hb dJ8_remove_48 rfl (lv_at hl2 2 rfl) ?_
      refine lv_aload_n C.hx C.hb dJ8_remove_49 rfl (lv_at hl2 0 rfl) ?_
      refine k_get (v := .ref x1) C clJ30 (hW2.mem (seg_memP (i := 1) rfl (by rw [hLa_0]; exact llG_mem i1 t1 n1 x1 none none))) 0 (Nat.le_of_ble_eq_true rfl) rfl q1713 rfl rfl dJ8_remove_50 ?_
      refine k_callU (owner := "java/lang/Object") (Sc := []) (Sr := [[(a, .inr (14, [.int md, .int (nI (k + 1)), .ref f0, .ref l0]))], (llG none (i ++ (n, o0) :: t) none)]) (As := [.ref x1]) (rest := []) C (ctJ39_equals l G o0 x1) hW2 clX5 ((hRo _ rfl).at hW2) q2014 q2016 q2018 q2015 q2674 q2039 rfl rfl ⟨by decide, by decide, Eq.trans (b := some 1) (by decide +kernel) rfl⟩ (Nat.le_of_ble_eq_true rfl) (Nat.le_of_ble_eq_true rfl) (Nat.le_refl _) (Nat.le_refl _) hl2.1 rfl (Nat.le_of_ble_eq_true rfl) dJ8_remove_53 (k_permR _) (fun _ h => h.elim) (fun v H3 locs3 S1 hQ hz3 hW3 => ?_)
      obtain ⟨rfl, rfl⟩ := hQ
      have hW3 : Ws G A s ([[(a, .inr (14, [.int md, .int (nI (k + 1)), .ref f0, .ref l0]))], (llG none (i ++ (n, o0) :: t) none)]) H3 locs3 := hW3
      clear hW2
      refine W.eq (g2 := F0 m 56 ls2 [.int (b01 (o0 = x1))]) rfl ?_
      refine kb_if_eq (tgt := 67) C dJ8_remove_56 (by decide) (fun c56 => ?_) (fun c56 => ?_)
      · refine lv_aload_n C.hx C.hb dJ8_remove_67 rfl (lv_at hl2 0 rfl) ?_
        refine k_get (v := vr (hdo t1 none)) C clJ30 (hW3.mem (seg_memP (i := 1) rfl (by rw [hLa_0]; exact llG_mem i1 t1 n1 x1 none none))) 1 (Nat.le_of_ble_eq_true rfl) rfl q1716 rfl rfl dJ8_remove_68 ?_
        have hne : i1.length ≠ i.length := fun q => by
          obtain ⟨_, hab, _⟩ := app_same hLa_0 q
          cases hab
          exact c56 rfl
        rcases t1 with _ | ⟨⟨n2, x2⟩, t2⟩
        · exact absurd (congrArg List.length hLa_0) (by simp; omega)
        refine W.eq (g2 := F0 m 71 ls2 [.ref n2]) rfl ?_
        refine lv_astore_n (lv' := [(2, .ref n2), (0, .ref a), (1, .ref o0)]) C.hx C.hb dJ8_remove_71 rfl hl2 (Nat.le_of_ble_eq_true rfl) rfl (fun ls4 hl4 => ?_)
        clear hl2
        refine lv_goto (tgt := 44) C.hx C.hb dJ8_remove_72 (by decide) ?_
        exact ih2 (i1 ++ [(n1, x1)]) t2 n2 x2 (by rw [hLa_0]; simp) (by have := congrArg List.length hLa_0; simp at this ⊢; omega) (by simp; have := congrArg List.length hLa_0; simp at this; omega) _ _ _ hW3 (lv_sub hl4 [0, 1, 2] rfl)
      · refine lv_aload_n C.hx C.hb dJ8_remove_59 rfl (lv_at hl2 1 rfl) ?_
        refine lv_aload_n C.hx C.hb dJ8_remove_60 rfl (lv_at hl2 0 rfl) ?_
        have hsame : i1.length = i.length := by
          rcases Nat.lt_or_ge i1.length i.length with q | q
          · exact absurd c56.symm (ho _ (app_in hLa_0 q))
          · omega
        obtain ⟨rfl, hab, rfl⟩ := app_same hLa_0 hsame
        cases hab
        rcases nil_snoc i1 with rfl | ⟨i0, ⟨m1, y1⟩, rfl⟩
        · rcases t1 with _ | ⟨⟨m2, y2⟩, t0⟩
          · cases (show some n = some f0 from hf)
            cases (show some n = some l0 from hl0)
            have hW5 : Ws G A s [[(a, .inr (14, [.int md, .int (nI (k + 1)), .ref n, .ref n]))], [(n, .inr (19, [.ref o0, .null, .null]))]] H3 locs3 := by
              refine (hW3).perm ?_
              exact wperm (fun d x => by simp [llG_app, llG_cons, llG_nil, hdo_nil, hdo_cons, lst_nil, lst_cons, hdo_app, lst_app, vr_n, vr_s, List.count_append, List.count_cons, List.flatten_cons, List.flatten_nil]; try omega)
            clear hW3
            refine k_callV (Sc := [[(a, .inr (14, [.int md, .int (nI (k + 1)), .ref n, .ref n]))], [(n, .inr (19, [.ref o0, .null, .null]))]]) (Sr := []) (As := [.ref n]) (rest := []) C (ctJ8_unlink_00 l G a n o0 k 0 0 0 0 md none none none none) hW5 clJ8 (hW5.get 0 0 rfl rfl) q2009 q2010 q2011 q82 q2012 rfl rfl ⟨by decide, by decide, Eq.trans (b := some 1) (by decide +kernel) rfl⟩ (Nat.le_of_ble_eq_true rfl) (Nat.le_of_ble_eq_true rfl) (Nat.le_refl _) (Nat.le_refl _) hl2.1 rfl (Nat.le_of_ble_eq_true rfl) dJ8_remove_61 ((pick_perm [[(a, .inr (14, [.int md, .int (nI (k + 1)), .ref n, .ref n]))], [(n, .inr (19, [.ref o0, .null, .null]))]] 2 rfl (is := [0, 1]) (by decide)).flatten.symm) (fun _ h => h.elim) (fun v H6 locs6 S1 hQ hz6 hW6 => ?_)
            obtain ⟨rfl, rfl⟩ := hQ
            have hW6 : Ws G A s ([[(a, .inr (14, [.int (md + 1), .int (nI k), .null, .null]))]]) H6 locs6 := hW6
            clear hW5
            refine W.eq (g2 := F0 m 64 ls2 [.ref o0]) rfl ?_
            refine lv_pop C.hx C.hb dJ8_remove_64 rfl ?_
            refine kn_iconst (a := 1) C (by decide) dJ8_remove_65 ?_
            exact k_zret C hW6 rfl (by decide) ⟨rfl, wperm (fun d x => by simp [llK, llG_app, llG_cons, llG_nil, hdo_nil, hdo_cons, lst_nil, lst_cons, hdo_app, lst_app, vr_n, vr_s, List.count_append, List.count_cons, List.flatten_cons, List.flatten_nil]; try omega)⟩ (Nat.le_refl _) (Nat.le_refl _) dJ8_remove_66
          · cases (show some n = some f0 from hf)
            have hl9 : lst t0 (some m2) = some l0 := hl0
            have hll : Value.ref l0 = vr (lst t0 (some m2)) := by rw [hl9]; rfl
            have hW7 : Ws G A s [[(a, .inr (14, [.int md, .int (nI (k + 1)), .ref n, vr (lst t0 (some m2))]))], [(n, .inr (19, [.ref o0, .ref m2, .null]))], [(m2, .inr (19, [.ref y2, vr (hdo t0 none), .ref n]))], (llG (some m2) t0 none)] H3 locs3 := by
              refine (hW3).perm ?_
              rw [hll]
              exact wperm (fun d x => by simp [llG_app, llG_cons, llG_nil, hdo_nil, hdo_cons, lst_nil, lst_cons, hdo_app, lst_app, vr_n, vr_s, List.count_append, List.count_cons, List.flatten_cons, List.flatten_nil]; try omega)
            clear hW3
            refine k_callV (Sc := [[(a, .inr (14, [.int md, .int (nI (k + 1)), .ref n, vr (lst t0 (some m2))]))], [(n, .inr (19, [.ref o0, .ref m2, .null]))], [(m2, .inr (19, [.ref y2, vr (hdo t0 none), .ref n]))]]) (Sr := [(llG (some m2) t0 none)]) (As := [.ref n]) (rest := []) C (ctJ8_unlink_01 l G a n o0 k 0 0 m2 y2 md none (lst t0 (some m2)) none (hdo t0 none)) hW7 clJ8 (hW7.get 0 0 rfl rfl) q2009 q2010 q2011 q82 q2012 rfl rfl ⟨by decide, by decide, Eq.trans (b := some 1) (by decide +kernel) rfl⟩ (Nat.le_of_ble_eq_true rfl) (Nat.le_of_ble_eq_true rfl) (Nat.le_refl _) (Nat.le_refl _) hl2.1 rfl (Nat.le_of_ble_eq_true rfl) dJ8_remove_61 ((pick_perm [[(a, .inr (14, [.int md, .int (nI (k + 1)), .ref n, vr (lst t0 (some m2))]))], [(n, .inr (19, [.ref o0, .ref m2, .null]))], [(m2, .inr (19, [.ref y2, vr (hdo t0 none), .ref n]))], (llG (some m2) t0 none)] 4 rfl (is := [3, 0, 1, 2]) (by decide)).flatten.symm) (fun _ h => h.elim) (fun v H8 locs8 S1 hQ hz8 hW8 => ?_)
            obtain ⟨rfl, rfl⟩ := hQ
            have hW8 : Ws G A s ([(llG (some m2) t0 none), [(a, .inr (14, [.int (md + 1), .int (nI k), .ref m2, vr (lst t0 (some m2))]))], [(m2, .inr (19, [.ref y2, vr (hdo t0 none), .null]))]]) H8 locs8 := hW8
            clear hW7
            refine W.eq (g2 := F0 m 64 ls2 [.ref o0]) rfl ?_
            refine lv_pop C.hx C.hb dJ8_remove_64 rfl ?_
            refine kn_iconst (a := 1) C (by decide) dJ8_remove_65 ?_
            exact k_zret C hW8 rfl (by decide) ⟨rfl, wperm (fun d x => by simp [llK, llG_app, llG_cons, llG_nil, hdo_nil, hdo_cons, lst_nil, lst_cons, hdo_app, lst_app, vr_n, vr_s, List.count_append, List.count_cons, List.flatten_cons, List.flatten_nil]; try omega)⟩ (Nat.le_refl _) (Nat.le_refl _) dJ8_remove_66
        · rcases t1 with _ | ⟨⟨m2, y2⟩, t0⟩
          · have hf9 : hdo i0 (some m1) = some f0 := by simpa [hdo_app, hdo_cons] using hf
            have hff : Value.ref f0 = vr (hdo i0 (some m1)) := by rw [hf9]; rfl
            cases (show some n = some l0 from hl0)
            have hW9 : Ws G A s [[(a, .inr (14, [.int md, .int (nI (k + 1)), vr (hdo i0 (some m1)), .ref n]))], [(n, .inr (19, [.ref o0, .null, .ref m1]))], [(m1, .inr (19, [.ref y1, .ref n, vr (lst i0 none)]))], (llG none i0 (some m1))] H3 locs3 := by
              refine (hW3).perm ?_
              rw [hff]
              exact wperm (fun d x => by simp [llG_app, llG_cons, llG_nil, hdo_nil, hdo_cons, lst_nil, lst_cons, hdo_app, lst_app, vr_n, vr_s, List.count_append, List.count_cons, List.flatten_cons, List.flatten_nil]; try omega)
            clear hW3
            refine k_callV (Sc := [[(a, .inr (14, [.int md, .int (nI (k + 1)), vr (hdo i0 (some m1)), .ref n]))], [(n, .inr (19, [.ref o0, .null, .ref m1]))], [(m1, .inr (19, [.ref y1, .ref n, vr (lst i0 none)]))]]) (Sr := [(llG none i0 (some m1))]) (As := [.ref n]) (rest := []) C (ctJ8_unlink_10 l G a n o0 k m1 y1 0 0 md (hdo i0 (some m1)) none (lst i0 none) none) hW9 clJ8 (hW9.get 0 0 rfl rfl) q2009 q2010 q2011 q82 q2012 rfl rfl ⟨by decide, by decide, Eq.trans (b := some 1) (by decide +kernel) rfl⟩ (Nat.le_of_ble_eq_true rfl) (Nat.le_of_ble_eq_true rfl) (Nat.le_refl _) (Nat.le_refl _) hl2.1 rfl (Nat.le_of_ble_eq_true rfl) dJ8_remove_61 ((pick_perm [[(a, .inr (14, [.int md, .int (nI (k + 1)), vr (hdo i0 (some m1)), .ref n]))], [(n, .inr (19, [.ref o0, .null, .ref m1]))], [(m1, .inr (19, [.ref y1, .ref n, vr (lst i0 none)]))], (llG none i0 (some m1))] 4 rfl (is := [3, 0, 1, 2]) (by decide)).flatten.symm) (fun _ h => h.elim) (fun v H10 locs10 S1 hQ hz10 hW10 => ?_)
            obtain ⟨rfl, rfl⟩ := hQ
            have hW10 : Ws G A s ([(llG none i0 (some m1)), [(a, .inr (14, [.int (md + 1), .int (nI k), vr (hdo i0 (some m1)), .ref m1]))], [(m1, .inr (19, [.ref y1, .null, vr (lst i0 none)]))]]) H10 locs10 := hW10
            clear hW9
            refine W.eq (g2 := F0 m 64 ls2 [.ref o0]) rfl ?_
            refine lv_pop C.hx C.hb dJ8_remove_64 rfl ?_
            refine kn_iconst (a := 1) C (by decide) dJ8_remove_65 ?_
            exact k_zret C hW10 rfl (by decide) ⟨rfl, wperm (fun d x => by simp [llK, llG_app, llG_cons, llG_nil, hdo_nil, hdo_cons, lst_nil, lst_cons, hdo_app, lst_app, vr_n, vr_s, List.count_append, List.count_cons, List.flatten_cons, List.flatten_nil]; try omega)⟩ (Nat.le_refl _) (Nat.le_refl _) dJ8_remove_66
          · have hf9 : hdo i0 (some m1) = some f0 := by simpa [hdo_app, hdo_cons] using hf
            have hff : Value.ref f0 = vr (hdo i0 (some m1)) := by rw [hf9]; rfl
            have hl9 : lst t0 (some m2) = some l0 := hl0
            have hll : Value.ref l0 = vr (lst t0 (some m2)) := by rw [hl9]; rfl
            have hW11 : Ws G A s [[(a, .inr (14, [.int md, .int (nI (k + 1)), vr (hdo i0 (some m1)), vr (lst t0 (some m2))]))], [(n, .inr (19, [.ref o0, .ref m2, .ref m1]))], [(m1, .inr (19, [.ref y1, .ref n, vr (lst i0 none)]))], [(m2, .inr (19, [.ref y2, vr (hdo t0 none), .ref n]))], (llG none i0 (some m1)), (llG (some m2) t0 none)] H3 locs3 := by
              refine (hW3).perm ?_
              rw [hff, hll]
              exact wperm (fun d x => by simp [llG_app, llG_cons, llG_nil, hdo_nil, hdo_cons, lst_nil, lst_cons, hdo_app, lst_app, vr_n, vr_s, List.count_append, List.count_cons, List.flatten_cons, List.flatten_nil]; try omega)
            clear hW3
            refine k_callV (Sc := [[(a, .inr (14, [.int md, .int (nI (k + 1)), vr (hdo i0 (some m1)), vr (lst t0 (some m2))]))], [(n, .inr (19, [.ref o0, .ref m2, .ref m1]))], [(m1, .inr (19, [.ref y1, .ref n, vr (lst i0 none)]))], [(m2, .inr (19, [.ref y2, vr (hdo t0 none), .ref n]))]]) (Sr := [(llG none i0 (some m1)), (llG (some m2) t0 none)]) (As := [.ref n]) (rest := []) C (ctJ8_unlink_11 l G a n o0 k m1 y1 m2 y2 md (hdo i0 (some m1)) (lst t0 (some m2)) (lst i0 none) (hdo t0 none)) hW11 clJ8 (hW11.get 0 0 rfl rfl) q2009 q2010 q2011 q82 q2012 rfl rfl ⟨by decide, by decide, Eq.trans (b := some 1) (by decide +kernel) rfl⟩ (Nat.le_of_ble_eq_true rfl) (Nat.le_of_ble_eq_true rfl) (Nat.le_refl _) (Nat.le_refl _) hl2.1 rfl (Nat.le_of_ble_eq_true rfl) dJ8_remove_61 ((pick_perm [[(a, .inr (14, [.int md, .int (nI (k + 1)), vr (hdo i0 (some m1)), vr (lst t0 (some m2))]))], [(n, .inr (19, [.ref o0, .ref m2, .ref m1]))], [(m1, .inr (19, [.ref y1, .ref n, vr (lst i0 none)]))], [(m2, .inr (19, [.ref y2, vr (hdo t0 none), .ref n]))], (llG none i0 (some m1)), (llG (some m2) t0 none)] 6 rfl (is := [4, 5, 0, 1, 2, 3]) (by decide)).flatten.symm) (fun _ h => h.elim) (fun v H12 locs12 S1 hQ hz12 hW12 => ?_)
            obtain ⟨rfl, rfl⟩ := hQ
            have hW12 : Ws G A s ([(llG none i0 (some m1)), (llG (some m2) t0 none), [(a, .inr (14, [.int (md + 1), .int (nI k), vr (hdo i0 (some m1)), vr (lst t0 (some m2))]))], [(m1, .inr (19, [.ref y1, .ref m2, vr (lst i0 none)]))], [(m2, .inr (19, [.ref y2, vr (hdo t0 none), .ref m1]))]]) H12 locs12 := hW12
            clear hW11
            refine W.eq (g2 := F0 m 64 ls2 [.ref o0]) rfl ?_
            refine lv_pop C.hx C.hb dJ8_remove_64 rfl ?_
            refine kn_iconst (a := 1) C (by decide) dJ8_remove_65 ?_
            exact k_zret C hW12 rfl (by decide) ⟨rfl, wperm (fun d x => by simp [llK, llG_app, llG_cons, llG_nil, hdo_nil, hdo_cons, lst_nil, lst_cons, hdo_app, lst_app, vr_n, vr_s, List.count_append, List.count_cons, List.flatten_cons, List.flatten_nil]; try omega)⟩ (Nat.le_refl _) (Nat.le_refl _) dJ8_remove_66
  obtain ⟨n9, x9, t9, h9, hn9⟩ : ∃ (n9 x9 : Nat) (t9 : List (Nat × Nat)), i ++ (n, o0) :: t = (n9, x9) :: t9 ∧ n9 = f0 := by
    cases i with
    | nil => exact ⟨n, o0, t, rfl, Option.some.inj hf⟩
    | cons z i2 => exact ⟨z.1, z.2, i2 ++ (n, o0) :: t, rfl, Option.some.inj hf⟩
  have e13 : (.ref n9 : Value) = (.ref f0 : Value) := by rw [hn9]
  exact La (i.length + 1 - ([]).length + 1) ([]) t9 n9 x9 h9 (Nat.zero_le _) (Nat.lt_succ_self _) _ _ _ hW (by rw [e13]; exact (lv_sub hl1 [0, 1, 2] rfl))
