theorem Sv.sends {σ : Sg} (h : Sv σ) {s n : Nat} (hs : s < 12) (hn : 0 < n) (hc : n ≤ countN σ 0 (σ 32 0)) : Sv (sendsF σ s n) := by
  obtain ⟨h1, h2, h3⟩ := h
  refine ⟨h1.sends hs (by omega), fun k hk => ?_, ?_⟩
  · rw [sends_o _ _ _ _ _ (by decide)] at hk ⊢
    exact h2 k hk
  · rw [sends_34, sends_o _ _ _ _ _ (by decide), sends_count]
    omega
/-- sending keeps what holds -/
theorem WF.sends {G : GT} {τ τ' : Sg} {Λ Λ' : Nat → Nat → List (Nat × Nat)} {T T' : TT} {σ ρ : Sg} {i c p s1 n1 p1 cx q9 : Nat} {L : List (Nat × Nat)} (h : WF G τ Λ T σ i c p)
    (hs1 : s1 < 12) (hn0 : 0 < n1) (hn1 : n1 ≤ countN σ 0 (σ 32 0)) (hn20 : n1 ≤ 20) (hρ : ρ = sendsF σ s1 n1) (hT : tmOk G T' (Λ' 2)) (hk : L.length = n1) (hp : p1 ≤ σ 32 0)
    (hf : sendsF σ s1 n1 = (sendL σ s1 n1 p1).2) (hc : countN σ 0 p1 = n1) (hm : ∀ j, j ∈ L.map (fun z => z.1) ↔ j < p1 ∧ σ 7 j = 0) (hnd : (L.map (fun z => z.1)).Nodup) (hok : aOk cx (L.map (fun z : Nat × Nat => τ 14 z.1)))
    (ht : ∀ f j, f ≠ 10 ∧ f ≠ 11 ∧ f ≠ 12 ∧ f ≠ 16 → τ' f j = τ f j) (ht12 : ∀ j, τ' 12 j = if j = σ 34 0 then cx else τ 12 j)
    (hL0 : Λ' 0 = Λ 0) (hL1 : Λ' 1 = Λ 1) (hL2 : Λ' 2 = u1 (Λ 2) (σ 30 0 + 1 + s1 % 6) (Λ 2 (σ 30 0 + 1 + s1 % 6) ++ [(q9, σ 34 0)])) (hL3 : Λ' 3 = u1 (Λ 3) (σ 34 0) L) :
    WF G τ' Λ' T' ρ i c p ∧ ∀ b, b < σ 32 0 → ρ 7 b = 1 ∨ ρ 7 b = σ 7 b := by
  have hsv : Sv ρ := by rw [hρ]; exact h.sv.sends hs1 hn0 hn1
  have ho : ∀ f j, f ≠ 7 ∧ f ≠ 8 ∧ f ≠ 10 ∧ f ≠ 12 ∧ f ≠ 13 ∧ f ≠ 14 ∧ f ≠ 34 → ρ f j = σ f j := fun f j q => by rw [hρ]; exact sends_o σ s1 n1 f j q
  have hb : ∀ b, ρ 7 b = (if b < p1 ∧ σ 7 b = 0 then 1 else σ 7 b) ∧ ρ 8 b = (if b < p1 ∧ σ 7 b = 0 then s1 else σ 8 b) ∧ ρ 10 b = (if b < p1 ∧ σ 7 b = 0 then σ 34 0 else σ 10 b) := fun b => by rw [hρ]; exact sends_brd hf hc b
  have he : ∀ f j, f = 12 ∨ f = 13 ∨ f = 14 → ρ f j = if j = σ 34 0 then (if f = 12 then σ 30 0 + 1 + s1 % 6 else if f = 13 then 1 else s1) else σ f j := fun f j q => by rw [hρ]; exact sends_ev σ s1 n1 f j q
  have h34 : ρ 34 0 = σ 34 0 + 1 := by rw [hρ]; exact sends_34 σ s1 n1
  have hcnt : countN ρ 0 (ρ 32 0) = countN σ 0 (σ 32 0) - n1 := by rw [hρ, sends_o _ _ _ _ _ (by decide)]; exact sends_count σ s1 n1
  clear hρ hf
  have h32 := ho 32 0 (by decide)
  have h30 := ho 30 0 (by decide)
  have h36 := ho 36 0 (by decide)
  have h35 := ho 35 0 (by decide)
  have hn2 := fun b => (hb b).1
  have hn8 := fun b => (hb b).2.1
  have hn10 := fun b => (hb b).2.2
  have hpe : ∀ e, e < σ 34 0 → (pend ρ i e ↔ pend σ i e) := fun e hlt => by
    unfold pend
    rw [he 12 e (by simp), if_neg (by omega), h30]
  have hg : ∀ s, gsL ρ s (ρ 36 0) = gsL σ s (σ 36 0) := fun s => by rw [h36]; exact gsL_cg (fun f q j => ho f j (by rcases q with rfl | rfl | rfl | rfl <;> decide))
  refine ⟨⟨hsv, ?_, ?_, ?_, hT, ?_, ?_, ?_, ?_, ?_, ?_, ?_, ?_, ?_, ?_, ?_, ?_, ?_, ?_, ?_, ?_, ?_, ?_⟩, fun b hbn => by rw [hn2]; split; exact Or.inl rfl; exact Or.inr rfl⟩
  · rw [h32, ht 13 1 (by decide), fam_cg (g := τ 14) (fun j _ => ht 14 j (by decide))]
    exact h.cB
  · rw [h36, ht 13 3 (by decide), fam_cg (g := τ 15) (fun j _ => ht 15 j (by decide))]
    exact h.cM
  · unfold dOk
    rw [h35, ht 13 5 (by decide), ht 13 6 (by decide)]
    exact h.dq
  · intro s hs
    rw [hL1, ht 9 s (by decide)]
    exact h.pr s hs
  · intro s hs
    rw [hL0]
    refine ⟨(h.ly s hs).1, fun b => ?_⟩
    rw [(h.ly s hs).2 b, h32, hn2, hn8]
    by_cases q : b < p1 ∧ σ 7 b = 0
    · rw [if_pos q, if_pos q, q.2]
      simp
    · rw [if_neg q, if_neg q]
  · intro b hbn
    rw [h32] at hbn
    have g := h.bd b hbn
    have h8 := (hn8 b).symm
    unfold bdOk at g ⊢
    rw [hL1, hn2 b, hn8 b, ho 5 b (by decide), ho 6 b (by decide), ho 11 b (by decide), ht 0 b (by decide), ht 1 b (by decide)]
    by_cases q : b < p1 ∧ σ 7 b = 0
    · rw [if_pos q, if_pos q]
      obtain ⟨g1, g2, g3, g4, g5, g6, g7, g8, g9, g10⟩ := g
      rw [q.2] at g1 g3 g7
      have hz := g3 (Or.inl (by decide))
      refine ⟨⟨g1.1, g1.2.1, by rw [hz]; decide⟩, (fun e => absurd e (by decide)), fun _ => hz, (fun e => absurd e (by decide)), Or.inr hs1, fun e => ?_, fun _ => g7 (by decide), (fun e => absurd e (by decide)), (fun e => absurd e (by decide)), (fun e => absurd e (by decide))⟩
      rw [e] at hs1
      exact absurd hs1 (by decide)
    · rw [if_neg q, if_neg q, ho 4 _ (by decide)]
      exact g
  · intro s hs
    have g := h.ms s hs
    unfold msOk at g ⊢
    rw [hg, h36, ht 5 s (by decide), ht 3 s (by decide), ht 2 s (by decide), ho 2 s (by decide)]
    exact g
  · intro j
    rw [h36, ho 25 j (by decide), ho 24 j (by decide), unw_cg (ρ := σ) (fun m _ => ho 23 m (by decide))]
    exact h.nt j
  · intro d
    rw [hL2, h30, h34, filt_snoc, List.filter_congr (q := fun e => decide (σ 12 e = d)) (fun e hme => by rw [he 12 e (by simp), if_neg (by have := List.mem_range.mp hme; omega)]), he 12 (σ 34 0) (by simp), if_pos rfl, if_pos rfl]
    by_cases q : d = σ 30 0 + 1 + s1 % 6
    · subst q
      rw [u1_s, List.map_append, h.ev, if_pos (by omega), if_pos (by omega)]
      simp
    · have q2 : ¬ (σ 30 0 + 1 + s1 % 6 = d) := fun e => q e.symm
      rw [u1_n _ _ q, h.ev]
      simp [q2]
  · intro e hlt h13
    rw [he 13 e (by simp)] at h13
    by_cases q : e = σ 34 0
    · rw [if_pos q] at h13; simp at h13
    · rw [if_neg q] at h13
      rw [he 14 e (by simp), if_neg q]
      exact h.e0 e (by omega) h13
  · intro e hlt h13
    rw [he 13 e (by simp)] at h13
    unfold snOk
    rw [he 14 e (by simp), hL3, h32, ht12 e]
    have hfm : (fun z : Nat × Nat => τ' 14 z.1) = fun z => τ 14 z.1 := by funext z; exact ht 14 z.1 (by decide)
    rw [hfm]
    by_cases q : e = σ 34 0
    · subst q
      rw [if_pos rfl, if_pos rfl, u1_s]
      refine ⟨hs1, hok, by omega, hnd, fun b hbm => ?_, fun b hbn h7 h10 => ?_⟩
      · have := (hm b).mp hbm
        exact ⟨by omega, by rw [hn2, if_pos this]; decide, fun _ => by rw [hn10, if_pos this]⟩
      · rw [hn2] at h7
        rw [hn10] at h10
        rw [hn8]
        by_cases q : b < p1 ∧ σ 7 b = 0
        · exact ⟨(hm b).mpr q, by rw [if_pos q]; rfl⟩
        · rw [if_neg q] at h7 h10
          have := h.e5 b hbn h7
          omega
    · rw [if_neg q] at h13
      rw [if_neg q, if_neg q, u1_n _ _ q]
      obtain ⟨g1, g2, g3, g4, g5, g6⟩ := h.e1 e (by omega) h13
      refine ⟨g1, g2, g3, g4, fun b hbm => ?_, fun b hbn h7 h10 => ?_⟩
      · obtain ⟨k1, k2, k3⟩ := g5 b hbm
        have hq : ¬ (b < p1 ∧ σ 7 b = 0) := fun q => k2 q.2
        rw [hn2, hn10, if_neg hq, if_neg hq]
        exact ⟨k1, k2, k3⟩
      · rw [hn2] at h7
        rw [hn10] at h10
        rw [hn8]
        by_cases q2 : b < p1 ∧ σ 7 b = 0
        · rw [if_pos q2] at h10
          exact absurd h10.symm q
        · rw [if_neg q2] at h7 h10 ⊢
          exact g6 b hbn h7 h10
  · intro e hlt h13
    rw [he 13 e (by simp)] at h13
    by_cases q : e = σ 34 0
    · rw [if_pos q] at h13; simp at h13
    · rw [if_neg q] at h13
      have hlt2 : e < σ 34 0 := by omega
      rw [hpe e hlt2, he 14 e (by simp), if_neg q, h36, ho 21 _ (by decide), ho 22 _ (by decide), he 12 e (by simp), if_neg q]
      exact h.e2 e hlt2 h13
  · intro e f hef hlt h13 h13f
    rw [he 13 e (by simp)] at h13
    rw [he 13 f (by simp)] at h13f
    by_cases q : f = σ 34 0
    · rw [if_pos q] at h13f; simp at h13f
    · rw [if_neg q] at h13f
      rw [if_neg (by omega)] at h13
      rw [he 14 e (by simp), he 14 f (by simp), if_neg q, if_neg (by omega)]
      exact h.e3 e f hef (by omega) h13 h13f
  · intro m hmm
    rw [h36] at hmm
    obtain ⟨e, k1, k2, k3⟩ := h.e4 m hmm
    exact ⟨e, by omega, by rw [he 13 e (by simp), if_neg (by omega)]; exact k2, by rw [he 14 e (by simp), if_neg (by omega)]; exact k3⟩
  · intro b hbn h7
    rw [hn2] at h7
    rw [hn10, h34]
    by_cases q : b < p1 ∧ σ 7 b = 0
    · rw [if_pos q]; omega
    · rw [if_neg q] at h7 ⊢
      have := h.e5 b (by omega) h7
      omega
  · rw [h32, h34, ho 33 0 (by decide)]
    have e1 : pcut ρ i (σ 34 0 + 1) = pcut ρ i (σ 34 0) + (if ρ 13 (σ 34 0) = 0 ∧ pend ρ i (σ 34 0) then ρ 14 (σ 34 0) else 0) := rfl
    rw [e1, he 13 _ (by simp), if_pos rfl, if_neg (by simp), Nat.add_zero, pcut_cg (ρ := σ) (fun f q j hj => by rw [he f j q, if_neg (by omega)]) h30]
    exact h.n0
  · rw [hcnt, h34, h32]
    have := h.n1
    omega
  · rw [h35, h36, nin_cg (ρ := σ) (fun m _ => ho 22 m (by decide))]
    exact h.n2
  · intro b hbn
    rw [he 13 b (by simp)]
    by_cases q : b = σ 34 0
    · rw [if_pos q]; simp
    · rw [if_neg q]; exact h.nd b (by omega)
  · intro b hb9
    rw [ho 32 0 (by decide)] at hb9
    rw [ho 5 b (by decide), ho 6 b (by decide), ho 11 b (by decide)]
    exact h.bz b hb9
  · intro m hm9
    rw [ho 36 0 (by decide)] at hm9
    rw [ho 22 m (by decide), ho 23 m (by decide)]
    exact h.mz m hm9
