/-! ===== B 10: a board is cut ===== -/
theorem dpP_cut (σ : Sg) (k : Nat) : dpP (cutB k σ) = bset (dpP σ) (σ 32 0) true := by
  funext j
  unfold dpP bset cutB
  by_cases e : j = σ 32 0
  · subst e; simp [s2_rd]
  · have q : (j < σ 32 0 + 1) = (j < σ 32 0) := propext (by omega)
    simp [s2_rd, e, q]
theorem cutB_rd (σ : Sg) (k f j : Nat) : cutB k σ f j = if f = 32 then (if j = 0 then σ 32 0 + 1 else σ 32 j) else if j = σ 32 0 then (if f = 7 then 0 else if f = 8 then NONE else if f = 9 then σ 30 0 else σ f j) else σ f j := by
  unfold cutB
  simp only [s2_rd]
  by_cases h1 : f = 32
  · subst h1; simp
  · by_cases h2 : j = σ 32 0
    · by_cases h3 : f = 7
      · subst h3; simp [h2]
      · by_cases h4 : f = 8
        · subst h4; simp [h2]
        · by_cases h5 : f = 9
          · subst h5; simp [h2]
          · simp [h1, h2, h3, h4, h5]
    · simp [h1, h2]
theorem WF.cut {G : GT} {τ τ' : Sg} {Λ : Nat → Nat → List (Nat × Nat)} {T : TT} {σ : Sg} {i c p k : Nat} (h : WF G τ Λ T σ i c p) (hlt : σ 32 0 < 200) (hs : σ 32 0 + 1 + pcut σ i (σ 34 0) ≤ σ 33 0)
    (hA : aOk (τ' 13 1) (fam (τ' 14) (σ 32 0 + 1))) (ht : ∀ f j, (f ≠ 13 ∨ (j ≠ 0 ∧ j ≠ 1)) → ((f ≠ 14 ∧ f ≠ 0 ∧ f ≠ 1) ∨ j ≠ σ 32 0) → τ' f j = τ f j) (h0 : τ' 0 (σ 32 0) = 0) (h1 : τ' 1 (σ 32 0) = NONE) :
    WF G τ' Λ T (cutB k σ) i c p := by
  have hcl := count_le σ 0 (σ 32 0)
  have hn1 := h.n1
  have hsv : Sv (cutB k σ) := h.sv.cuts (n := 1) (by omega) (by omega)
  have ho : ∀ f j, f ≠ 7 ∧ f ≠ 8 ∧ f ≠ 9 ∧ f ≠ 32 → cutB k σ f j = σ f j := fun f j q => cut_o q
  have h32 : cutB k σ 32 0 = σ 32 0 + 1 := by rw [cutB_rd]; simp
  have h7 : ∀ b, cutB k σ 7 b = if b = σ 32 0 then 0 else σ 7 b := fun b => by rw [cutB_rd]; simp
  have h8 : ∀ b, cutB k σ 8 b = if b = σ 32 0 then NONE else σ 8 b := fun b => by rw [cutB_rd]; simp
  have hcnt : countN (cutB k σ) 0 (σ 32 0 + 1) = countN σ 0 (σ 32 0) + 1 := (cuts_count σ (h.sv.1.2.2.2.2) 1).1
  generalize hρ : cutB k σ = ρ at *
  clear hρ
  have ht' : ∀ f j, f ≠ 13 → (f ≠ 14 ∧ f ≠ 0 ∧ f ≠ 1) → τ' f j = τ f j := fun f j q1 q2 => ht f j (Or.inl q1) (Or.inl q2)
  have hg : ∀ s, gsL ρ s (ρ 36 0) = gsL σ s (σ 36 0) := fun s => by rw [ho 36 0 (by decide)]; exact gsL_cg (fun f q j => ho f j (by rcases q with rfl | rfl | rfl | rfl <;> decide))
  have hpe : ∀ e, pend ρ i e ↔ pend σ i e := fun e => by unfold pend; rw [ho 12 e (by decide), ho 30 0 (by decide)]
  refine ⟨hsv, ?_, ?_, ?_, h.tm, ?_, ?_, ?_, ?_, ?_, ?_, ?_, ?_, ?_, ?_, ?_, ?_, ?_, ?_, ?_, ?_, ?_, ?_⟩
  · rw [h32]; exact hA
  · rw [ho 36 0 (by decide), ht 13 3 (by omega) (by omega), fam_cg (g := τ 15) (fun j _ => ht' 15 j (by decide) (by decide))]
    exact h.cM
  · unfold dOk
    rw [ht 13 5 (by omega) (by omega), ht 13 6 (by omega) (by omega), ho 35 0 (by decide)]
    exact h.dq
  · intro s hs
    rw [ht' 9 s (by decide) (by decide)]
    exact h.pr s hs
  · intro s hs
    refine ⟨(h.ly s hs).1, fun b => ?_⟩
    rw [(h.ly s hs).2 b, h32, h7, h8]
    by_cases e : b = σ 32 0
    · rw [if_pos e, if_pos e]
      exact ⟨fun q => absurd q.1 (by omega), fun q => absurd q.2.1 (by decide)⟩
    · rw [if_neg e, if_neg e]
      exact ⟨fun q => ⟨by omega, q.2⟩, fun q => ⟨by omega, q.2⟩⟩
  · intro b hbn
    rw [h32] at hbn
    unfold bdOk
    rw [h7, h8, ho 5 b (by decide), ho 6 b (by decide), ho 11 b (by decide), ho 4 _ (by decide)]
    by_cases e : b = σ 32 0
    · rw [if_pos e, if_pos e, e, h0, h1]
      obtain ⟨z1, z2⟩ := h.bz (σ 32 0) (Nat.le_refl _)
      rw [z1, z2]
      refine ⟨⟨Nat.le_refl _, Nat.sub_self _, by decide⟩, fun q => absurd q (by decide), fun _ => rfl, fun _ => rfl, Or.inl rfl, fun _ => Or.inl rfl, fun _ => rfl, fun q => absurd q (by decide), fun q => absurd q (by decide), fun q => absurd q (by decide)⟩
    · rw [if_neg e, if_neg e, ht 0 b (by omega) (by omega), ht 1 b (by omega) (by omega)]
      exact h.bd b (by omega)
  · intro s hs
    have g := h.ms s hs
    unfold msOk at g ⊢
    rw [hg, ho 36 0 (by decide), ht' 5 s (by decide) (by decide), ht' 3 s (by decide) (by decide), ht' 2 s (by decide) (by decide), ho 2 s (by decide)]
    exact g
  · intro j
    rw [ho 36 0 (by decide), ho 25 j (by decide), ho 24 j (by decide), unw_cg (ρ := σ) (fun m _ => ho 23 m (by decide))]
    exact h.nt j
  · intro d
    rw [h.ev, ho 30 0 (by decide), ho 34 0 (by decide), List.filter_congr (q := fun e => decide (ρ 12 e = d)) (fun e _ => by rw [ho 12 e (by decide)])]
  · intro e hlt2 h13
    rw [ho 13 e (by decide)] at h13
    rw [ho 34 0 (by decide)] at hlt2
    rw [ho 14 e (by decide)]
    exact h.e0 e hlt2 h13
  · intro e hlt2 h13
    rw [ho 13 e (by decide)] at h13
    rw [ho 34 0 (by decide)] at hlt2
    unfold snOk
    obtain ⟨g1, g2, g3, g4, g5, g6⟩ := h.e1 e hlt2 h13
    have hfm : (Λ 3 e).map (fun z : Nat × Nat => τ' 14 z.1) = (Λ 3 e).map (fun z => τ 14 z.1) := List.map_congr_left (fun z hz => ht 14 z.1 (by omega) (Or.inr (by have := (g5 z.1 (List.mem_map.mpr ⟨z, hz, rfl⟩)).1; omega)))
    rw [ho 14 e (by decide), h32, hfm, ht' 12 e (by decide) (by decide)]
    refine ⟨g1, g2, g3, g4, fun b hbm => ?_, fun b hbn => ?_⟩
    · obtain ⟨k1, k2, k3⟩ := g5 b hbm
      rw [h7, ho 10 b (by decide), if_neg (by omega)]
      exact ⟨by omega, k2, k3⟩
    · rw [h7, ho 10 b (by decide), h8]
      by_cases e : b = σ 32 0
      · rw [if_pos e]; exact fun q => absurd q (by decide)
      · rw [if_neg e, if_neg e]
        exact g6 b (by omega)
  · intro e hlt2 h13
    rw [ho 13 e (by decide)] at h13
    rw [ho 34 0 (by decide)] at hlt2
    rw [hpe e, ho 14 e (by decide), ho 36 0 (by decide), ho 21 _ (by decide), ho 22 _ (by decide), ho 12 e (by decide)]
    exact h.e2 e hlt2 h13
  · intro e f hef hlt2 h13 h13f
    rw [ho 13 e (by decide)] at h13
    rw [ho 13 f (by decide)] at h13f
    rw [ho 34 0 (by decide)] at hlt2
    rw [ho 14 e (by decide), ho 14 f (by decide)]
    exact h.e3 e f hef hlt2 h13 h13f
  · intro m hmm
    rw [ho 36 0 (by decide)] at hmm
    obtain ⟨e, k1, k2, k3⟩ := h.e4 m hmm
    exact ⟨e, by rw [ho 34 0 (by decide)]; exact k1, by rw [ho 13 e (by decide)]; exact k2, by rw [ho 14 e (by decide)]; exact k3⟩
  · intro b hbn h7b
    rw [h32] at hbn
    rw [h7] at h7b
    rw [ho 10 b (by decide), ho 34 0 (by decide)]
    by_cases e : b = σ 32 0
    · rw [if_pos e] at h7b; exact absurd h7b (by decide)
    · rw [if_neg e] at h7b
      exact h.e5 b (by omega) h7b
  · rw [h32, ho 34 0 (by decide), ho 33 0 (by decide), pcut_cg (ρ := σ) (fun f q j hj => ho f j (by rcases q with rfl | rfl | rfl <;> decide)) (ho 30 0 (by decide))]
    have := h.n0
    omega
  · rw [ho 34 0 (by decide), h32, hcnt]
    omega
  · rw [ho 36 0 (by decide), nin_cg (ρ := σ) (fun m _ => ho 22 m (by decide)), ho 35 0 (by decide)]
    exact h.n2
  · intro b hbn
    rw [ho 34 0 (by decide)] at hbn
    rw [ho 13 b (by decide)]
    exact h.nd b hbn
  · intro b hb9
    rw [h32] at hb9
    rw [ho 5 b (by decide), ho 6 b (by decide), ho 11 b (by decide)]
    exact h.bz b (by omega)
  · intro m hm9
    rw [ho 36 0 (by decide)] at hm9
    rw [ho 22 m (by decide), ho 23 m (by decide)]
    exact h.mz m hm9
