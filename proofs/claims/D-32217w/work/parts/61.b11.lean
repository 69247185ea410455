/-! ===== B 8: which words of the ghosts each segment reads ===== -/
section CG
variable {G : GT} {ad τ τ' : Sg} {μ μ' : Nat → Nat → Int32} {Λ Λ' : Nat → Nat → List (Nat × Nat)} {T : TT} {σ σ' : Sg}
theorem w0_cg (h : σ' 30 0 = σ 30 0 ∧ σ' 31 0 = σ 31 0 ∧ σ' 33 0 = σ 33 0) : w0 ad σ' = w0 ad σ := by unfold w0; rw [h.1, h.2.1, h.2.2]
theorem w2_cg (h : ∀ i, i < 12 → (σ' 0 i = σ 0 i ∧ σ' 3 i = σ 3 i) ∧ (τ' 2 i = τ 2 i ∧ τ' 3 i = τ 3 i) ∧ τ' 4 i = τ 4 i ∧ τ' 5 i = τ 5 i) : w2 G ad τ' σ' = w2 G ad τ σ := flat_cg (fun i hi => by
  obtain ⟨⟨h1, h2⟩, ⟨h3, h4⟩, h5, h6⟩ := h i hi
  unfold soF; rw [h1, h2, h3, h4, h5, h6])
theorem w3_cg (h : ∀ i, i < 12 → (μ' 1 i = μ 1 i ∧ Λ' 0 i = Λ 0 i) ∧ ∀ z ∈ Λ 0 i, τ' 14 z.2 = τ 14 z.2) : w3 ad τ' μ' Λ' = w3 ad τ μ Λ := flat_cg (fun i hi => by
  obtain ⟨⟨h1, h2⟩, h3⟩ := h i hi
  unfold slF; rw [h1, h2, lm_cg h3])
theorem w4_cg (h : ∀ i, i < 12 → (τ' 8 i = τ 8 i ∧ τ' 9 i = τ 9 i) ∧ μ' 2 i = μ 2 i ∧ Λ' 1 i = Λ 1 i) : w4 G ad τ' μ' Λ' = w4 G ad τ μ Λ := flat_cg (fun i hi => by
  obtain ⟨⟨h1, h2⟩, h3, h4⟩ := h i hi
  unfold spF; rw [h1, h2, h3, h4])
theorem w5_cg (h : ∀ i, i < 12 → Λ' 1 i = Λ 1 i) : w5 Λ' = w5 Λ := flat_cg (fun i hi => by unfold siF; rw [h i hi])
theorem w6_cg (h : ∀ i, i < 12 → (τ' 4 i = τ 4 i ∧ τ' 5 i = τ 5 i) ∧ (¬ τ 5 i = 0 → τ' 15 (τ 5 i - 1) = τ 15 (τ 5 i - 1))) : w6 τ' = w6 τ := flat_cg (fun i hi => by
  obtain ⟨⟨h1, h2⟩, h3⟩ := h i hi
  unfold sxF; rw [h1, h2]
  by_cases e : τ 5 i = 0
  · rw [if_pos e, if_pos e]
  · rw [if_neg e, if_neg e, h3 e])
theorem w7_cg (h : (τ' 13 0 = τ 13 0 ∧ τ' 13 1 = τ 13 1) ∧ (μ' 0 0 = μ 0 0 ∧ σ' 32 0 = σ 32 0) ∧ ∀ i, i < σ 32 0 → τ' 14 i = τ 14 i) : w7 G ad τ' μ' σ' = w7 G ad τ μ σ := by
  unfold w7; rw [h.1.1, h.1.2, h.2.1.1, h.2.1.2, fam_cg h.2.2]
theorem w8_cg (h32 : σ' 32 0 = σ 32 0) (h : ∀ i, i < σ 32 0 → (σ' 7 i = σ 7 i ∧ σ' 8 i = σ 8 i ∧ σ' 9 i = σ 9 i ∧ σ' 11 i = σ 11 i) ∧ τ' 14 i = τ 14 i ∧ τ' 0 i = τ 0 i ∧ τ' 1 i = τ 1 i) : w8 τ' σ' = w8 τ σ := by
  unfold w8; rw [h32]
  refine flat_cg (fun i hi => ?_)
  obtain ⟨⟨h1, h2, h3, h4⟩, h5, h6, h7⟩ := h i hi
  unfold bdF bdL bdS
  simp only [h1, h2, h3, h4, h5, h6, h7]
theorem w9_cg (h32 : σ' 32 0 = σ 32 0) (h : ∀ i, i < σ 32 0 → σ' 7 i = σ 7 i) : w9 ad σ' = w9 ad σ := by
  unfold w9; rw [dpP_cg (σ := σ') (ρ := σ) (fun b hb => h b (by omega)) h32]
theorem w10_cg (h32 : σ' 32 0 = σ 32 0) (h : ∀ i, i < σ 32 0 → σ' 7 i = σ 7 i) : w10 G ad σ' = w10 G ad σ := by
  unfold w10; rw [dpP_cg (σ := σ') (ρ := σ) (fun b hb => h b (by omega)) h32]
theorem w11_cg (h : (τ' 13 4 = τ 13 4 ∧ τ' 13 5 = τ 13 5) ∧ τ' 13 6 = τ 13 6 ∧ σ' 35 0 = σ 35 0) : w11 ad τ' σ' = w11 ad τ σ := by unfold w11; rw [h.1.1, h.1.2, h.2.1, h.2.2]
theorem w12_cg (h : (τ' 13 4 = τ 13 4 ∧ τ' 13 5 = τ 13 5) ∧ (τ' 13 6 = τ 13 6 ∧ σ' 35 0 = σ 35 0) ∧ ∀ i, i < σ 35 0 → τ' 22 i = τ 22 i) : w12 G τ' σ' = w12 G τ σ := by unfold w12; rw [h.1.1, h.1.2, h.2.1.1, h.2.1.2, fam_cg h.2.2]
theorem w13_cg (h35 : σ' 35 0 = σ 35 0) (h : ∀ i, i < σ 35 0 → τ' 22 i = τ 22 i ∧ σ' 15 i = σ 15 i ∧ σ' 16 i = σ 16 i) : w13 τ' σ' = w13 τ σ := by
  unfold w13; rw [h35]
  refine flat_cg (fun i hi => ?_)
  obtain ⟨h1, h2, h3⟩ := h i hi
  unfold dbF; rw [h1, h2, h3]
theorem w14_cg (h : (τ' 13 2 = τ 13 2 ∧ τ' 13 3 = τ 13 3) ∧ (μ' 0 1 = μ 0 1 ∧ σ' 36 0 = σ 36 0) ∧ ∀ i, i < σ 36 0 → τ' 15 i = τ 15 i) : w14 G ad τ' μ' σ' = w14 G ad τ μ σ := by
  unfold w14; rw [h.1.1, h.1.2, h.2.1.1, h.2.1.2, fam_cg h.2.2]
theorem w15_cg (h36 : σ' 36 0 = σ 36 0) (h : ∀ i, i < σ 36 0 → (σ' 17 i = σ 17 i ∧ σ' 18 i = σ 18 i ∧ σ' 19 i = σ 19 i ∧ σ' 20 i = σ 20 i) ∧ (σ' 21 i = σ 21 i ∧ σ' 22 i = σ 22 i ∧ σ' 23 i = σ 23 i) ∧ τ' 15 i = τ 15 i ∧ τ' 6 i = τ 6 i) : w15 G τ' σ' = w15 G τ σ := by
  unfold w15; rw [h36]
  refine flat_cg (fun i hi => ?_)
  obtain ⟨⟨h1, h2, h3, h4⟩, ⟨h5, h6, h7⟩, h8, h9⟩ := h i hi
  unfold msF; rw [h1, h2, h3, h4, h5, h6, h7, h8, h9]
theorem w16_cg (h36 : σ' 36 0 = σ 36 0) (h : ∀ i, i < σ 36 0 → (σ' 17 i = σ 17 i ∧ σ' 18 i = σ 18 i ∧ σ' 19 i = σ 19 i) ∧ σ' 22 i = σ 22 i ∧ τ' 6 i = τ 6 i ∧ τ' 7 i = τ 7 i) : w16 G τ' σ' = w16 G τ σ := by
  unfold w16; rw [h36]
  refine flat_cg (fun i hi => ?_)
  obtain ⟨⟨h1, h2, h3⟩, h4, h5, h6⟩ := h i hi
  unfold mtF; rw [h1, h2, h3, h4, h5, h6]
theorem w18_cg (h : ∀ i, i < 16 → σ' 24 i = σ 24 i ∧ σ' 25 i = σ 25 i) : w18 ad σ' = w18 ad σ := flat_cg (fun i hi => by unfold noF; rw [(h i hi).1, (h i hi).2])
theorem w19_cg (h : ∀ i, σ' 1 i = σ 1 i) : w19 G ad σ' = w19 G ad σ := by unfold w19; rw [show (fun i => nI (σ' 1 i)) = fun i => nI (σ 1 i) from funext (fun i => by rw [h i])]
theorem w20_cg (h : μ' 0 2 = μ 0 2) : w20 ad μ' T = w20 ad μ T := by unfold w20; rw [h]
theorem w23_cg (h4 : μ' 4 = μ 4) (h2 : Λ' 2 = Λ 2) (h : ∀ d, ∀ z ∈ Λ 2 d, τ' 16 z.2 = τ 16 z.2) : w23 τ' μ' Λ' T = w23 τ μ Λ T := by
  unfold w23; rw [h4, h2]; exact wTL_co h
theorem w24_cg (h34 : σ' 34 0 = σ 34 0) (h : ∀ i, i < σ 34 0 → (σ' 13 i = σ 13 i ∧ σ' 14 i = σ 14 i ∧ τ' 16 i = τ 16 i ∧ τ' 10 i = τ 10 i) ∧ (τ' 11 i = τ 11 i ∧ τ' 12 i = τ 12 i ∧ μ' 3 i = μ 3 i ∧ Λ' 3 i = Λ 3 i) ∧ (σ 13 i = 1 → ∀ z ∈ Λ 3 i, τ' 14 z.1 = τ 14 z.1) ∧ (σ 13 i = 2 → τ' 15 (σ 14 i) = τ 15 (σ 14 i))) (hk : ∀ i, i < σ 34 0 → σ 13 i < 3) : w24 G ad τ' μ' Λ' σ' = w24 G ad τ μ Λ σ := by
  unfold w24; rw [h34]
  refine flat_cg (fun i hi => ?_)
  obtain ⟨⟨h1, h2, h3, h4⟩, ⟨h5, h6, h7, h8⟩, h9, h10⟩ := h i hi
  have := hk i hi
  unfold coF
  rw [h1]
  by_cases e0 : σ 13 i = 0
  · rw [if_pos e0, if_pos e0, h2, h3]
  · rw [if_neg e0, if_neg e0]
    by_cases e1 : σ 13 i = 1
    · rw [if_pos e1, if_pos e1, h2, h3, h4, h5, h6, h7, h8, List.map_congr_left (h9 e1)]
    · rw [if_neg e1, if_neg e1, h2, h3, h10 (by omega)]
end CG
theorem flatx0 (n : Nat) (f : Nat → va_W) : flatx (n + 1) 0 f = flat n (fun j => f (j + 1)) := by
  unfold flatx flat
  rw [List.range_succ_eq_map, List.erase_cons_head, List.flatMap_map]
theorem fam_cons (f : Nat → Nat) (n : Nat) : fam f (n + 1) = f 0 :: fam (fun j => f (j + 1)) n := by
  unfold fam
  rw [List.range_succ_eq_map, List.map_cons, List.map_map]
  rfl
/-- the first debt is gone -/
def shD (τ : Sg) (h : Nat) : Sg := fun f j => if f = 22 then τ 22 (j + 1) else if f = 13 ∧ j = 6 then h else τ f j
theorem shD_o (τ : Sg) (h f j : Nat) (hf : f ≠ 22 ∧ (f ≠ 13 ∨ j ≠ 6)) : shD τ h f j = τ f j := by
  unfold shD
  rw [if_neg hf.1, if_neg (by omega)]
theorem servesN_34 : ∀ (k : Nat) (σ : Sg), σ 34 0 ≤ servesN k σ 34 0 := by
  intro k
  induction k with
  | zero => intro σ; exact Nat.le_refl _
  | succ k ih =>
    intro σ
    unfold servesN
    split
    · refine Nat.le_trans ?_ (ih _)
      rw [show serveF σ 34 0 = σ 34 0 + 1 from (sends_34 _ _ _).trans (by rw [serve1_o _ _ _ (by decide)])]
      omega
    · exact Nat.le_refl _
theorem serve1_d (σ : Sg) : serve1 σ 35 0 = (if σ 16 0 - serveN σ = 0 then σ 35 0 - 1 else σ 35 0) ∧ (∀ j, j < serve1 σ 35 0 → serve1 σ 15 j = (if σ 16 0 - serveN σ = 0 then σ 15 (j + 1) else σ 15 j) ∧ serve1 σ 16 j = (if σ 16 0 - serveN σ = 0 then σ 16 (j + 1) else if j = 0 then σ 16 0 - serveN σ else σ 16 j)) := by
  unfold serve1
  by_cases e : σ 16 0 - serveN σ = 0
  · rw [if_pos e, if_pos e]
    refine ⟨by simp [s2_rd], fun j hj => ?_⟩
    rw [if_pos e, if_pos e]
    simp only [s2_rd, if_true, if_neg (show (15 : Nat) ≠ 35 by decide), if_neg (show (16 : Nat) ≠ 35 by decide)] at hj ⊢
    rw [shifts_15, shifts_16, if_pos hj, if_pos hj]
    simp [serve0, s2_rd]
  · rw [if_neg e, if_neg e]
    refine ⟨by simp [serve0, s2_rd], fun j hj => ?_⟩
    rw [if_neg e, if_neg e]
    simp [serve0, s2_rd]
/-- paying the first debt, in part or whole, keeps what holds -/
theorem WF.paid {G : GT} {τ τ' : Sg} {Λ : Nat → Nat → List (Nat × Nat)} {T : TT} {σ : Sg} {i c p : Nat} (h : WF G τ Λ T σ i c p) (hr : 0 < σ 35 0) (hS : Sf (serve1 σ)) (hd : ∀ k, k < serve1 σ 35 0 → 1 ≤ serve1 σ 16 k)
    (ht : ∀ f j, f ≠ 22 ∧ (f ≠ 13 ∨ j ≠ 6) → τ' f j = τ f j) (h6 : τ' 13 6 < τ 13 5) : WF G τ' Λ T (serve1 σ) i c p := by
  have ho : ∀ f j, f ≠ 15 ∧ f ≠ 16 ∧ f ≠ 35 → serve1 σ f j = σ f j := fun f j q => serve1_o σ f j q
  have h35 := (serve1_d σ).1
  have h35b : serve1 σ 35 0 ≤ σ 35 0 := by rw [h35]; split <;> omega
  have hg : ∀ s, gsL (serve1 σ) s (serve1 σ 36 0) = gsL σ s (σ 36 0) := fun s => by rw [ho 36 0 (by decide)]; exact gsL_cg (fun f q j => ho f j (by rcases q with rfl | rfl | rfl | rfl <;> decide))
  have hsv : Sv (serve1 σ) := by
    refine ⟨hS, hd, ?_⟩
    rw [ho 34 0 (by decide), ho 32 0 (by decide), count_cg (τ := σ) (fun j _ => ho 7 j (by decide))]
    exact h.sv.2.2
  clear hS hd h35
  generalize hρ : serve1 σ = ρ at *
  clear hρ
  have hpe : ∀ e, pend ρ i e ↔ pend σ i e := fun e => by unfold pend; rw [ho 12 e (by decide), ho 30 0 (by decide)]
  refine ⟨hsv, ?_, ?_, ?_, h.tm, ?_, ?_, ?_, ?_, ?_, ?_, ?_, ?_, ?_, ?_, ?_, ?_, ?_, ?_, ?_, ?_, ?_, ?_⟩
  · rw [ho 32 0 (by decide), ht 13 1 (by omega), fam_cg (g := τ 14) (fun j _ => ht 14 j (by omega))]
    exact h.cB
  · rw [ho 36 0 (by decide), ht 13 3 (by omega), fam_cg (g := τ 15) (fun j _ => ht 15 j (by omega))]
    exact h.cM
  · unfold dOk
    rw [ht 13 5 (by omega)]
    have := h.dq
    exact ⟨this.1, by have := this.2.1; omega, h6⟩
  · intro s hs
    rw [ht 9 s (by omega)]
    exact h.pr s hs
  · intro s hs
    refine ⟨(h.ly s hs).1, fun b => ?_⟩
    rw [(h.ly s hs).2 b, ho 32 0 (by decide), ho 7 b (by decide), ho 8 b (by decide)]
  · intro b hbn
    rw [ho 32 0 (by decide)] at hbn
    have g := h.bd b hbn
    unfold bdOk at g ⊢
    rw [ho 7 b (by decide), ho 8 b (by decide), ho 5 b (by decide), ho 6 b (by decide), ho 11 b (by decide), ht 0 b (by omega), ht 1 b (by omega), ho 4 _ (by decide)]
    exact g
  · intro s hs
    have g := h.ms s hs
    unfold msOk at g ⊢
    rw [hg, ho 36 0 (by decide), ht 5 s (by omega), ht 3 s (by omega), ht 2 s (by omega), ho 2 s (by decide)]
    exact g
  · intro j
    rw [ho 36 0 (by decide), ho 25 j (by decide), ho 24 j (by decide), unw_cg (ρ := σ) (fun m _ => ho 23 m (by decide))]
    exact h.nt j
  · intro d
    rw [h.ev, ho 30 0 (by decide), ho 34 0 (by decide), List.filter_congr (q := fun e => decide (ρ 12 e = d)) (fun e _ => by rw [ho 12 e (by decide)])]
  · intro e hlt h13
    rw [ho 13 e (by decide)] at h13
    rw [ho 34 0 (by decide)] at hlt
    rw [ho 14 e (by decide)]
    exact h.e0 e hlt h13
  · intro e hlt h13
    rw [ho 13 e (by decide)] at h13
    rw [ho 34 0 (by decide)] at hlt
    unfold snOk
    have hfm : (fun z : Nat × Nat => τ' 14 z.1) = fun z => τ 14 z.1 := by funext z; exact ht 14 z.1 (by omega)
    rw [ho 14 e (by decide), ho 32 0 (by decide), hfm, ht 12 e (by omega)]
    obtain ⟨g1, g2, g3, g4, g5, g6⟩ := h.e1 e hlt h13
    refine ⟨g1, g2, g3, g4, fun b hbm => ?_, fun b hbn => ?_⟩
    · rw [ho 7 b (by decide), ho 10 b (by decide)]
      exact g5 b hbm
    · rw [ho 7 b (by decide), ho 10 b (by decide), ho 8 b (by decide)]
      exact g6 b hbn
  · intro e hlt h13
    rw [ho 13 e (by decide)] at h13
    rw [ho 34 0 (by decide)] at hlt
    rw [hpe e, ho 14 e (by decide), ho 36 0 (by decide), ho 21 _ (by decide), ho 22 _ (by decide), ho 12 e (by decide)]
    exact h.e2 e hlt h13
  · intro e f hef hlt h13 h13f
    rw [ho 13 e (by decide)] at h13
    rw [ho 13 f (by decide)] at h13f
    rw [ho 34 0 (by decide)] at hlt
    rw [ho 14 e (by decide), ho 14 f (by decide)]
    exact h.e3 e f hef hlt h13 h13f
  · intro m hmm
    rw [ho 36 0 (by decide)] at hmm
    obtain ⟨e, k1, k2, k3⟩ := h.e4 m hmm
    exact ⟨e, by rw [ho 34 0 (by decide)]; exact k1, by rw [ho 13 e (by decide)]; exact k2, by rw [ho 14 e (by decide)]; exact k3⟩
  · intro b hbn h7
    rw [ho 32 0 (by decide)] at hbn
    rw [ho 7 b (by decide)] at h7
    rw [ho 10 b (by decide), ho 34 0 (by decide)]
    exact h.e5 b hbn h7
  · rw [ho 32 0 (by decide), ho 34 0 (by decide), ho 33 0 (by decide), pcut_cg (ρ := σ) (fun f q j hj => ho f j (by rcases q with rfl | rfl | rfl <;> decide)) (ho 30 0 (by decide))]
    exact h.n0
  · rw [ho 34 0 (by decide), ho 32 0 (by decide), count_cg (τ := σ) (fun j _ => ho 7 j (by decide))]
    exact h.n1
  · rw [ho 36 0 (by decide), nin_cg (ρ := σ) (fun m _ => ho 22 m (by decide))]
    have := h.n2
    omega
  · intro b hbn
    rw [ho 34 0 (by decide)] at hbn
    rw [ho 13 b (by decide)]
    exact h.nd b hbn
  · intro b hb9
    rw [ho 32 0 (by decide)] at hb9
    rw [ho 5 b (by decide), ho 6 b (by decide), ho 11 b (by decide)]
    exact h.bz b hb9
  · intro m hm9
    rw [ho 36 0 (by decide)] at hm9
    rw [ho 22 m (by decide), ho 23 m (by decide)]
    exact h.mz m hm9
