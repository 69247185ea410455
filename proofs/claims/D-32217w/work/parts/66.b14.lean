/-! ===== B 11: boards are laid; an event is passed over ===== -/
theorem count0_cg {σ ρ : Sg} {n : Nat} (h : ∀ j, j < n → (σ 7 j = 0 ↔ ρ 7 j = 0)) : countN σ 0 n = countN ρ 0 n := lp_cg (fun i hi x => by
  by_cases e : σ 7 i = 0
  · rw [if_pos e, if_pos ((h i hi).mp e)]
  · rw [if_neg e, if_neg (fun q => e ((h i hi).mpr q))])
def layV (σ : Sg) (f j : Nat) : Nat := if f = 7 then 2 else if f = 5 ∨ f = 6 then σ 4 (σ 8 j) else σ f j
theorem laidB_rd (e b : Nat) (σ : Sg) (f j : Nat) : laidB e b σ f j = if j = b ∧ σ 7 b = 1 ∧ σ 10 b = e then layV σ f b else σ f j := by
  unfold laidB layV
  by_cases h : σ 7 b = 1 ∧ σ 10 b = e
  · rw [if_pos h]
    by_cases hj : j = b
    · have hc : j = b ∧ σ 7 b = 1 ∧ σ 10 b = e := ⟨hj, h⟩
      rw [if_pos hc, hj]
      simp only [s2_rd, if_true]
      by_cases h6 : f = 6
      · subst h6; simp
      · by_cases h5 : f = 5
        · subst h5; simp
        · by_cases h7 : f = 7
          · subst h7; simp
          · simp [h5, h6, h7]
    · have hc : ¬ (j = b ∧ σ 7 b = 1 ∧ σ 10 b = e) := fun q => hj q.1
      rw [if_neg hc]
      simp [s2_rd, hj]
  · have hc : ¬ (j = b ∧ σ 7 b = 1 ∧ σ 10 b = e) := fun q => h q.2
    rw [if_neg h, if_neg hc]
theorem layV_o (e b : Nat) (σ : Sg) (f j : Nat) (h : j ≠ b) : layV (laidB e b σ) f j = layV σ f j := by
  unfold layV
  have hc : ¬ (j = b ∧ σ 7 b = 1 ∧ σ 10 b = e) := fun q => h q.1
  rw [laidB_o (f := 8) (by decide), laidB_o (f := 4) (by decide), laidB_rd e b σ f j, if_neg hc]
/-- what laying all has done, place by place -/
theorem laid_at (e n : Nat) (σ : Sg) (f j : Nat) : lp (laidB e) n σ f j = if j < n ∧ σ 7 j = 1 ∧ σ 10 j = e then layV σ f j else σ f j := by
  induction n generalizing f j with
  | zero => rw [if_neg (fun q => Nat.not_lt_zero _ q.1)]; rfl
  | succ n ih =>
    show laidB e n (lp (laidB e) n σ) f j = _
    have hn : ∀ f, lp (laidB e) n σ f n = σ f n := fun f => by rw [ih f n, if_neg (fun q => Nat.lt_irrefl _ q.1)]
    rw [laidB_rd, hn 7, hn 10]
    by_cases hj : j = n
    · subst hj
      by_cases h : σ 7 j = 1 ∧ σ 10 j = e
      · have c1 : j = j ∧ σ 7 j = 1 ∧ σ 10 j = e := ⟨rfl, h⟩
        have c2 : j < j + 1 ∧ σ 7 j = 1 ∧ σ 10 j = e := ⟨Nat.lt_succ_self _, h⟩
        rw [if_pos c1, if_pos c2]
        unfold layV
        rw [hn 8, hn f, laids_o _ _ _ _ _ (by decide)]
      · rw [if_neg (fun q => h q.2), if_neg (fun q => h q.2)]
        exact hn f
    · rw [if_neg (fun q => hj q.1), ih f j]
      by_cases h : j < n ∧ σ 7 j = 1 ∧ σ 10 j = e
      · rw [if_pos h, if_pos ⟨Nat.lt_succ_of_lt h.1, h.2⟩]
      · rw [if_neg h, if_neg (fun q => h ⟨by have := q.1; omega, q.2⟩)]
def layL (e : Nat) (L : List (Nat × Nat)) (σ : Sg) : Sg := L.foldl (fun ρ z => laidB e z.1 ρ) σ
theorem layL_snoc (e : Nat) (L : List (Nat × Nat)) (z : Nat × Nat) (σ : Sg) : layL e (L ++ [z]) σ = laidB e z.1 (layL e L σ) := by simp [layL]
theorem layL_o (e : Nat) (L : List (Nat × Nat)) (σ : Sg) (f j : Nat) (hf : f ≠ 7 ∧ f ≠ 5 ∧ f ≠ 6) : layL e L σ f j = σ f j := by
  unfold layL
  induction L generalizing σ with
  | nil => rfl
  | cons z L ih => rw [List.foldl_cons, ih, laidB_o hf]
theorem layL_at (e : Nat) (L : List (Nat × Nat)) (σ : Sg) (f j : Nat) : layL e L σ f j = if j ∈ L.map (fun z => z.1) ∧ σ 7 j = 1 ∧ σ 10 j = e then layV σ f j else σ f j := by
  unfold layL
  induction L generalizing σ with
  | nil => rw [if_neg (fun q => by cases q.1)]; rfl
  | cons z L ih =>
    rw [List.foldl_cons, ih]
    rw [List.map_cons]
    by_cases hj : j = z.1
    · by_cases h : σ 7 j = 1 ∧ σ 10 j = e
      · have c0 : j = z.1 ∧ σ 7 z.1 = 1 ∧ σ 10 z.1 = e := ⟨hj, hj ▸ h⟩
        have c1 : ¬ (j ∈ L.map (fun z => z.1) ∧ laidB e z.1 σ 7 j = 1 ∧ laidB e z.1 σ 10 j = e) := fun q => by
          have := q.2.1
          rw [laidB_rd, if_pos c0] at this
          exact absurd this (by unfold layV; simp)
        have c2 : j ∈ z.1 :: L.map (fun z => z.1) ∧ σ 7 j = 1 ∧ σ 10 j = e := ⟨by rw [hj]; exact List.mem_cons_self, h⟩
        rw [if_neg c1, if_pos c2, laidB_rd, if_pos c0, ← hj]
      · have c0 : ¬ (j = z.1 ∧ σ 7 z.1 = 1 ∧ σ 10 z.1 = e) := fun q => h (by rw [q.1]; exact q.2)
        have c1 : ¬ (j ∈ L.map (fun z => z.1) ∧ laidB e z.1 σ 7 j = 1 ∧ laidB e z.1 σ 10 j = e) := fun q => h (by
          have := q.2
          rw [laidB_rd, if_neg c0, laidB_rd, if_neg c0] at this
          exact this)
        have c2 : ¬ (j ∈ z.1 :: L.map (fun z => z.1) ∧ σ 7 j = 1 ∧ σ 10 j = e) := fun q => h q.2
        rw [if_neg c1, if_neg c2, laidB_rd, if_neg c0]
    · have c0 : ¬ (j = z.1 ∧ σ 7 z.1 = 1 ∧ σ 10 z.1 = e) := fun q => hj q.1
      have r : ∀ f, laidB e z.1 σ f j = σ f j := fun f => by rw [laidB_rd, if_neg c0]
      rw [r 7, r 10, r f, layV_o e z.1 σ f j hj]
      by_cases h : j ∈ L.map (fun z => z.1) ∧ σ 7 j = 1 ∧ σ 10 j = e
      · rw [if_pos h, if_pos ⟨List.mem_cons_of_mem _ h.1, h.2⟩]
      · rw [if_neg h, if_neg (fun q => h ⟨(List.mem_cons.mp q.1).resolve_left hj, q.2⟩)]
theorem layL_all {τ : Sg} {Λ3 : Nat → List (Nat × Nat)} {σ : Sg} {e : Nat} (h : snOk τ Λ3 σ e) : layL e (Λ3 e) σ = laidF σ e := by
  funext f j
  show _ = lp (laidB e) (σ 32 0) σ f j
  rw [layL_at, laid_at]
  obtain ⟨_, _, _, _, h5, h6⟩ := h
  by_cases q : σ 7 j = 1 ∧ σ 10 j = e
  · by_cases hm : j ∈ (Λ3 e).map (fun z => z.1)
    · have c1 : j ∈ (Λ3 e).map (fun z => z.1) ∧ σ 7 j = 1 ∧ σ 10 j = e := ⟨hm, q⟩
      have c2 : j < σ 32 0 ∧ σ 7 j = 1 ∧ σ 10 j = e := ⟨(h5 j hm).1, q⟩
      rw [if_pos c1, if_pos c2]
    · rw [if_neg (fun q => hm q.1), if_neg (fun q2 => hm (h6 j q2.1 q.1 q.2).1)]
  · rw [if_neg (fun q2 => q q2.2), if_neg (fun q2 => q q2.2)]
theorem WF.lay {G : GT} {τ τ' : Sg} {Λ Λ' : Nat → Nat → List (Nat × Nat)} {T : TT} {σ ρ : Sg} {i c p e b q9 : Nat} (h : WF G τ Λ T σ i c p) (hρ : ρ = laidB e b σ) (hb : b < σ 32 0) (h71 : σ 7 b = 1) (h10 : σ 10 b = e) (hs : σ 8 b < 12)
    (ht : ∀ f j, (f ≠ 0 ∨ j ≠ b) → τ' f j = τ f j) (h0 : τ' 0 b = (Λ 1 (σ 8 b)).length) (hL0 : Λ' 0 = u1 (Λ 0) (σ 8 b) (Λ 0 (σ 8 b) ++ [(q9, b)])) (hL1 : Λ' 1 = Λ 1) (hL2 : Λ' 2 = Λ 2) (hL3 : Λ' 3 = Λ 3) : WF G τ' Λ' T ρ i c p := by
  have hrd : ∀ f j, ρ f j = if j = b then layV σ f b else σ f j := fun f j => by
    rw [hρ, laidB_rd]
    by_cases q : j = b
    · have hc : j = b ∧ σ 7 b = 1 ∧ σ 10 b = e := ⟨q, h71, h10⟩
      rw [if_pos q, if_pos hc]
    · have hc : ¬ (j = b ∧ σ 7 b = 1 ∧ σ 10 b = e) := fun q2 => q q2.1
      rw [if_neg q, if_neg hc]
  have ho : ∀ f j, f ≠ 7 ∧ f ≠ 5 ∧ f ≠ 6 → ρ f j = σ f j := fun f j q => by rw [hρ]; exact laidB_o q
  have h7 : ∀ j, ρ 7 j = if j = b then 2 else σ 7 j := fun j => by rw [hrd]; simp [layV]
  have h5 : ∀ j, ρ 5 j = if j = b then σ 4 (σ 8 b) else σ 5 j := fun j => by rw [hrd]; simp [layV]
  have h6 : ∀ j, ρ 6 j = if j = b then σ 4 (σ 8 b) else σ 6 j := fun j => by rw [hrd]; simp [layV]
  have h32 := ho 32 0 (by decide)
  have hcnt : countN ρ 0 (σ 32 0) = countN σ 0 (σ 32 0) := count0_cg (fun j _ => by
    rw [h7]
    by_cases q : j = b
    · rw [if_pos q, q, h71]; exact ⟨fun q => absurd q (by decide), fun q => absurd q (by decide)⟩
    · rw [if_neg q])
  have hsv : Sv ρ := by
    refine ⟨by rw [hρ]; exact h.sv.1.laid, fun k hk => ?_, ?_⟩
    · rw [ho 35 0 (by decide)] at hk
      rw [ho 16 k (by decide)]
      exact h.sv.2.1 k hk
    · rw [ho 34 0 (by decide), h32, hcnt]
      exact h.sv.2.2
  have hg : ∀ s, gsL ρ s (ρ 36 0) = gsL σ s (σ 36 0) := fun s => by rw [ho 36 0 (by decide)]; exact gsL_cg (fun f q j => ho f j (by rcases q with rfl | rfl | rfl | rfl <;> decide))
  have hpe : ∀ e, pend ρ i e ↔ pend σ i e := fun e => by unfold pend; rw [ho 12 e (by decide), ho 30 0 (by decide)]
  have ht' : ∀ f j, f ≠ 0 → τ' f j = τ f j := fun f j q => ht f j (Or.inl q)
  clear hρ hrd
  refine ⟨hsv, ?_, ?_, ?_, by rw [hL2]; exact h.tm, ?_, ?_, ?_, ?_, ?_, ?_, ?_, ?_, ?_, ?_, ?_, ?_, ?_, ?_, ?_, ?_, ?_, ?_⟩
  · rw [h32, ht' 13 1 (by decide), fam_cg (g := τ 14) (fun j _ => ht' 14 j (by decide))]
    exact h.cB
  · rw [ho 36 0 (by decide), ht' 13 3 (by decide), fam_cg (g := τ 15) (fun j _ => ht' 15 j (by decide))]
    exact h.cM
  · unfold dOk
    rw [ht' 13 5 (by decide), ht' 13 6 (by decide), ho 35 0 (by decide)]
    exact h.dq
  · intro s hs
    rw [hL1, ht' 9 s (by decide)]
    exact h.pr s hs
  · intro s hs2
    rw [hL0]
    by_cases es : s = σ 8 b
    · subst es
      rw [u1_s, List.map_append]
      have hnb : b ∉ (Λ 0 (σ 8 b)).map (fun z => z.2) := fun q => by
        have := ((h.ly _ hs).2 b).mp q
        omega
      refine ⟨List.nodup_append.mpr ⟨(h.ly _ hs).1, by simp, fun x hx y hy e => ?_⟩, fun j => ?_⟩
      · simp at hy
        subst hy
        subst e
        exact hnb hx
      · rw [List.mem_append, (h.ly _ hs).2 j, h32, h7, ho 8 j (by decide)]
        simp only [List.map_cons, List.map_nil, List.mem_singleton]
        by_cases q : j = b
        · subst q; simp [hb]
        · simp [q]
    · rw [u1_n _ _ es]
      refine ⟨(h.ly s hs2).1, fun j => ?_⟩
      rw [(h.ly s hs2).2 j, h32, h7, ho 8 j (by decide)]
      by_cases q : j = b
      · subst q
        rw [if_pos rfl]
        exact ⟨fun q => absurd q.2.2.symm es, fun q => absurd q.2.2.symm es⟩
      · rw [if_neg q]
  · intro j hj
    rw [h32] at hj
    have g := h.bd j hj
    unfold bdOk at g ⊢
    rw [h5, h6, h7, ho 8 j (by decide), ho 11 j (by decide), ho 4 _ (by decide), hL1, ht' 1 j (by decide)]
    by_cases q : j = b
    · subst q
      rw [if_pos rfl, if_pos rfl, if_pos rfl, h0]
      obtain ⟨g1, g2, g3, g4, g5, g6, g7, g8, g9, g10⟩ := g
      have hz := g3 (Or.inl (by omega))
      refine ⟨⟨Nat.le_refl _, by rw [hz]; exact Nat.sub_self _, by rw [hz]; decide⟩, fun _ => rfl, fun _ => hz, fun q => absurd q (by decide), g5, fun q => ?_, fun _ => g7 (by omega), fun _ => ⟨Nat.le_refl _, ?_⟩, fun q => absurd q (by decide), fun q => absurd q (by decide)⟩
      · rw [q] at hs; exact absurd hs (by decide)
      · rw [Nat.sub_self, hz]; rfl
    · rw [if_neg q, if_neg q, if_neg q, ht 0 j (Or.inr q)]
      exact g
  · intro s hs
    have g := h.ms s hs
    unfold msOk at g ⊢
    rw [hg, ho 36 0 (by decide), ht' 5 s (by decide), ht' 3 s (by decide), ht' 2 s (by decide), ho 2 s (by decide)]
    exact g
  · intro j
    rw [ho 36 0 (by decide), ho 25 j (by decide), ho 24 j (by decide), unw_cg (ρ := σ) (fun m _ => ho 23 m (by decide))]
    exact h.nt j
  · intro d
    rw [hL2, h.ev, ho 30 0 (by decide), ho 34 0 (by decide), List.filter_congr (q := fun e => decide (ρ 12 e = d)) (fun e _ => by rw [ho 12 e (by decide)])]
  · intro e hlt2 h13
    rw [ho 13 e (by decide)] at h13
    rw [ho 34 0 (by decide)] at hlt2
    rw [ho 14 e (by decide)]
    exact h.e0 e hlt2 h13
  · intro e hlt2 h13
    rw [ho 13 e (by decide)] at h13
    rw [ho 34 0 (by decide)] at hlt2
    unfold snOk
    obtain ⟨g1, g2, g3, g4, g5, g6⟩ := h.e1 e hlt2 h13
    have hfm : (fun z : Nat × Nat => τ' 14 z.1) = fun z => τ 14 z.1 := by funext z; exact ht' 14 z.1 (by decide)
    rw [hL3, ho 14 e (by decide), h32, hfm, ht' 12 e (by decide)]
    refine ⟨g1, g2, g3, g4, fun j hbm => ?_, fun j hbn => ?_⟩
    · obtain ⟨k1, k2, k3⟩ := g5 j hbm
      rw [h7, ho 10 j (by decide)]
      by_cases q : j = b
      · rw [if_pos q]; exact ⟨k1, by decide, fun q => absurd q (by decide)⟩
      · rw [if_neg q]; exact ⟨k1, k2, k3⟩
    · rw [h7, ho 10 j (by decide), ho 8 j (by decide)]
      by_cases q : j = b
      · rw [if_pos q]; exact fun q => absurd q (by decide)
      · rw [if_neg q]; exact g6 j hbn
  · intro e hlt2 h13
    rw [ho 13 e (by decide)] at h13
    rw [ho 34 0 (by decide)] at hlt2
    rw [hpe e, ho 14 e (by decide), ho 36 0 (by decide), ho 21 _ (by decide), ho 22 _ (by decide), ho 12 e (by decide)]
    exact h.e2 e hlt2 h13
  · intro e f hef hlt2 h13 h13f
    rw [ho 13 e (by decide)] at h13
    rw [ho 13 f (by decide)] at h13f
    rw [ho 34 0 (by decide)] at hlt2
    rw [ho 14 e (by decide), ho 14 f (by decide)]
    exact h.e3 e f hef hlt2 h13 h13f
  · intro m hmm
    rw [ho 36 0 (by decide)] at hmm
    obtain ⟨e, k1, k2, k3⟩ := h.e4 m hmm
    exact ⟨e, by rw [ho 34 0 (by decide)]; exact k1, by rw [ho 13 e (by decide)]; exact k2, by rw [ho 14 e (by decide)]; exact k3⟩
  · intro j hj h7b
    rw [h32] at hj
    rw [h7] at h7b
    rw [ho 10 j (by decide), ho 34 0 (by decide)]
    by_cases q : j = b
    · rw [if_pos q] at h7b; exact absurd h7b (by decide)
    · rw [if_neg q] at h7b
      exact h.e5 j hj h7b
  · rw [h32, ho 34 0 (by decide), ho 33 0 (by decide), pcut_cg (ρ := σ) (fun f q j hj => ho f j (by rcases q with rfl | rfl | rfl <;> decide)) (ho 30 0 (by decide))]
    exact h.n0
  · rw [ho 34 0 (by decide), h32, hcnt]
    exact h.n1
  · rw [ho 36 0 (by decide), nin_cg (ρ := σ) (fun m _ => ho 22 m (by decide)), ho 35 0 (by decide)]
    exact h.n2
  · intro b hbn
    rw [ho 34 0 (by decide)] at hbn
    rw [ho 13 b (by decide)]
    exact h.nd b hbn
  · intro j hb9
    rw [h32] at hb9
    have hne : j ≠ b := by omega
    rw [h5, h6, ho 11 j (by decide), if_neg hne, if_neg hne]
    exact h.bz j hb9
  · intro m hm9
    rw [ho 36 0 (by decide)] at hm9
    rw [ho 22 m (by decide), ho 23 m (by decide)]
    exact h.mz m hm9
theorem coF_1 {G : GT} {ad τ : Sg} {μ : Nat → Nat → Int32} {Λ : Nat → Nat → List (Nat × Nat)} {σ : Sg} {e : Nat} (h : σ 13 e = 1) : coF G ad τ μ Λ σ e = [(τ 16 e, .inr (5, [.ref (τ 10 e), .ref (ad 18 (σ 14 e))]))] ++ alW G (τ 10 e) (τ 11 e) (τ 12 e) (μ 3 e) (Λ 3 e).length ((Λ 3 e).map (fun z => τ 14 z.1)) := by
  unfold coF
  rw [if_neg (by rw [h]; decide), if_pos h]
  rfl
theorem dpP_lay {σ ρ : Sg} {e b : Nat} (hρ : ρ = laidB e b σ) (h7 : σ 7 b = 1) : dpP ρ = dpP σ := by
  funext j
  unfold dpP
  rw [hρ, laidB_o (f := 32) (by decide), laidB_rd]
  by_cases q : j = b ∧ σ 7 b = 1 ∧ σ 10 b = e
  · rw [if_pos q, q.1, h7]
    simp [layV]
  · rw [if_neg q]
