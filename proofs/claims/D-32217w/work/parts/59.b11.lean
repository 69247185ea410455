/-! ===== B 6: what holds of both programs' data ===== -/
def dOk (τ σ : Sg) : Prop := (τ 13 5 = 17 ∨ τ 13 5 = 36 ∨ τ 13 5 = 74) ∧ σ 35 0 < τ 13 5 ∧ τ 13 6 < τ 13 5
def pVs (L : List (Nat × Nat)) : List Nat := L.map (fun z => z.2)
/-- an event that is still to come: i is the first of today's that is not done -/
abbrev pend (σ : Sg) (i e : Nat) : Prop := σ 30 0 < σ 12 e ∨ (σ 12 e = σ 30 0 ∧ i ≤ e)
def pcut (σ : Sg) (i n : Nat) : Nat := lp (fun e a => a + if σ 13 e = 0 ∧ pend σ i e then σ 14 e else 0) n 0
def nin (σ : Sg) (n : Nat) : Nat := lp (fun m a => a + if σ 22 m = 0 then 1 else 0) n 0
def unw (σ : Sg) (n : Nat) : Nat := lp (fun m a => a + if σ 23 m = 0 then 1 else 0) n 0
def bdOk (τ : Sg) (L : Nat → List (Nat × Nat)) (σ : Sg) (b : Nat) : Prop :=
  (σ 5 b ≤ σ 6 b ∧ σ 6 b - σ 5 b = σ 11 b ∧ (1000 ≤ σ 11 b ↔ σ 7 b = 3)) ∧
  (σ 7 b = 2 → σ 6 b = σ 4 (σ 8 b)) ∧
  (σ 7 b ≤ 1 ∨ (σ 7 b = 4 ∧ τ 1 b = NONE) → σ 11 b = 0) ∧
  (σ 7 b = 0 → σ 8 b = NONE) ∧
  (σ 8 b = NONE ∨ σ 8 b < 12) ∧
  (σ 8 b = NONE → σ 7 b = 0 ∨ (σ 7 b = 4 ∧ τ 1 b = NONE)) ∧
  (σ 7 b ≤ 2 → τ 1 b = NONE) ∧
  (σ 7 b = 2 → τ 0 b ≤ (L (σ 8 b)).length ∧ prS (pVs (L (σ 8 b))) (τ 0 b) ((L (σ 8 b)).length - τ 0 b) = σ 11 b) ∧
  (2 < σ 7 b → τ 1 b ≠ NONE → τ 0 b ≤ τ 1 b ∧ τ 1 b ≤ (L (σ 8 b)).length ∧ prS (pVs (L (σ 8 b))) (τ 0 b) (τ 1 b - τ 0 b) = σ 11 b) ∧
  (σ 7 b = 3 → τ 1 b ≠ NONE)
def msOk (τ σ : Sg) (s : Nat) : Prop :=
  (gsL σ s (σ 36 0)).1 = (if τ 5 s = 0 then NONE else τ 5 s - 1) ∧ τ 5 s ≤ σ 36 0 ∧ (σ 2 s = NONE ∨ σ 2 s < 2 ^ 30) ∧
  ((τ 3 s = 1 ∧ (gsL σ s (σ 36 0)).2 = 0 ∧ τ 2 s = σ 2 s ∧ σ 2 s ≠ NONE) ∨ (τ 3 s = 0 ∧ (¬ (gsL σ s (σ 36 0)).2 = 0 ∨ (τ 5 s = 0 ∧ σ 2 s = NONE ∧ (gsL σ s (σ 36 0)).2 = 0))))
/-- boards on their way -/
def snOk (τ : Sg) (Λ3 : Nat → List (Nat × Nat)) (σ : Sg) (e : Nat) : Prop :=
  σ 14 e < 12 ∧ aOk (τ 12 e) ((Λ3 e).map (fun z => τ 14 z.1)) ∧ (Λ3 e).length ≤ 20 ∧ ((Λ3 e).map (fun z => z.1)).Nodup ∧
  (∀ b, b ∈ (Λ3 e).map (fun z => z.1) → b < σ 32 0 ∧ σ 7 b ≠ 0 ∧ (σ 7 b = 1 → σ 10 b = e)) ∧
  (∀ b, b < σ 32 0 → σ 7 b = 1 → σ 10 b = e → b ∈ (Λ3 e).map (fun z => z.1) ∧ σ 8 b = σ 14 e)
def WF (G : GT) (τ : Sg) (Λ : Nat → Nat → List (Nat × Nat)) (T : TT) (σ : Sg) (i c p : Nat) : Prop :=
  (Sv σ) ∧
  (aOk (τ 13 1) (fam (τ 14) (σ 32 0))) ∧
  (aOk (τ 13 3) (fam (τ 15) (σ 36 0))) ∧
  (dOk τ σ) ∧
  (tmOk G T (Λ 2)) ∧
  (∀ s, s < 12 → aOk (τ 9 s) ((Λ 1 s).map (fun z => z.1)) ∧ (Λ 1 s).length ≤ c ∧ ∀ z ∈ Λ 1 s, z.2 ≤ 25000 ∧ intE G z) ∧
  (∀ s, s < 12 → ((Λ 0 s).map (fun z => z.2)).Nodup ∧ ∀ b, b ∈ (Λ 0 s).map (fun z => z.2) ↔ b < σ 32 0 ∧ σ 7 b = 2 ∧ σ 8 b = s) ∧
  (∀ b, b < σ 32 0 → bdOk τ (Λ 1) σ b) ∧
  (∀ s, s < 12 → msOk τ σ s) ∧
  (∀ j, σ 25 j + unw σ (σ 36 0) ≤ σ 36 0 ∧ σ 24 j ≤ 30000 * σ 25 j) ∧
  (∀ d, (Λ 2 d).map (fun z => z.2) = if σ 30 0 < d then (List.range (σ 34 0)).filter (fun e => σ 12 e = d) else []) ∧
  (∀ e, e < σ 34 0 → σ 13 e = 0 → σ 14 e ≤ 20) ∧
  (∀ e, e < σ 34 0 → σ 13 e = 1 → snOk τ (Λ 3) σ e) ∧
  (∀ e, e < σ 34 0 → σ 13 e = 2 → σ 14 e < σ 36 0 ∧ σ 21 (σ 14 e) = σ 12 e ∧ (σ 22 (σ 14 e) = 0 ↔ pend σ i e)) ∧
  (∀ e f, e < f → f < σ 34 0 → σ 13 e = 2 → σ 13 f = 2 → σ 14 e < σ 14 f) ∧
  (∀ m, m < σ 36 0 → ∃ e, e < σ 34 0 ∧ σ 13 e = 2 ∧ σ 14 e = m) ∧
  (∀ b, b < σ 32 0 → σ 7 b = 1 → σ 10 b < σ 34 0) ∧
  (σ 32 0 + pcut σ i (σ 34 0) ≤ σ 33 0 ∧ σ 33 0 ≤ 200) ∧
  (σ 34 0 + countN σ 0 (σ 32 0) ≤ p + σ 32 0 ∧ p ≤ 64) ∧
  (σ 35 0 + nin σ (σ 36 0) ≤ σ 36 0) ∧
  (∀ b, b < σ 34 0 → σ 13 b < 3) ∧
  (∀ b, σ 32 0 ≤ b → σ 5 b = σ 6 b ∧ σ 11 b = 0) ∧
  (∀ m, σ 36 0 ≤ m → σ 22 m = 0 ∧ σ 23 m = 0)
theorem WF.sv {G : GT} {τ : Sg} {Λ : Nat → Nat → List (Nat × Nat)} {T : TT} {σ : Sg} {i c p : Nat} (h : WF G τ Λ T σ i c p) : Sv σ := h.1
theorem WF.cB {G : GT} {τ : Sg} {Λ : Nat → Nat → List (Nat × Nat)} {T : TT} {σ : Sg} {i c p : Nat} (h : WF G τ Λ T σ i c p) : aOk (τ 13 1) (fam (τ 14) (σ 32 0)) := h.2.1
theorem WF.cM {G : GT} {τ : Sg} {Λ : Nat → Nat → List (Nat × Nat)} {T : TT} {σ : Sg} {i c p : Nat} (h : WF G τ Λ T σ i c p) : aOk (τ 13 3) (fam (τ 15) (σ 36 0)) := h.2.2.1
theorem WF.dq {G : GT} {τ : Sg} {Λ : Nat → Nat → List (Nat × Nat)} {T : TT} {σ : Sg} {i c p : Nat} (h : WF G τ Λ T σ i c p) : dOk τ σ := h.2.2.2.1
theorem WF.tm {G : GT} {τ : Sg} {Λ : Nat → Nat → List (Nat × Nat)} {T : TT} {σ : Sg} {i c p : Nat} (h : WF G τ Λ T σ i c p) : tmOk G T (Λ 2) := h.2.2.2.2.1
theorem WF.pr {G : GT} {τ : Sg} {Λ : Nat → Nat → List (Nat × Nat)} {T : TT} {σ : Sg} {i c p : Nat} (h : WF G τ Λ T σ i c p) : ∀ s, s < 12 → aOk (τ 9 s) ((Λ 1 s).map (fun z => z.1)) ∧ (Λ 1 s).length ≤ c ∧ ∀ z ∈ Λ 1 s, z.2 ≤ 25000 ∧ intE G z := h.2.2.2.2.2.1
theorem WF.ly {G : GT} {τ : Sg} {Λ : Nat → Nat → List (Nat × Nat)} {T : TT} {σ : Sg} {i c p : Nat} (h : WF G τ Λ T σ i c p) : ∀ s, s < 12 → ((Λ 0 s).map (fun z => z.2)).Nodup ∧ ∀ b, b ∈ (Λ 0 s).map (fun z => z.2) ↔ b < σ 32 0 ∧ σ 7 b = 2 ∧ σ 8 b = s := h.2.2.2.2.2.2.1
theorem WF.bd {G : GT} {τ : Sg} {Λ : Nat → Nat → List (Nat × Nat)} {T : TT} {σ : Sg} {i c p : Nat} (h : WF G τ Λ T σ i c p) : ∀ b, b < σ 32 0 → bdOk τ (Λ 1) σ b := h.2.2.2.2.2.2.2.1
theorem WF.ms {G : GT} {τ : Sg} {Λ : Nat → Nat → List (Nat × Nat)} {T : TT} {σ : Sg} {i c p : Nat} (h : WF G τ Λ T σ i c p) : ∀ s, s < 12 → msOk τ σ s := h.2.2.2.2.2.2.2.2.1
theorem WF.nt {G : GT} {τ : Sg} {Λ : Nat → Nat → List (Nat × Nat)} {T : TT} {σ : Sg} {i c p : Nat} (h : WF G τ Λ T σ i c p) : ∀ j, σ 25 j + unw σ (σ 36 0) ≤ σ 36 0 ∧ σ 24 j ≤ 30000 * σ 25 j := h.2.2.2.2.2.2.2.2.2.1
theorem WF.ev {G : GT} {τ : Sg} {Λ : Nat → Nat → List (Nat × Nat)} {T : TT} {σ : Sg} {i c p : Nat} (h : WF G τ Λ T σ i c p) : ∀ d, (Λ 2 d).map (fun z => z.2) = if σ 30 0 < d then (List.range (σ 34 0)).filter (fun e => σ 12 e = d) else [] := h.2.2.2.2.2.2.2.2.2.2.1
theorem WF.e0 {G : GT} {τ : Sg} {Λ : Nat → Nat → List (Nat × Nat)} {T : TT} {σ : Sg} {i c p : Nat} (h : WF G τ Λ T σ i c p) : ∀ e, e < σ 34 0 → σ 13 e = 0 → σ 14 e ≤ 20 := h.2.2.2.2.2.2.2.2.2.2.2.1
theorem WF.e1 {G : GT} {τ : Sg} {Λ : Nat → Nat → List (Nat × Nat)} {T : TT} {σ : Sg} {i c p : Nat} (h : WF G τ Λ T σ i c p) : ∀ e, e < σ 34 0 → σ 13 e = 1 → snOk τ (Λ 3) σ e := h.2.2.2.2.2.2.2.2.2.2.2.2.1
theorem WF.e2 {G : GT} {τ : Sg} {Λ : Nat → Nat → List (Nat × Nat)} {T : TT} {σ : Sg} {i c p : Nat} (h : WF G τ Λ T σ i c p) : ∀ e, e < σ 34 0 → σ 13 e = 2 → σ 14 e < σ 36 0 ∧ σ 21 (σ 14 e) = σ 12 e ∧ (σ 22 (σ 14 e) = 0 ↔ pend σ i e) := h.2.2.2.2.2.2.2.2.2.2.2.2.2.1
theorem WF.e3 {G : GT} {τ : Sg} {Λ : Nat → Nat → List (Nat × Nat)} {T : TT} {σ : Sg} {i c p : Nat} (h : WF G τ Λ T σ i c p) : ∀ e f, e < f → f < σ 34 0 → σ 13 e = 2 → σ 13 f = 2 → σ 14 e < σ 14 f := h.2.2.2.2.2.2.2.2.2.2.2.2.2.2.1
theorem WF.e4 {G : GT} {τ : Sg} {Λ : Nat → Nat → List (Nat × Nat)} {T : TT} {σ : Sg} {i c p : Nat} (h : WF G τ Λ T σ i c p) : ∀ m, m < σ 36 0 → ∃ e, e < σ 34 0 ∧ σ 13 e = 2 ∧ σ 14 e = m := h.2.2.2.2.2.2.2.2.2.2.2.2.2.2.2.1
theorem WF.e5 {G : GT} {τ : Sg} {Λ : Nat → Nat → List (Nat × Nat)} {T : TT} {σ : Sg} {i c p : Nat} (h : WF G τ Λ T σ i c p) : ∀ b, b < σ 32 0 → σ 7 b = 1 → σ 10 b < σ 34 0 := h.2.2.2.2.2.2.2.2.2.2.2.2.2.2.2.2.1
theorem WF.n0 {G : GT} {τ : Sg} {Λ : Nat → Nat → List (Nat × Nat)} {T : TT} {σ : Sg} {i c p : Nat} (h : WF G τ Λ T σ i c p) : σ 32 0 + pcut σ i (σ 34 0) ≤ σ 33 0 ∧ σ 33 0 ≤ 200 := h.2.2.2.2.2.2.2.2.2.2.2.2.2.2.2.2.2.1
theorem WF.n1 {G : GT} {τ : Sg} {Λ : Nat → Nat → List (Nat × Nat)} {T : TT} {σ : Sg} {i c p : Nat} (h : WF G τ Λ T σ i c p) : σ 34 0 + countN σ 0 (σ 32 0) ≤ p + σ 32 0 ∧ p ≤ 64 := h.2.2.2.2.2.2.2.2.2.2.2.2.2.2.2.2.2.2.1
theorem WF.n2 {G : GT} {τ : Sg} {Λ : Nat → Nat → List (Nat × Nat)} {T : TT} {σ : Sg} {i c p : Nat} (h : WF G τ Λ T σ i c p) : σ 35 0 + nin σ (σ 36 0) ≤ σ 36 0 := h.2.2.2.2.2.2.2.2.2.2.2.2.2.2.2.2.2.2.2.1
theorem WF.nd {G : GT} {τ : Sg} {Λ : Nat → Nat → List (Nat × Nat)} {T : TT} {σ : Sg} {i c p : Nat} (h : WF G τ Λ T σ i c p) : ∀ b, b < σ 34 0 → σ 13 b < 3 := h.2.2.2.2.2.2.2.2.2.2.2.2.2.2.2.2.2.2.2.2.1
theorem WF.bz {G : GT} {τ : Sg} {Λ : Nat → Nat → List (Nat × Nat)} {T : TT} {σ : Sg} {i c p : Nat} (h : WF G τ Λ T σ i c p) : ∀ b, σ 32 0 ≤ b → σ 5 b = σ 6 b ∧ σ 11 b = 0 := h.2.2.2.2.2.2.2.2.2.2.2.2.2.2.2.2.2.2.2.2.2.1
theorem WF.mz {G : GT} {τ : Sg} {Λ : Nat → Nat → List (Nat × Nat)} {T : TT} {σ : Sg} {i c p : Nat} (h : WF G τ Λ T σ i c p) : ∀ m, σ 36 0 ≤ m → σ 22 m = 0 ∧ σ 23 m = 0 := h.2.2.2.2.2.2.2.2.2.2.2.2.2.2.2.2.2.2.2.2.2.2
theorem lp_cg {α : Type} {f g : Nat → α → α} {n : Nat} {a : α} (h : ∀ i, i < n → ∀ x, f i x = g i x) : lp f n a = lp g n a := by
  induction n with
  | zero => rfl
  | succ n ih => show f n (lp f n a) = g n (lp g n a); rw [ih (fun i hi => h i (by omega)), h n (by omega)]
theorem gsL_cg {σ ρ : Sg} {s n : Nat} (h : ∀ f, f = 18 ∨ f = 21 ∨ f = 22 ∨ f = 23 → ∀ j, σ f j = ρ f j) : gsL σ s n = gsL ρ s n := by
  unfold gsL
  refine lp_cg (fun i _ x => ?_)
  unfold gsB
  rw [h 18 (by simp), h 21 (by simp), h 22 (by simp), h 23 (by simp), h 21 (by simp)]
theorem pcut_cg {σ ρ : Sg} {i n : Nat} (h : ∀ f, f = 12 ∨ f = 13 ∨ f = 14 → ∀ j, j < n → σ f j = ρ f j) (h30 : σ 30 0 = ρ 30 0) : pcut σ i n = pcut ρ i n := by
  unfold pcut
  refine lp_cg (fun e he x => ?_)
  unfold pend
  rw [h 13 (by simp) e he, h 12 (by simp) e he, h 14 (by simp) e he, h30]
theorem nin_cg {σ ρ : Sg} {n : Nat} (h : ∀ j, j < n → σ 22 j = ρ 22 j) : nin σ n = nin ρ n := lp_cg (fun e he x => by rw [h e he])
theorem unw_cg {σ ρ : Sg} {n : Nat} (h : ∀ j, j < n → σ 23 j = ρ 23 j) : unw σ n = unw ρ n := lp_cg (fun e he x => by rw [h e he])
/-- what sending has done to the boards -/
theorem sendL_brd (σ : Sg) (s n : Nat) : ∀ k, countN σ 0 k ≤ n → ∀ b, (sendL σ s n k).2 7 b = (if b < k ∧ σ 7 b = 0 then 1 else σ 7 b) ∧ (sendL σ s n k).2 8 b = (if b < k ∧ σ 7 b = 0 then s else σ 8 b) ∧ (sendL σ s n k).2 10 b = (if b < k ∧ σ 7 b = 0 then σ 34 0 else σ 10 b) := by
  intro k
  induction k with
  | zero =>
    intro _ b
    rw [sendL_zero]
    simp [comes_o]
  | succ k ih =>
    intro hk b
    by_cases h0 : σ 7 k = 0
    · have hc : countN σ 0 (k + 1) = countN σ 0 k + 1 := by
        show countN σ 0 k + (if σ 7 k = 0 then 1 else 0) = _
        rw [if_pos h0]
      have h1 := ih (by omega) b
      have hl : 0 < (sendL σ s n k).1 := by rw [(sendL_7 σ s n k).1]; omega
      rw [(sendL_take h0 hl).1]
      simp only [s2_rd]
      by_cases e : b = k
      · subst e; simp [h0]
      · have : (b < k + 1) = (b < k) := propext (by omega)
        simp only [if_neg e, this]
        simpa using h1
    · have hc : countN σ 0 (k + 1) = countN σ 0 k := by
        show countN σ 0 k + (if σ 7 k = 0 then 1 else 0) = _
        rw [if_neg h0]
        rfl
      have h1 := ih (by omega) b
      rw [(sendL_skip (σ := σ) (s := s) (n := n) (p := k) 1 (fun j q1 q2 => by rw [show j = k by omega]; exact h0)).1]
      by_cases e : b = k
      · subst e; simp only [h0, and_false, if_false] at h1 ⊢; exact h1
      · have : (b < k + 1) = (b < k) := propext (by omega)
        simp only [this]
        exact h1
theorem sends_brd {σ : Sg} {s n k : Nat} (hf : sendsF σ s n = (sendL σ s n k).2) (hc : countN σ 0 k = n) (b : Nat) : sendsF σ s n 7 b = (if b < k ∧ σ 7 b = 0 then 1 else σ 7 b) ∧ sendsF σ s n 8 b = (if b < k ∧ σ 7 b = 0 then s else σ 8 b) ∧ sendsF σ s n 10 b = (if b < k ∧ σ 7 b = 0 then σ 34 0 else σ 10 b) := by
  rw [hf]; exact sendL_brd σ s n k (by omega) b
theorem sends_ev (σ : Sg) (s n f j : Nat) (hf : f = 12 ∨ f = 13 ∨ f = 14) : sendsF σ s n f j = if j = σ 34 0 then (if f = 12 then σ 30 0 + 1 + s % 6 else if f = 13 then 1 else s) else σ f j := by
  have := sendL_ev σ s n (σ 32 0) f j (by omega)
  show (sendL σ s n (σ 32 0)).2 f j = _
  rw [this]
  unfold comesF
  rcases hf with rfl | rfl | rfl <;> simp [s2_rd]
theorem filt_snoc (P : Nat → Bool) (n : Nat) : (List.range (n + 1)).filter P = (List.range n).filter P ++ (if P n then [n] else []) := by
  rw [List.range_succ, List.filter_append]
  by_cases h : P n
  · simp [h]
  · simp [h]
