/-! ===== SPEC 2: what the reference's functions keep ===== -/
theorem seasonN_lt (d : Nat) : seasonN d < 4 := Nat.mod_lt _ (by decide)
theorem sinks_o (σ : Sg) (s y f j : Nat) (hf : f ≠ 11 ∧ f ≠ 6 ∧ f ≠ 7 ∧ f ≠ 4) : sinksF σ s y f j = σ f j := by
  unfold sinksF
  rw [lp_keep (f := sinkB s y) (fun τ : Sg => τ f j) (fun i a => sinkB_o ⟨hf.1, hf.2.1, hf.2.2.1⟩)]
  simp [s2_rd, hf.2.2.2]
theorem Sf.sinks {σ : Sg} (h : Sf σ) {s y : Nat} (hy : y ≤ 25000) : Sf (sinksF σ s y) := lp_inv (h.s2o (by decide) (Or.inl rfl)) (fun i a q => q.sink hy) _
theorem week1_o (σ : Sg) (n f j : Nat) (hf : f ≠ 11 ∧ f ≠ 6 ∧ f ≠ 7 ∧ f ≠ 4) : lp (fun s σ => sinksF σ s (σ 0 s)) n σ f j = σ f j := lp_keep (f := fun s (σ : Sg) => sinksF σ s (σ 0 s)) (fun τ : Sg => τ f j) (fun i a => sinks_o a i _ f j hf) n σ
theorem Sf.week1 {σ : Sg} (h : Sf σ) (n : Nat) : Sf (lp (fun s σ => sinksF σ s (σ 0 s)) n σ) := lp_inv (f := fun s (σ : Sg) => sinksF σ s (σ 0 s)) h (fun i a q => q.sinks (by have := q.1.lt 0 (by decide) i; have : a 0 i < 51 := this; omega)) n
theorem rotB_o {b f j : Nat} {σ : Sg} (hf : f ≠ 7) : rotB b σ f j = σ f j := by
  unfold rotB
  split
  · simp [s2_rd, hf]
  · rfl
theorem rots_o (σ : Sg) (n f j : Nat) (hf : f ≠ 7) : lp rotB n σ f j = σ f j := lp_keep (f := rotB) (fun τ : Sg => τ f j) (fun i a => rotB_o hf) n σ
theorem Sf.rots {σ : Sg} (h : Sf σ) {n : Nat} (hn : n ≤ σ 32 0) : Sf (lp rotB n σ) := by
  refine (lp_invB (P := fun _ τ => Sf τ ∧ τ 32 0 = σ 32 0) (σ 32 0) ⟨h, rfl⟩ (fun i a hi q => ⟨q.1.rot (by rw [q.2]; exact hi), ?_⟩) n hn).1
  rw [rotB_o (by decide)]; exact q.2
theorem Sf.week {σ : Sg} (h : Sf σ) : Sf (weekF σ) := (h.week1 12).rots (Nat.le_refl _)
theorem weekF_o (σ : Sg) (f j : Nat) (hf : f ≠ 11 ∧ f ≠ 6 ∧ f ≠ 7 ∧ f ≠ 4) : weekF σ f j = σ f j := by
  unfold weekF
  rw [rots_o _ _ _ _ hf.2.2.1]
  exact week1_o σ 12 f j hf
theorem sendB_o {s e b f j : Nat} {p : Nat × Sg} (hf : f ≠ 7 ∧ f ≠ 8 ∧ f ≠ 10) : (sendB s e b p).2 f j = p.2 f j := by
  unfold sendB
  split
  · simp [s2_rd, hf.1, hf.2.1, hf.2.2]
  · rfl
theorem comes_o (σ : Sg) (on wh wi f j : Nat) (hf : f ≠ 12 ∧ f ≠ 13 ∧ f ≠ 14 ∧ f ≠ 34) : comesF σ on wh wi f j = σ f j := by
  simp [comesF, s2_rd, hf.1, hf.2.1, hf.2.2.1, hf.2.2.2]
theorem sendL_o (σ : Sg) (s n k f j : Nat) (hf : f ≠ 7 ∧ f ≠ 8 ∧ f ≠ 10 ∧ f ≠ 12 ∧ f ≠ 13 ∧ f ≠ 14 ∧ f ≠ 34) : (sendL σ s n k).2 f j = σ f j := by
  unfold sendL
  rw [lp_keep (f := sendB s (σ 34 0)) (fun p : Nat × Sg => p.2 f j) (fun i a => sendB_o ⟨hf.1, hf.2.1, hf.2.2.1⟩)]
  exact comes_o _ _ _ _ _ _ ⟨hf.2.2.2.1, hf.2.2.2.2.1, hf.2.2.2.2.2.1, hf.2.2.2.2.2.2⟩
theorem sendL_34 (σ : Sg) (s n k : Nat) : (sendL σ s n k).2 34 0 = σ 34 0 + 1 := by
  unfold sendL
  rw [lp_keep (f := sendB s (σ 34 0)) (fun p : Nat × Sg => p.2 34 0) (fun i a => sendB_o (by decide))]
  simp [comesF, s2_rd]
theorem Sf.sendL0 {σ : Sg} (h : Sf σ) {s n k : Nat} (hs : s < 12) (he : σ 34 0 < 480) (hk : k ≤ σ 32 0) : Sf (sendL σ s n k).2 := by
  have hd : σ 30 0 < 5001 := h.1.lt 30 (by decide) 0
  refine (lp_invB (f := sendB s (σ 34 0)) (a := (n, comesF σ (σ 30 0 + 1 + s % 6) 1 s)) (P := fun _ (p : Nat × Sg) => Sf p.2 ∧ p.2 32 0 = σ 32 0) (σ 32 0) ⟨h.comes (by have := Nat.mod_lt s (show 0 < 6 by decide); omega) (by decide) (by omega) he, comes_o σ (σ 30 0 + 1 + s % 6) 1 s 32 0 (by decide)⟩ (fun i a hi q => ⟨Sf.send q.1 hs (by omega) (by rw [q.2]; exact hi), ?_⟩) k hk).1
  rw [sendB_o (by decide)]; exact q.2
theorem Sf.sends {σ : Sg} (h : Sf σ) {s n : Nat} (hs : s < 12) (he : σ 34 0 < 480) : Sf (sendsF σ s n) := h.sendL0 hs he (Nat.le_refl _)
theorem sends_o (σ : Sg) (s n f j : Nat) (hf : f ≠ 7 ∧ f ≠ 8 ∧ f ≠ 10 ∧ f ≠ 12 ∧ f ≠ 13 ∧ f ≠ 14 ∧ f ≠ 34) : sendsF σ s n f j = σ f j := sendL_o σ s n _ f j hf
theorem sends_34 (σ : Sg) (s n : Nat) : sendsF σ s n 34 0 = σ 34 0 + 1 := sendL_34 σ s n _
theorem sendB_stop {s e : Nat} {p : Nat × Sg} {k : Nat} (h : (lp (sendB s e) k p).1 = 0) : ∀ d, lp (sendB s e) (k + d) p = lp (sendB s e) k p := by
  intro d
  induction d with
  | zero => rfl
  | succ d ih =>
    show sendB s e (k + d) (lp (sendB s e) (k + d) p) = _
    rw [ih]
    generalize lp (sendB s e) k p = z at h ⊢
    unfold sendB
    rw [if_neg (by rw [h]; omega)]
theorem count_cg {σ τ : Sg} {q n : Nat} (h : ∀ j, j < n → σ 7 j = τ 7 j) : countN σ q n = countN τ q n := by
  unfold countN
  induction n with
  | zero => rfl
  | succ n ih => simp only [lp]; rw [ih (fun j hj => h j (by omega)), h n (by omega)]
/-- what a sending does to the boards' places, so far -/
theorem sendL_7 (σ : Sg) (s n k : Nat) : (sendL σ s n k).1 = n - countN σ 0 k ∧ countN (sendL σ s n k).2 0 k = countN σ 0 k - n ∧ ∀ j, k ≤ j → (sendL σ s n k).2 7 j = σ 7 j := by
  induction k with
  | zero => exact ⟨by simp [sendL, lp, countN], by simp [countN, lp], fun j _ => by simp [sendL, lp, comesF, s2_rd]⟩
  | succ k ih =>
    obtain ⟨h1, h2, h3⟩ := ih
    have e : sendL σ s n (k + 1) = sendB s (σ 34 0) k (sendL σ s n k) := rfl
    have ec : ∀ τ : Sg, countN τ 0 (k + 1) = countN τ 0 k + if τ 7 k = 0 then 1 else 0 := fun τ => rfl
    rw [e]
    unfold sendB
    rw [h1, h3 k (Nat.le_refl _)]
    split
    · rename_i hc
      have hg : countN (s2 (s2 (s2 (sendL σ s n k).2 7 k 1) 8 k s) 10 k (σ 34 0)) 0 k = countN (sendL σ s n k).2 0 k := count_cg (fun j hj => by simp [s2_rd, show j ≠ k by omega])
      refine ⟨?_, ?_, fun j hj => ?_⟩
      · rw [ec, if_pos hc.2]; omega
      · rw [ec, ec, hg, h2, if_pos hc.2]; simp [s2_rd]; omega
      · simp [s2_rd, show j ≠ k by omega]; exact h3 j (by omega)
    · rename_i hc
      refine ⟨?_, ?_, fun j hj => h3 j (by omega)⟩
      · rw [ec]; split <;> omega
      · rw [ec, ec, h2, h3 k (Nat.le_refl _)]; split <;> omega
theorem sends_count (σ : Sg) (s n : Nat) : countN (sendsF σ s n) 0 (σ 32 0) = countN σ 0 (σ 32 0) - n := (sendL_7 σ s n _).2.1
theorem shift_o {k f j : Nat} {σ : Sg} (hf : f ≠ 15 ∧ f ≠ 16) : shiftB k σ f j = σ f j := by simp [shiftB, s2_rd, hf.1, hf.2]
theorem shifts_o (σ : Sg) (n f j : Nat) (hf : f ≠ 15 ∧ f ≠ 16) : lp shiftB n σ f j = σ f j := lp_keep (f := shiftB) (fun τ : Sg => τ f j) (fun i a => shift_o hf) n σ
theorem shifts_16 (σ : Sg) (n : Nat) : ∀ j, lp shiftB n σ 16 j = if j < n then σ 16 (j + 1) else σ 16 j := by
  induction n with
  | zero => intro j; rfl
  | succ n ih =>
    intro j
    show shiftB n (lp shiftB n σ) 16 j = _
    simp only [shiftB, s2_rd]
    simp only [if_pos, if_neg (show (16 : Nat) ≠ 15 by decide)]
    rw [ih, ih]
    by_cases h : j = n
    · subst h; simp; intro q; omega
    · simp only [if_neg h]; split <;> split <;> first | rfl | omega
theorem shifts_15 (σ : Sg) (n : Nat) : ∀ j, lp shiftB n σ 15 j = if j < n then σ 15 (j + 1) else σ 15 j := by
  induction n with
  | zero => intro j; rfl
  | succ n ih =>
    intro j
    show shiftB n (lp shiftB n σ) 15 j = _
    simp only [shiftB, s2_rd]
    simp only [if_pos, if_neg (show (15 : Nat) ≠ 16 by decide)]
    rw [ih, ih]
    by_cases h : j = n
    · subst h; simp; intro q; omega
    · simp only [if_neg h]; split <;> split <;> first | rfl | omega
theorem Sf.shifts {σ : Sg} (h : Sf σ) (n : Nat) : Sf (lp shiftB n σ) := lp_inv (f := shiftB) h (fun i a q => (q.s2o (by decide) (Or.inr (q.1.lt 15 (by decide) _))).s2o (by decide) (Or.inr (q.1.lt 16 (by decide) _))) n
/-- debts are debts, and there is room for what serving them makes -/
def Sv (σ : Sg) : Prop := Sf σ ∧ (∀ k, k < σ 35 0 → 1 ≤ σ 16 k) ∧ σ 34 0 + countN σ 0 (σ 32 0) ≤ 480
theorem serve1_o (σ : Sg) (f j : Nat) (hf : f ≠ 15 ∧ f ≠ 16 ∧ f ≠ 35) : serve1 σ f j = σ f j := by
  unfold serve1
  split
  · rw [s2_rd, if_neg hf.2.2, shifts_o _ _ _ _ ⟨hf.1, hf.2.1⟩]; simp [serve0, s2_rd, hf.2.1]
  · simp [serve0, s2_rd, hf.2.1]
theorem Sf.serve0 {σ : Sg} (h : Sf σ) : Sf (serve0 σ) := h.s2o (by decide) (Or.inr (by have h1 : σ 16 0 < 5 := h.1.lt 16 (by decide) 0; show σ 16 0 - serveN σ < 5; omega))
theorem Sf.serve1 {σ : Sg} (h : Sf σ) : Sf (serve1 σ) := by
  show Sf (if _ then _ else _)
  split
  · exact (h.serve0.shifts _).s2o (by decide) (Or.inr (by have h1 : σ 35 0 < 65 := h.1.lt 35 (by decide) 0; show _ < 65; omega))
  · exact h.serve0
theorem serveN_le (σ : Sg) : serveN σ ≤ countN σ 0 (σ 32 0) ∧ serveN σ ≤ σ 16 0 := by
  unfold serveN
  split <;> omega
theorem serve_ok {σ : Sg} (h : Sv σ) (hr : 0 < σ 35 0) (hc : 0 < countN σ 0 (σ 32 0)) : Sv (serveF σ) ∧ countN (serveF σ) 0 ((serveF σ) 32 0) < countN σ 0 (σ 32 0) ∧ 0 < serveN σ := by
  obtain ⟨h1, h2, h3⟩ := h
  have hn : 0 < serveN σ := by have := h2 0 hr; unfold serveN; split <;> omega
  have hle := serveN_le σ
  have h15 : σ 15 0 < 12 := h1.1.lt 15 (by decide) 0
  have e32 : serve1 σ 32 0 = σ 32 0 := serve1_o _ _ _ (by decide)
  have e34 : serve1 σ 34 0 = σ 34 0 := serve1_o _ _ _ (by decide)
  have ec : countN (serve1 σ) 0 (σ 32 0) = countN σ 0 (σ 32 0) := count_cg (fun j _ => serve1_o _ _ _ (by decide))
  have f32 : (serveF σ) 32 0 = σ 32 0 := (sends_o _ _ _ _ _ (by decide)).trans e32
  have fc : countN (serveF σ) 0 (σ 32 0) = countN σ 0 (σ 32 0) - serveN σ := by
    have := sends_count (serve1 σ) (σ 15 0) (serveN σ)
    rw [e32, ec] at this
    exact this
  refine ⟨⟨(h1.serve1).sends h15 (by rw [e34]; omega), fun k hk => ?_, ?_⟩, by rw [f32, fc]; omega, hn⟩
  · have e1 : ∀ f j, (f = 16 ∨ f = 35) → (serveF σ) f j = serve1 σ f j := fun f j hf => sends_o _ _ _ _ _ (by rcases hf with rfl | rfl <;> decide)
    rw [e1 35 0 (Or.inr rfl)] at hk
    rw [e1 16 k (Or.inl rfl)]
    unfold serve1 at hk ⊢
    split at hk
    · rename_i hz
      rw [if_pos hz]
      simp only [s2_rd, if_pos] at hk
      rw [s2_rd, if_neg (by decide), shifts_16, if_pos (by omega)]
      simp only [serve0, s2_rd, if_pos, if_neg (show k + 1 ≠ 0 by omega)]
      exact h2 (k + 1) (by omega)
    · rename_i hz
      rw [if_neg hz]
      simp only [serve0, s2_rd, if_neg (show (35 : Nat) ≠ 16 by decide)] at hk
      simp only [serve0, s2_rd, if_pos]
      split
      · omega
      · exact h2 k hk
  · rw [f32, fc, show (serveF σ) 34 0 = σ 34 0 + 1 from (sends_34 _ _ _).trans (by rw [e34])]
    omega
theorem serves_inv {P : Sg → Prop} (hs : ∀ σ, P σ → Sv σ → 0 < σ 35 0 → 0 < countN σ 0 (σ 32 0) → P (serveF σ)) : ∀ (k : Nat) (σ : Sg), Sv σ → P σ → P (servesN k σ) ∧ Sv (servesN k σ) := by
  intro k
  induction k with
  | zero => intro σ h1 h2; exact ⟨h2, h1⟩
  | succ k ih =>
    intro σ h1 h2
    unfold servesN
    split
    · rename_i hc
      exact ih _ (serve_ok h1 hc.1 hc.2).1 (hs σ h2 h1 hc.1 hc.2)
    · exact ⟨h2, h1⟩
theorem sends_stop {σ : Sg} {s n b : Nat} (h : (sendL σ s n b).1 = 0) (hb : b ≤ σ 32 0) : sendsF σ s n = (sendL σ s n b).2 := by
  obtain ⟨d, hd⟩ : ∃ d, σ 32 0 = b + d := ⟨σ 32 0 - b, by omega⟩
  unfold sendsF
  rw [hd]
  exact congrArg (fun p : Nat × Sg => p.2) (sendB_stop (s := s) (e := σ 34 0) (p := (n, comesF σ (σ 30 0 + 1 + s % 6) 1 s)) (k := b) h d)
/-- the event e of the day can be carried out -/
def EvOk (σ : Sg) (e : Nat) : Prop := σ 12 e = σ 30 0 → (σ 13 e = 0 → σ 32 0 + σ 14 e ≤ 200 ∧ σ 34 0 + countN σ 0 (σ 32 0) + σ 14 e ≤ 480) ∧ (¬ σ 13 e = 0 → ¬ σ 13 e = 1 → σ 14 e < 60 ∧ σ 35 0 < 64)
def DayOk (σ : Sg) : Prop := σ 30 0 < 5000 ∧ ∀ e, e ≤ σ 34 0 → Sv (lp evF e (day1F σ)) ∧ (e < σ 34 0 → EvOk (lp evF e (day1F σ)) e)
theorem serveF_of {τ : Sg} : sendsF (serve1 τ) (τ 15 0) (serveN τ) = serveF τ := rfl
theorem cuts_32 (σ : Sg) (n : Nat) : lp cutB n σ 32 0 = σ 32 0 + n := by
  induction n with
  | zero => rfl
  | succ n ih => show cutB n (lp cutB n σ) 32 0 = _; simp [cutB, s2_rd, ih]; omega
theorem cut_o {k f j : Nat} {σ : Sg} (hf : f ≠ 7 ∧ f ≠ 8 ∧ f ≠ 9 ∧ f ≠ 32) : cutB k σ f j = σ f j := by simp [cutB, s2_rd, hf.1, hf.2.1, hf.2.2.1, hf.2.2.2]
theorem cuts_o (σ : Sg) (n f j : Nat) (hf : f ≠ 7 ∧ f ≠ 8 ∧ f ≠ 9 ∧ f ≠ 32) : lp cutB n σ f j = σ f j := lp_keep (f := cutB) (fun τ : Sg => τ f j) (fun i a => cut_o hf) n σ
theorem Sf.cuts {σ : Sg} (h : Sf σ) {n : Nat} (hn : σ 32 0 + n ≤ 200) : Sf (lp cutB n σ) := by
  induction n with
  | zero => exact h
  | succ n ih => exact (ih (by omega)).cut n (by rw [cuts_32]; omega)
theorem cuts_count (σ : Sg) (hz : ∀ b, σ 32 0 ≤ b → σ 7 b = 0) (n : Nat) : countN (lp cutB n σ) 0 (σ 32 0 + n) = countN σ 0 (σ 32 0) + n ∧ (∀ b, σ 32 0 + n ≤ b → lp cutB n σ 7 b = 0) := by
  induction n with
  | zero => exact ⟨rfl, hz⟩
  | succ n ih =>
    obtain ⟨h1, h2⟩ := ih
    have e32 := cuts_32 σ n
    have e7 : ∀ j, lp cutB (n + 1) σ 7 j = if j = σ 32 0 + n then 0 else lp cutB n σ 7 j := fun j => by
      show cutB n (lp cutB n σ) 7 j = _
      simp [cutB, s2_rd, e32]
    refine ⟨?_, fun b hb => by rw [e7, if_neg (by omega)]; exact h2 b (by omega)⟩
    show countN (lp cutB (n + 1) σ) 0 (σ 32 0 + n) + (if lp cutB (n + 1) σ 7 (σ 32 0 + n) = 0 then 1 else 0) = _
    rw [e7, if_pos rfl, if_pos rfl, count_cg (τ := lp cutB n σ) (fun j hj => by rw [e7, if_neg (by omega)]), h1]
    omega
theorem Sv.cuts {σ : Sg} (h : Sv σ) {n : Nat} (hn : σ 32 0 + n ≤ 200) (he : σ 34 0 + countN σ 0 (σ 32 0) + n ≤ 480) : Sv (lp cutB n σ) := by
  obtain ⟨h1, h2, h3⟩ := h
  refine ⟨h1.cuts hn, fun k hk => ?_, ?_⟩
  · rw [cuts_o _ _ _ _ (by decide)] at hk ⊢
    exact h2 k hk
  · rw [cuts_32, cuts_o _ _ _ _ (by decide), (cuts_count σ h1.2.2.2.2 n).1]
    omega
theorem laidB_o {e b f j : Nat} {σ : Sg} (hf : f ≠ 7 ∧ f ≠ 5 ∧ f ≠ 6) : laidB e b σ f j = σ f j := by
  unfold laidB
  split
  · simp [s2_rd, hf.1, hf.2.1, hf.2.2]
  · rfl
theorem laids_o (σ : Sg) (e n f j : Nat) (hf : f ≠ 7 ∧ f ≠ 5 ∧ f ≠ 6) : lp (laidB e) n σ f j = σ f j := lp_keep (f := laidB e) (fun τ : Sg => τ f j) (fun i a => laidB_o hf) n σ
theorem serveF_o (σ : Sg) (f j : Nat) (hf : f ≠ 7 ∧ f ≠ 8 ∧ f ≠ 10 ∧ f ≠ 12 ∧ f ≠ 13 ∧ f ≠ 14 ∧ f ≠ 34 ∧ f ≠ 15 ∧ f ≠ 16 ∧ f ≠ 35) : serveF σ f j = σ f j :=
  (sends_o _ _ _ _ _ ⟨hf.1, hf.2.1, hf.2.2.1, hf.2.2.2.1, hf.2.2.2.2.1, hf.2.2.2.2.2.1, hf.2.2.2.2.2.2.1⟩).trans (serve1_o _ _ _ hf.2.2.2.2.2.2.2)
theorem servesN_o (k : Nat) : ∀ (σ : Sg) (f j : Nat) (_ : f ≠ 7 ∧ f ≠ 8 ∧ f ≠ 10 ∧ f ≠ 12 ∧ f ≠ 13 ∧ f ≠ 14 ∧ f ≠ 34 ∧ f ≠ 15 ∧ f ≠ 16 ∧ f ≠ 35), servesN k σ f j = σ f j := by
  induction k with
  | zero => intro σ f j _; rfl
  | succ k ih =>
    intro σ f j hf
    unfold servesN
    split
    · rw [ih _ _ _ hf, serveF_o _ _ _ hf]
    · rfl
theorem evF_o (e : Nat) (σ : Sg) (f j : Nat) (hf : f ≠ 4 ∧ f ≠ 5 ∧ f ≠ 6 ∧ f ≠ 7 ∧ f ≠ 8 ∧ f ≠ 9 ∧ f ≠ 10 ∧ f ≠ 12 ∧ f ≠ 13 ∧ f ≠ 14 ∧ f ≠ 15 ∧ f ≠ 16 ∧ f ≠ 22 ∧ f ≠ 32 ∧ f ≠ 34 ∧ f ≠ 35) : evF e σ f j = σ f j := by
  obtain ⟨h4, h5, h6, h7, h8, h9, h10, h12, h13, h14, h15, h16, h22, h32, h34, h35⟩ := hf
  unfold evF
  split
  · split
    · exact (servesN_o _ _ _ _ ⟨h7, h8, h10, h12, h13, h14, h34, h15, h16, h35⟩).trans (cuts_o _ _ _ _ ⟨h7, h8, h9, h32⟩)
    · split
      · exact laids_o _ _ _ _ _ ⟨h7, h5, h6⟩
      · unfold msgF
        split
        · simp [s2_rd, h22]
        · split
          · rw [sends_o _ _ _ _ _ ⟨h7, h8, h10, h12, h13, h14, h34⟩]; simp [s2_rd, h22]
          · rw [servesF, servesN_o _ _ _ _ ⟨h7, h8, h10, h12, h13, h14, h34, h15, h16, h35⟩]; simp [s2_rd, h22, h15, h16, h35]
  · rfl
theorem evs_o (σ : Sg) (n f j : Nat) (hf : f ≠ 4 ∧ f ≠ 5 ∧ f ≠ 6 ∧ f ≠ 7 ∧ f ≠ 8 ∧ f ≠ 9 ∧ f ≠ 10 ∧ f ≠ 12 ∧ f ≠ 13 ∧ f ≠ 14 ∧ f ≠ 15 ∧ f ≠ 16 ∧ f ≠ 22 ∧ f ≠ 32 ∧ f ≠ 34 ∧ f ≠ 35) : lp evF n σ f j = σ f j := lp_keep (f := evF) (fun τ : Sg => τ f j) (fun i a => evF_o i a f j hf) n σ
theorem day2_30 (σ : Sg) : day2F σ 30 0 = σ 30 0 + 1 := by
  unfold day2F
  rw [evs_o _ _ _ _ (by decide)]
  rfl
theorem dayF_30 (σ : Sg) : dayF σ 30 0 = σ 30 0 + 1 := by
  unfold dayF
  split
  · rw [weekF_o _ _ _ (by decide), day2_30]
  · exact day2_30 σ
theorem days_30 (σ : Sg) (n : Nat) : lp (fun _ => dayF) n σ 30 0 = σ 30 0 + n := by
  induction n with
  | zero => rfl
  | succ n ih => show dayF (lp (fun _ => dayF) n σ) 30 0 = _; rw [dayF_30, ih]; omega
def passF (σ : Sg) (n : Nat) : Sg := lp (fun _ => dayF) n (s2 σ 37 0 0)
def PassOk (σ : Sg) (n : Nat) : Prop := ∀ k, k < n → Sf (lp (fun _ => dayF) k (s2 σ 37 0 0)) ∧ DayOk (lp (fun _ => dayF) k (s2 σ 37 0 0))
theorem inR_of {x : Int32} {a b : Nat} (hb : b < 2 ^ 31) (h : inR x a b) : ∃ j : Nat, x = nI j ∧ a ≤ j ∧ j ≤ b := by
  obtain ⟨h1, h2⟩ := h
  refine ⟨x.toInt.toNat, ?_, by omega, by omega⟩
  apply Int32.toInt_inj.mp
  rw [nI_toInt (by omega)]
  omega
theorem inR_nI {j a b : Nat} (hj : j < 2 ^ 31) : inR (nI j) a b ↔ a ≤ j ∧ j ≤ b := by
  unfold inR
  rw [nI_toInt hj]
  omega
/-! the reference's public functions -/
def iN (x : Int32) : Nat := x.toInt.toNat
theorem iN_eq {x : Int32} {a b : Nat} (hb : b < 2 ^ 31) (h : inR x a b) : x = nI (iN x) ∧ a ≤ iN x ∧ iN x ≤ b := by
  obtain ⟨h1, h2⟩ := h
  refine ⟨?_, by unfold iN; omega, by unfold iN; omega⟩
  apply Int32.toInt_inj.mp
  unfold iN
  rw [nI_toInt (by omega)]
  omega
theorem iN_nI {j : Nat} (h : j < 2 ^ 31) : iN (nI j) = j := by unfold iN; rw [nI_toInt h]; omega
theorem lN_addI {d : Nat} (x : Int32) (hd : d < 2 ^ 31) : (lN d + x.toInt64).toInt = d + x.toInt := by
  have h1 := Int32.toInt_lt x
  have h2 := Int32.le_toInt x
  rw [Int64.toInt_add, lN_toInt hd, Int32.toInt_toInt64]
  apply Int.bmod_eq_of_le <;> omega
theorem le_addI {d k : Nat} (x : Int32) (hd : d < 2 ^ 31) (hk : k < 2 ^ 31) : (lN d + x.toInt64 ≤ lN k) ↔ (d : Int) + x.toInt ≤ k := by
  rw [Int64.le_iff_toInt_le, lN_addI x hd, lN_toInt hk]
theorem inRM (x : Int32) {M : Nat} (hM : M < 2 ^ 30) : (lN 0 ≤ x.toInt64 ∧ x.toInt64 ≤ (nI M - nI 1).toInt64) ↔ inR x 0 ((M : Int) - 1) := by
  rw [Int64.le_iff_toInt_le, Int64.le_iff_toInt_le, Int32.toInt_toInt64, Int32.toInt_toInt64, pk_sub_toInt hM (by decide)]
  rfl
theorem inRMm (x : Int32) {M : Nat} (hM : M < 2 ^ 30) : (-1 ≤ x.toInt64 ∧ x.toInt64 ≤ (nI M - nI 1).toInt64) ↔ inR x (-1) ((M : Int) - 1) := by
  rw [Int64.le_iff_toInt_le, Int64.le_iff_toInt_le, Int32.toInt_toInt64, Int32.toInt_toInt64, pk_sub_toInt hM (by decide)]
  rfl
theorem ge_iff {M : Nat} (x : Int32) (hM : M < 2 ^ 31) : (x ≤ nI M) ↔ x.toInt ≤ M := by rw [Int32.le_iff_toInt_le, nI_toInt hM]
theorem lt_iff {M : Nat} (x : Int32) (hM : M < 2 ^ 31) : (nI M < x) ↔ (M : Int) < x.toInt := by rw [Int32.lt_iff_toInt_lt, nI_toInt hM]
abbrev c2_ (P P2 : Prop) [Decidable P] [Decidable P2] : Nat := if P then (if P2 then 0 else 2) else 1
abbrev c3_ (P P2 P3 : Prop) [Decidable P] [Decidable P2] [Decidable P3] : Nat := if P then (if P2 then (if P3 then 0 else 3) else 2) else 1
def cPass (σ : Sg) (x : Int32) : Nat := c2_ (inR x 1 100) ((σ 30 0 : Int) + x.toInt ≤ 5000)
def cSoft (x v : Int32) : Nat := c2_ (inR x 0 11) (inR v 0 50)
def cDays (x v : Int32) : Nat := c2_ (inR x 0 3) (inR v 1 20)
def cLim (v : Int32) : Nat := if inR v 0 1000 then 0 else 1
def cCut (σ : Sg) (x : Int32) : Nat := c2_ (inR x 1 20) ((σ 33 0 : Int) + x.toInt ≤ 200)
def cLay (σ : Sg) (x v : Int32) : Nat := c3_ (inR x 0 11) (inR v 1 20) (v.toInt ≤ countN σ 0 (σ 32 0))
def cStock (x : Int32) : Nat := if inR x 0 7 then 0 else 1
def cBoard (σ : Sg) (x v : Int32) : Nat := c2_ (inR x 0 ((σ 32 0 : Int) - 1)) (inR v 0 4)
def cOwed (σ : Sg) (x : Int32) : Nat := if inR x 0 ((σ 35 0 : Int) - 1) then 0 else 1
def cSend (σ : Sg) (x v u : Int32) : Nat := c3_ (inR x 0 3 ∧ inR v 0 11) (inR u 0 3) (σ 36 0 < 60)
def cMsg (σ : Sg) (x v : Int32) : Nat := c2_ (inR x 0 ((σ 36 0 : Int) - 1)) (inR v 0 6)
abbrev k0 (σ : Sg) (k : Nat) : Sg := s2 σ 37 0 k
def owedN (σ : Sg) (n : Nat) : Nat := lp (fun k a => a + σ 16 k) n 0
def stockF (σ : Sg) (i : Nat) : Nat := if i ≤ 4 then countN σ i (σ 32 0) else if i = 5 then owedN σ (σ 35 0) else if i = 6 then σ 33 0 - σ 32 0 else σ 32 0
def boardF (σ : Sg) (b i : Nat) : Nat := if i = 0 then σ 7 b else if i = 1 then σ 8 b else if i = 2 then σ 11 b else if i = 3 then seasonN (σ 9 b) else σ 9 b
def sendF (σ : Sg) (r s w : Nat) : Sg := comesF (s2 (s2 (s2 (s2 (s2 (s2 σ 36 0 (σ 36 0 + 1)) 17 (σ 36 0) r) 18 (σ 36 0) s) 19 (σ 36 0) w) 20 (σ 36 0) (σ 30 0)) 21 (σ 36 0) (σ 30 0 + σ 1 r)) (σ 30 0 + σ 1 r) 2 (σ 36 0)
def msgGet (σ : Sg) (m i : Nat) : Nat := if i = 0 then σ 17 m else if i = 1 then σ 18 m else if i = 2 then σ 19 m else if i = 3 then σ 20 m else if i = 4 then σ 21 m else if i = 5 then σ 22 m else σ 23 m
def digitsF (σ : Sg) (m : Nat) : Nat := if σ 18 m < 10 then 1 else 2
def meansF (σ : Sg) (r w : Nat) : Nat := if σ 25 (4 * r + w) = 0 then σ 27 w else σ 24 (4 * r + w) / σ 25 (4 * r + w)
theorem c2_0 {P P2 : Prop} [Decidable P] [Decidable P2] (h : P ∧ P2) : c2_ P P2 = 0 := by simp [h.1, h.2]
theorem c2_n {P P2 : Prop} [Decidable P] [Decidable P2] (h : ¬ (P ∧ P2)) : ¬ c2_ P P2 = 0 := by
  intro q
  apply h
  by_cases h1 : P
  · by_cases h2 : P2
    · exact ⟨h1, h2⟩
    · simp [h1, h2] at q
  · simp [h1] at q
theorem c3_0 {P P2 P3 : Prop} [Decidable P] [Decidable P2] [Decidable P3] (h : P ∧ P2 ∧ P3) : c3_ P P2 P3 = 0 := by simp [h.1, h.2.1, h.2.2]
theorem c3_n {P P2 P3 : Prop} [Decidable P] [Decidable P2] [Decidable P3] (h : ¬ (P ∧ P2 ∧ P3)) : ¬ c3_ P P2 P3 = 0 := by
  intro q
  apply h
  by_cases h1 : P
  · by_cases h2 : P2
    · by_cases h3 : P3
      · exact ⟨h1, h2, h3⟩
      · simp [h1, h2, h3] at q
    · simp [h1, h2] at q
  · simp [h1] at q
theorem c1_0 {P : Prop} [Decidable P] (h : P) : (if P then 0 else 1) = 0 := if_pos h
theorem c1_n {P : Prop} [Decidable P] (h : ¬ P) : ¬ (if P then 0 else 1) = 0 := by rw [if_neg h]; decide
