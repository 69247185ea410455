/-! ===== SPEC: stores, loops, the reference's functions ===== -/
abbrev Sg : Type := Nat → Nat → Nat
def s2 (σ : Sg) (f i v : Nat) : Sg := fun g j => if g = f then (if j = i then v else σ g j) else σ g j
def lp {α : Type} (f : Nat → α → α) : Nat → α → α
  | 0, a => a
  | n + 1, a => f n (lp f n a)
def lyingN (σ : Sg) (s n : Nat) : Nat := lp (fun b k => k + if σ 7 b = 2 ∧ σ 8 b = s then 1 else 0) n 0
def countN (σ : Sg) (q n : Nat) : Nat := lp (fun b k => k + if σ 7 b = q then 1 else 0) n 0
def dsumN (σ : Sg) (s n : Nat) : Nat := lp (fun b k => k + if σ 7 b = 2 ∧ σ 8 b = s then σ 11 b else 0) n 0
theorem s2_rd (σ : Sg) (f i v g j : Nat) : s2 σ f i v g j = if g = f then (if j = i then v else σ g j) else σ g j := rfl
def bnd : Nat → Nat
  | 0 => 51
  | 1 => 21
  | 2 => 4294967296
  | 7 => 5
  | 8 => 4294967296
  | 9 => 5001
  | 10 => 481
  | 11 => 30000
  | 12 => 5101
  | 13 => 3
  | 14 => 201
  | 15 => 12
  | 16 => 5
  | 17 => 4
  | 18 => 12
  | 19 => 4
  | 20 => 5001
  | 21 => 5101
  | 22 => 2
  | 23 => 2
  | 24 => 1073741824
  | 25 => 61
  | 26 => 561
  | 27 => 701
  | 28 => 5
  | 29 => 128
  | 30 => 5001
  | 31 => 1001
  | 32 => 201
  | 33 => 201
  | 34 => 481
  | 35 => 65
  | 36 => 61
  | 37 => 4
  | _ => 0
/-- every field's bound (0: none is kept) -/
def Bd (σ : Sg) : Prop := ∀ f j, bnd f = 0 ∨ σ f j < bnd f
theorem Bd.lt {σ : Sg} (h : Bd σ) (f : Nat) (hf : bnd f ≠ 0) (j : Nat) : σ f j < bnd f := (h f j).resolve_left hf
theorem Bd.set {σ : Sg} (h : Bd σ) {f i v : Nat} (hv : bnd f = 0 ∨ v < bnd f) : Bd (s2 σ f i v) := by
  intro g j
  rw [s2_rd]
  by_cases e : g = f
  · subst e
    rw [if_pos rfl]
    by_cases e2 : j = i
    · rw [if_pos e2]; exact hv
    · rw [if_neg e2]; exact h g j
  · rw [if_neg e]; exact h g j
/-! the reference's functions, as the code has them -/
def depthF (σ : Sg) (s : Nat) : Nat := if lyingN σ s (σ 32 0) = 0 then 999 else dsumN σ s (σ 32 0) / lyingN σ s (σ 32 0)
def sinkB (s y b : Nat) (σ : Sg) : Sg := if σ 7 b = 2 ∧ σ 8 b = s then (if 1000 ≤ σ 11 b + y then s2 (s2 (s2 σ 11 b (σ 11 b + y)) 6 b (σ 4 s)) 7 b 3 else s2 (s2 σ 11 b (σ 11 b + y)) 6 b (σ 4 s)) else σ
def sinksF (σ : Sg) (s y : Nat) : Sg := lp (sinkB s y) (σ 32 0) (s2 σ 4 s (σ 4 s + y))
def seasonN (d : Nat) : Nat := d / 91 % 4
def rotB (b : Nat) (σ : Sg) : Sg := if σ 7 b ≤ 2 ∧ σ 26 (seasonN (σ 9 b)) ≤ σ 30 0 - σ 9 b then s2 σ 7 b 4 else σ
def week1F (σ : Sg) : Sg := lp (fun s σ => sinksF σ s (σ 0 s)) 12 σ
def weekF (σ : Sg) : Sg := lp rotB ((week1F σ) 32 0) (week1F σ)
def comesF (σ : Sg) (on wh wi : Nat) : Sg := s2 (s2 (s2 (s2 σ 12 (σ 34 0) on) 13 (σ 34 0) wh) 14 (σ 34 0) wi) 34 0 (σ 34 0 + 1)
def sendB (s e b : Nat) (p : Nat × Sg) : Nat × Sg := if 0 < p.1 ∧ p.2 7 b = 0 then (p.1 - 1, s2 (s2 (s2 p.2 7 b 1) 8 b s) 10 b e) else p
def sendL (σ : Sg) (s n k : Nat) : Nat × Sg := lp (sendB s (σ 34 0)) k (n, comesF σ (σ 30 0 + 1 + s % 6) 1 s)
def sendsF (σ : Sg) (s n : Nat) : Sg := (sendL σ s n (σ 32 0)).2
def shiftB (k : Nat) (σ : Sg) : Sg := s2 (s2 σ 15 k (σ 15 (k + 1))) 16 k (σ 16 (k + 1))
def serveN (σ : Sg) : Nat := if σ 16 0 < countN σ 0 (σ 32 0) then σ 16 0 else countN σ 0 (σ 32 0)
def serve0 (σ : Sg) : Sg := s2 σ 16 0 (σ 16 0 - serveN σ)
def serve1 (σ : Sg) : Sg := if σ 16 0 - serveN σ = 0 then s2 (lp shiftB (σ 35 0 - 1) (serve0 σ)) 35 0 (σ 35 0 - 1) else serve0 σ
def serveF (σ : Sg) : Sg := sendsF (serve1 σ) (σ 15 0) (serveN σ)
def servesN : Nat → Sg → Sg
  | 0, σ => σ
  | k + 1, σ => if 0 < σ 35 0 ∧ 0 < countN σ 0 (σ 32 0) then servesN k (serveF σ) else σ
def servesF (σ : Sg) : Sg := servesN 201 σ
def NONE : Nat := 4294967295
def cutB (_ : Nat) (σ : Sg) : Sg := s2 (s2 (s2 (s2 σ 7 (σ 32 0) 0) 8 (σ 32 0) NONE) 9 (σ 32 0) (σ 30 0)) 32 0 (σ 32 0 + 1)
def cutComeF (σ : Sg) (n : Nat) : Sg := servesF (lp cutB n σ)
def laidB (e b : Nat) (σ : Sg) : Sg := if σ 7 b = 1 ∧ σ 10 b = e then s2 (s2 (s2 σ 7 b 2) 5 b (σ 4 (σ 8 b))) 6 b (σ 4 (σ 8 b)) else σ
def laidF (σ : Sg) (e : Nat) : Sg := lp (laidB e) (σ 32 0) σ
def msgF (σ : Sg) (m : Nat) : Sg := if σ 28 (σ 19 m) = 0 then s2 σ 22 m 1 else if σ 35 0 = 0 ∧ σ 28 (σ 19 m) ≤ countN (s2 σ 22 m 1) 0 (σ 32 0) then sendsF (s2 σ 22 m 1) (σ 18 m) (σ 28 (σ 19 m)) else servesF (s2 (s2 (s2 (s2 σ 22 m 1) 15 (σ 35 0) (σ 18 m)) 16 (σ 35 0) (σ 28 (σ 19 m))) 35 0 (σ 35 0 + 1))
def evF (e : Nat) (σ : Sg) : Sg := if σ 12 e = σ 30 0 then (if σ 13 e = 0 then cutComeF σ (σ 14 e) else if σ 13 e = 1 then laidF σ e else msgF σ (σ 14 e)) else σ
def day1F (σ : Sg) : Sg := s2 σ 30 0 (σ 30 0 + 1)
def day2F (σ : Sg) : Sg := lp evF (σ 34 0) (day1F σ)
def dayF (σ : Sg) : Sg := if (day2F σ) 30 0 % 7 = 0 then weekF (day2F σ) else day2F σ
/-- safe: what the walks of the reference ask of a store -/
def Sf (σ : Sg) : Prop := Bd σ ∧ (∀ b, σ 7 b ≤ 2 → σ 11 b < 1000) ∧ (∀ b, σ 7 b = 1 ∨ σ 7 b = 2 → σ 8 b < 12) ∧ (∀ b, b < σ 32 0 → σ 9 b ≤ σ 30 0) ∧ (∀ b, σ 32 0 ≤ b → σ 7 b = 0)
theorem lp_inv {α : Type} {P : α → Prop} {f : Nat → α → α} {a : α} (h0 : P a) (hs : ∀ i a, P a → P (f i a)) : ∀ n, P (lp f n a) := by
  intro n
  induction n with
  | zero => exact h0
  | succ n ih => exact hs n _ ih
theorem lp_invB {α : Type} {P : Nat → α → Prop} {f : Nat → α → α} {a : α} (N : Nat) (h0 : P 0 a) (hs : ∀ i a, i < N → P i a → P (i + 1) (f i a)) : ∀ n, n ≤ N → P n (lp f n a) := by
  intro n
  induction n with
  | zero => intro _; exact h0
  | succ n ih => intro hn; exact hs n _ hn (ih (by omega))
theorem Sf.s2o {σ : Sg} (h : Sf σ) {f i v : Nat} (hf : f ≠ 7 ∧ f ≠ 8 ∧ f ≠ 9 ∧ f ≠ 11 ∧ f ≠ 30 ∧ f ≠ 32) (hv : bnd f = 0 ∨ v < bnd f) : Sf (s2 σ f i v) := by
  obtain ⟨h1, h2, h3, h4, h5⟩ := h
  refine ⟨h1.set hv, ?_, ?_, ?_, ?_⟩ <;> simp only [s2_rd, if_neg (Ne.symm hf.1), if_neg (Ne.symm hf.2.1), if_neg (Ne.symm hf.2.2.1), if_neg (Ne.symm hf.2.2.2.1), if_neg (Ne.symm hf.2.2.2.2.1), if_neg (Ne.symm hf.2.2.2.2.2)] <;> assumption
theorem Sf.sink {σ : Sg} (h : Sf σ) {s y b : Nat} (hy : y ≤ 25000) : Sf (sinkB s y b σ) := by
  unfold sinkB
  split
  · rename_i hc
    obtain ⟨h1, h2, h3, h4, h5⟩ := h
    have hd := h2 b (by omega)
    have hat := h3 b (Or.inr hc.1)
    have hnb : ¬ σ 32 0 ≤ b := fun q => by have := h5 b q; omega
    have g1 : Bd (s2 (s2 σ 11 b (σ 11 b + y)) 6 b (σ 4 s)) := (h1.set (Or.inr (by show _ < 30000; omega))).set (Or.inl rfl)
    split
    · refine ⟨g1.set (Or.inr (by decide)), fun j hj => ?_, fun j hj => ?_, fun j hj => ?_, fun j hj => ?_⟩ <;> simp only [s2_rd] at hj ⊢ <;> by_cases e : j = b
      · subst e; simp at hj
      · simp [e] at hj ⊢; exact h2 j hj
      · subst e; simp at hj
      · simp [e] at hj ⊢; exact h3 j hj
      · simp [e] at hj ⊢; exact h4 _ hj
      · simp [e] at hj ⊢; exact h4 j hj
      · subst e; simp at hj; exact absurd hj hnb
      · simp [e] at hj ⊢; exact h5 j hj
    · refine ⟨g1, fun j hj => ?_, fun j hj => ?_, fun j hj => ?_, fun j hj => ?_⟩ <;> simp only [s2_rd] at hj ⊢ <;> by_cases e : j = b
      · subst e; simp; omega
      · simp [e] at hj ⊢; exact h2 j hj
      · simp at hj ⊢; exact h3 j hj
      · simp at hj ⊢; exact h3 j hj
      · simp at hj ⊢; exact h4 j hj
      · simp at hj ⊢; exact h4 j hj
      · simp at hj ⊢; exact h5 j hj
      · simp at hj ⊢; exact h5 j hj
  · exact h
theorem Sf.rot {σ : Sg} (h : Sf σ) {b : Nat} (hb : b < σ 32 0) : Sf (rotB b σ) := by
  unfold rotB
  split
  · obtain ⟨h1, h2, h3, h4, h5⟩ := h
    refine ⟨h1.set (Or.inr (by decide)), fun j hj => ?_, fun j hj => ?_, fun j hj => ?_, fun j hj => ?_⟩ <;> simp only [s2_rd] at hj ⊢ <;> by_cases e : j = b
    · subst e; simp at hj
    · simp [e] at hj ⊢; exact h2 j hj
    · subst e; simp at hj
    · simp [e] at hj ⊢; exact h3 j hj
    · simp at hj ⊢; exact h4 j hj
    · simp at hj ⊢; exact h4 j hj
    · subst e; simp at hj; omega
    · simp [e] at hj ⊢; exact h5 j hj
  · exact h
theorem Sf.comes {σ : Sg} (h : Sf σ) {on wh wi : Nat} (h1 : on ≤ 5100) (h2 : wh ≤ 2) (h3 : wi ≤ 200) (h4 : σ 34 0 < 480) : Sf (comesF σ on wh wi) := by
  unfold comesF
  exact (((h.s2o (by decide) (Or.inr (by show _ < 5101; omega))).s2o (by decide) (Or.inr (by show _ < 3; omega))).s2o (by decide) (Or.inr (by show _ < 201; omega))).s2o (by decide) (Or.inr (by show _ < 481; omega))
theorem Sf.send {s e b : Nat} {p : Nat × Sg} (h : Sf p.2) (hs : s < 12) (he : e ≤ 480) (hb : b < p.2 32 0) : Sf (sendB s e b p).2 := by
  unfold sendB
  split
  · rename_i hc
    obtain ⟨h1, h2, h3, h4, h5⟩ := h
    refine ⟨((h1.set (Or.inr (by decide))).set (Or.inr (by show _ < 4294967296; omega))).set (Or.inr (by show _ < 481; omega)), fun j hj => ?_, fun j hj => ?_, fun j hj => ?_, fun j hj => ?_⟩ <;> simp only [s2_rd] at hj ⊢ <;> by_cases e : j = b
    · subst e; simp; exact h2 j (by omega)
    · simp [e] at hj ⊢; exact h2 j hj
    · subst e; simp; exact hs
    · simp [e] at hj ⊢; exact h3 j hj
    · simp at hj ⊢; exact h4 j hj
    · simp at hj ⊢; exact h4 j hj
    · subst e; simp at hj; omega
    · simp [e] at hj ⊢; exact h5 j hj
  · exact h
theorem Sf.cut {σ : Sg} (h : Sf σ) (k : Nat) (hb : σ 32 0 < 200) : Sf (cutB k σ) := by
  obtain ⟨h1, h2, h3, h4, h5⟩ := h
  have hd := h1.lt 30 (by decide) 0
  have hz := h5 (σ 32 0) (Nat.le_refl _)
  unfold cutB
  refine ⟨(((h1.set (f := 7) (v := 0) (Or.inr (by decide))).set (f := 8) (v := NONE) (Or.inr (by decide))).set (f := 9) (v := σ 30 0) (Or.inr hd)).set (f := 32) (Or.inr (by show _ < 201; omega)), fun j hj => ?_, fun j hj => ?_, fun j hj => ?_, fun j hj => ?_⟩ <;> simp only [s2_rd] at hj ⊢ <;> by_cases e : j = σ 32 0
  · subst e; simp; exact h2 _ (by omega)
  · simp [e] at hj ⊢; exact h2 j hj
  · subst e; simp at hj
  · simp [e] at hj ⊢; exact h3 j hj
  · simp [e]
  · simp [e] at hj ⊢; exact h4 j (by omega)
  · subst e; simp
  · simp [e] at hj ⊢; exact h5 j (by omega)
theorem Sf.laid {σ : Sg} (h : Sf σ) {e b : Nat} : Sf (laidB e b σ) := by
  unfold laidB
  split
  · rename_i hc
    obtain ⟨h1, h2, h3, h4, h5⟩ := h
    refine ⟨((h1.set (Or.inr (by decide))).set (Or.inl rfl)).set (Or.inl rfl), fun j hj => ?_, fun j hj => ?_, fun j hj => ?_, fun j hj => ?_⟩ <;> simp only [s2_rd] at hj ⊢ <;> by_cases e : j = b
    · subst e; simp; exact h2 _ (by omega)
    · simp [e] at hj ⊢; exact h2 j hj
    · subst e; simp; exact h3 _ (Or.inl hc.1)
    · simp [e] at hj ⊢; exact h3 j hj
    · simp at hj ⊢; exact h4 j hj
    · simp at hj ⊢; exact h4 j hj
    · subst e; simp at hj; have := h5 _ hj; omega
    · simp [e] at hj ⊢; exact h5 j hj
  · exact h
theorem lying_le (σ : Sg) (s n : Nat) : lyingN σ s n ≤ n := by
  unfold lyingN
  induction n with
  | zero => exact Nat.le_refl _
  | succ n ih => simp only [lp]; split <;> omega
theorem count_le (σ : Sg) (q n : Nat) : countN σ q n ≤ n := by
  unfold countN
  induction n with
  | zero => exact Nat.le_refl _
  | succ n ih => simp only [lp]; split <;> omega
theorem sinkB_o {s y b f j : Nat} {σ : Sg} (hf : f ≠ 11 ∧ f ≠ 6 ∧ f ≠ 7) : sinkB s y b σ f j = σ f j := by
  unfold sinkB
  split
  · split <;> simp [s2_rd, hf.1, hf.2.1, hf.2.2]
  · rfl
theorem lp_keep {α β : Type} {f : Nat → α → α} (g : α → β) (h : ∀ i a, g (f i a) = g a) (n : Nat) (a : α) : g (lp f n a) = g a := by
  induction n with
  | zero => rfl
  | succ n ih => exact (h n _).trans ih
theorem sinks_32 (σ : Sg) (s y n : Nat) : lp (sinkB s y) n (s2 σ 4 s (σ 4 s + y)) 32 0 = σ 32 0 := lp_keep (f := sinkB s y) (fun τ : Sg => τ 32 0) (fun i a => sinkB_o (by decide)) n (s2 σ 4 s (σ 4 s + y))
/-- an int of the script in a range of small numbers -/
abbrev inR (x : Int32) (a b : Int) : Prop := a ≤ x.toInt ∧ x.toInt ≤ b
theorem inR64 (x : Int32) (a b : Nat) (ha : (lN a).toInt = a) (hb : (lN b).toInt = b) : (lN a ≤ x.toInt64 ∧ x.toInt64 ≤ lN b) ↔ inR x a b := by
  rw [Int64.le_iff_toInt_le, Int64.le_iff_toInt_le, ha, hb, Int32.toInt_toInt64]
theorem lg_le {x y : Int64} (h : ¬ x < y) : y ≤ x := by rw [Int64.lt_iff_toInt_lt] at h; rw [Int64.le_iff_toInt_le]; omega
theorem lg_nle {x y : Int64} (h : x < y) : ¬ y ≤ x := by rw [Int64.lt_iff_toInt_lt] at h; rw [Int64.le_iff_toInt_le]; omega
/-- the reference's object at h, its arrays at ad 0 .. ad 29, what they hold: σ field place -/
def mObj (h : Nat) (ad : Nat → Nat) (σ : Sg) : Nat × va_E := (h, .inr (3, [.ref (ad 0), .ref (ad 1), .ref (ad 2), .ref (ad 3), .ref (ad 4), .ref (ad 5), .ref (ad 6), .ref (ad 7), .ref (ad 8), .ref (ad 9), .ref (ad 10), .ref (ad 11), .ref (ad 12), .ref (ad 13), .ref (ad 14), .ref (ad 15), .ref (ad 16), .ref (ad 17), .ref (ad 18), .ref (ad 19), .ref (ad 20), .ref (ad 21), .ref (ad 22), .ref (ad 23), .ref (ad 24), .ref (ad 25), .ref (ad 26), .ref (ad 27), .ref (ad 28), .ref (ad 29), .int (nI (σ 30 0)), .int (nI (σ 31 0)), .int (nI (σ 32 0)), .int (nI (σ 33 0)), .int (nI (σ 34 0)), .int (nI (σ 35 0)), .int (nI (σ 36 0)), .int (nI (σ 37 0))]))
def mW (G : GT) (h : Nat) (ad : Nat → Nat) (σ : Sg) : List va_W := [[mObj h ad σ], [(ad 0, .inl (G.2.2.1 0, 12, .inl (fun i => nI (σ 0 i))))], [(ad 1, .inl (G.2.2.1 0, 4, .inl (fun i => nI (σ 1 i))))], [(ad 2, .inl (G.2.2.1 0, 12, .inl (fun i => nI (σ 2 i))))], [(ad 3, .inl (G.2.2.1 0, 12, .inl (fun i => nI (σ 3 i))))], [(ad 4, .inl (G.2.2.1 1, 12, .inr (.inl (fun i => lN (σ 4 i)))))], [(ad 5, .inl (G.2.2.1 1, 200, .inr (.inl (fun i => lN (σ 5 i)))))], [(ad 6, .inl (G.2.2.1 1, 200, .inr (.inl (fun i => lN (σ 6 i)))))], [(ad 7, .inl (G.2.2.1 0, 200, .inl (fun i => nI (σ 7 i))))], [(ad 8, .inl (G.2.2.1 0, 200, .inl (fun i => nI (σ 8 i))))], [(ad 9, .inl (G.2.2.1 0, 200, .inl (fun i => nI (σ 9 i))))], [(ad 10, .inl (G.2.2.1 0, 200, .inl (fun i => nI (σ 10 i))))], [(ad 11, .inl (G.2.2.1 1, 200, .inr (.inl (fun i => lN (σ 11 i)))))], [(ad 12, .inl (G.2.2.1 0, 480, .inl (fun i => nI (σ 12 i))))], [(ad 13, .inl (G.2.2.1 0, 480, .inl (fun i => nI (σ 13 i))))], [(ad 14, .inl (G.2.2.1 0, 480, .inl (fun i => nI (σ 14 i))))], [(ad 15, .inl (G.2.2.1 0, 64, .inl (fun i => nI (σ 15 i))))], [(ad 16, .inl (G.2.2.1 0, 64, .inl (fun i => nI (σ 16 i))))], [(ad 17, .inl (G.2.2.1 0, 60, .inl (fun i => nI (σ 17 i))))], [(ad 18, .inl (G.2.2.1 0, 60, .inl (fun i => nI (σ 18 i))))], [(ad 19, .inl (G.2.2.1 0, 60, .inl (fun i => nI (σ 19 i))))], [(ad 20, .inl (G.2.2.1 0, 60, .inl (fun i => nI (σ 20 i))))], [(ad 21, .inl (G.2.2.1 0, 60, .inl (fun i => nI (σ 21 i))))], [(ad 22, .inl (G.2.2.1 2, 60, .inl (fun i => nI (σ 22 i))))], [(ad 23, .inl (G.2.2.1 2, 60, .inl (fun i => nI (σ 23 i))))], [(ad 24, .inl (G.2.2.1 1, 16, .inr (.inl (fun i => lN (σ 24 i)))))], [(ad 25, .inl (G.2.2.1 0, 16, .inl (fun i => nI (σ 25 i))))], [(ad 26, .inl (G.2.2.1 0, 4, .inl (fun i => nI (σ 26 i))))], [(ad 27, .inl (G.2.2.1 0, 4, .inl (fun i => nI (σ 27 i))))], [(ad 28, .inl (G.2.2.1 0, 4, .inl (fun i => nI (σ 28 i))))], [(ad 29, .inl (G.2.2.1 3, 16, .inl (fun i => nI (σ 29 i))))]]
theorem s2_updI (σ : Sg) (f k v : Nat) : upd (fun i => nI (σ f i)) k (nI v) = fun i => nI (s2 σ f k v f i) := by
  funext i
  unfold upd s2
  rw [if_pos rfl]
  split <;> rfl
theorem s2_updL (σ : Sg) (f k v : Nat) : vp_updL (fun i => lN (σ f i)) k (lN v) = fun i => lN (s2 σ f k v f i) := by
  funext i
  unfold vp_updL s2
  rw [if_pos rfl]
  split <;> rfl
theorem mset0 (G : GT) (h : Nat) (ad : Nat → Nat) (σ : Sg) (k v : Nat) : (mW G h ad σ).set 1 ([(ad 0, .inl (G.2.2.1 0, 12, .inl (fun i => nI (σ 0 i))))].set 0 (ad 0, .inl (G.2.2.1 0, 12, .inl (upd (fun i => nI (σ 0 i)) k (nI v))))) = mW G h ad (s2 σ 0 k v) := by
  rw [s2_updI]
  rfl
theorem mset1 (G : GT) (h : Nat) (ad : Nat → Nat) (σ : Sg) (k v : Nat) : (mW G h ad σ).set 2 ([(ad 1, .inl (G.2.2.1 0, 4, .inl (fun i => nI (σ 1 i))))].set 0 (ad 1, .inl (G.2.2.1 0, 4, .inl (upd (fun i => nI (σ 1 i)) k (nI v))))) = mW G h ad (s2 σ 1 k v) := by
  rw [s2_updI]
  rfl
theorem mset2 (G : GT) (h : Nat) (ad : Nat → Nat) (σ : Sg) (k v : Nat) : (mW G h ad σ).set 3 ([(ad 2, .inl (G.2.2.1 0, 12, .inl (fun i => nI (σ 2 i))))].set 0 (ad 2, .inl (G.2.2.1 0, 12, .inl (upd (fun i => nI (σ 2 i)) k (nI v))))) = mW G h ad (s2 σ 2 k v) := by
  rw [s2_updI]
  rfl
theorem mset3 (G : GT) (h : Nat) (ad : Nat → Nat) (σ : Sg) (k v : Nat) : (mW G h ad σ).set 4 ([(ad 3, .inl (G.2.2.1 0, 12, .inl (fun i => nI (σ 3 i))))].set 0 (ad 3, .inl (G.2.2.1 0, 12, .inl (upd (fun i => nI (σ 3 i)) k (nI v))))) = mW G h ad (s2 σ 3 k v) := by
  rw [s2_updI]
  rfl
theorem mset4 (G : GT) (h : Nat) (ad : Nat → Nat) (σ : Sg) (k v : Nat) : (mW G h ad σ).set 5 ([(ad 4, .inl (G.2.2.1 1, 12, .inr (.inl (fun i => lN (σ 4 i)))))].set 0 (ad 4, .inl (G.2.2.1 1, 12, .inr (.inl (vp_updL (fun i => lN (σ 4 i)) k (lN v)))))) = mW G h ad (s2 σ 4 k v) := by
  rw [s2_updL]
  rfl
theorem mset5 (G : GT) (h : Nat) (ad : Nat → Nat) (σ : Sg) (k v : Nat) : (mW G h ad σ).set 6 ([(ad 5, .inl (G.2.2.1 1, 200, .inr (.inl (fun i => lN (σ 5 i)))))].set 0 (ad 5, .inl (G.2.2.1 1, 200, .inr (.inl (vp_updL (fun i => lN (σ 5 i)) k (lN v)))))) = mW G h ad (s2 σ 5 k v) := by
  rw [s2_updL]
  rfl
theorem mset6 (G : GT) (h : Nat) (ad : Nat → Nat) (σ : Sg) (k v : Nat) : (mW G h ad σ).set 7 ([(ad 6, .inl (G.2.2.1 1, 200, .inr (.inl (fun i => lN (σ 6 i)))))].set 0 (ad 6, .inl (G.2.2.1 1, 200, .inr (.inl (vp_updL (fun i => lN (σ 6 i)) k (lN v)))))) = mW G h ad (s2 σ 6 k v) := by
  rw [s2_updL]
  rfl
theorem mset7 (G : GT) (h : Nat) (ad : Nat → Nat) (σ : Sg) (k v : Nat) : (mW G h ad σ).set 8 ([(ad 7, .inl (G.2.2.1 0, 200, .inl (fun i => nI (σ 7 i))))].set 0 (ad 7, .inl (G.2.2.1 0, 200, .inl (upd (fun i => nI (σ 7 i)) k (nI v))))) = mW G h ad (s2 σ 7 k v) := by
  rw [s2_updI]
  rfl
theorem mset8 (G : GT) (h : Nat) (ad : Nat → Nat) (σ : Sg) (k v : Nat) : (mW G h ad σ).set 9 ([(ad 8, .inl (G.2.2.1 0, 200, .inl (fun i => nI (σ 8 i))))].set 0 (ad 8, .inl (G.2.2.1 0, 200, .inl (upd (fun i => nI (σ 8 i)) k (nI v))))) = mW G h ad (s2 σ 8 k v) := by
  rw [s2_updI]
  rfl
theorem mset9 (G : GT) (h : Nat) (ad : Nat → Nat) (σ : Sg) (k v : Nat) : (mW G h ad σ).set 10 ([(ad 9, .inl (G.2.2.1 0, 200, .inl (fun i => nI (σ 9 i))))].set 0 (ad 9, .inl (G.2.2.1 0, 200, .inl (upd (fun i => nI (σ 9 i)) k (nI v))))) = mW G h ad (s2 σ 9 k v) := by
  rw [s2_updI]
  rfl
theorem mset10 (G : GT) (h : Nat) (ad : Nat → Nat) (σ : Sg) (k v : Nat) : (mW G h ad σ).set 11 ([(ad 10, .inl (G.2.2.1 0, 200, .inl (fun i => nI (σ 10 i))))].set 0 (ad 10, .inl (G.2.2.1 0, 200, .inl (upd (fun i => nI (σ 10 i)) k (nI v))))) = mW G h ad (s2 σ 10 k v) := by
  rw [s2_updI]
  rfl
theorem mset11 (G : GT) (h : Nat) (ad : Nat → Nat) (σ : Sg) (k v : Nat) : (mW G h ad σ).set 12 ([(ad 11, .inl (G.2.2.1 1, 200, .inr (.inl (fun i => lN (σ 11 i)))))].set 0 (ad 11, .inl (G.2.2.1 1, 200, .inr (.inl (vp_updL (fun i => lN (σ 11 i)) k (lN v)))))) = mW G h ad (s2 σ 11 k v) := by
  rw [s2_updL]
  rfl
theorem mset12 (G : GT) (h : Nat) (ad : Nat → Nat) (σ : Sg) (k v : Nat) : (mW G h ad σ).set 13 ([(ad 12, .inl (G.2.2.1 0, 480, .inl (fun i => nI (σ 12 i))))].set 0 (ad 12, .inl (G.2.2.1 0, 480, .inl (upd (fun i => nI (σ 12 i)) k (nI v))))) = mW G h ad (s2 σ 12 k v) := by
  rw [s2_updI]
  rfl
theorem mset13 (G : GT) (h : Nat) (ad : Nat → Nat) (σ : Sg) (k v : Nat) : (mW G h ad σ).set 14 ([(ad 13, .inl (G.2.2.1 0, 480, .inl (fun i => nI (σ 13 i))))].set 0 (ad 13, .inl (G.2.2.1 0, 480, .inl (upd (fun i => nI (σ 13 i)) k (nI v))))) = mW G h ad (s2 σ 13 k v) := by
  rw [s2_updI]
  rfl
theorem mset14 (G : GT) (h : Nat) (ad : Nat → Nat) (σ : Sg) (k v : Nat) : (mW G h ad σ).set 15 ([(ad 14, .inl (G.2.2.1 0, 480, .inl (fun i => nI (σ 14 i))))].set 0 (ad 14, .inl (G.2.2.1 0, 480, .inl (upd (fun i => nI (σ 14 i)) k (nI v))))) = mW G h ad (s2 σ 14 k v) := by
  rw [s2_updI]
  rfl
theorem mset15 (G : GT) (h : Nat) (ad : Nat → Nat) (σ : Sg) (k v : Nat) : (mW G h ad σ).set 16 ([(ad 15, .inl (G.2.2.1 0, 64, .inl (fun i => nI (σ 15 i))))].set 0 (ad 15, .inl (G.2.2.1 0, 64, .inl (upd (fun i => nI (σ 15 i)) k (nI v))))) = mW G h ad (s2 σ 15 k v) := by
  rw [s2_updI]
  rfl
theorem mset16 (G : GT) (h : Nat) (ad : Nat → Nat) (σ : Sg) (k v : Nat) : (mW G h ad σ).set 17 ([(ad 16, .inl (G.2.2.1 0, 64, .inl (fun i => nI (σ 16 i))))].set 0 (ad 16, .inl (G.2.2.1 0, 64, .inl (upd (fun i => nI (σ 16 i)) k (nI v))))) = mW G h ad (s2 σ 16 k v) := by
  rw [s2_updI]
  rfl
theorem mset17 (G : GT) (h : Nat) (ad : Nat → Nat) (σ : Sg) (k v : Nat) : (mW G h ad σ).set 18 ([(ad 17, .inl (G.2.2.1 0, 60, .inl (fun i => nI (σ 17 i))))].set 0 (ad 17, .inl (G.2.2.1 0, 60, .inl (upd (fun i => nI (σ 17 i)) k (nI v))))) = mW G h ad (s2 σ 17 k v) := by
  rw [s2_updI]
  rfl
theorem mset18 (G : GT) (h : Nat) (ad : Nat → Nat) (σ : Sg) (k v : Nat) : (mW G h ad σ).set 19 ([(ad 18, .inl (G.2.2.1 0, 60, .inl (fun i => nI (σ 18 i))))].set 0 (ad 18, .inl (G.2.2.1 0, 60, .inl (upd (fun i => nI (σ 18 i)) k (nI v))))) = mW G h ad (s2 σ 18 k v) := by
  rw [s2_updI]
  rfl
theorem mset19 (G : GT) (h : Nat) (ad : Nat → Nat) (σ : Sg) (k v : Nat) : (mW G h ad σ).set 20 ([(ad 19, .inl (G.2.2.1 0, 60, .inl (fun i => nI (σ 19 i))))].set 0 (ad 19, .inl (G.2.2.1 0, 60, .inl (upd (fun i => nI (σ 19 i)) k (nI v))))) = mW G h ad (s2 σ 19 k v) := by
  rw [s2_updI]
  rfl
theorem mset20 (G : GT) (h : Nat) (ad : Nat → Nat) (σ : Sg) (k v : Nat) : (mW G h ad σ).set 21 ([(ad 20, .inl (G.2.2.1 0, 60, .inl (fun i => nI (σ 20 i))))].set 0 (ad 20, .inl (G.2.2.1 0, 60, .inl (upd (fun i => nI (σ 20 i)) k (nI v))))) = mW G h ad (s2 σ 20 k v) := by
  rw [s2_updI]
  rfl
theorem mset21 (G : GT) (h : Nat) (ad : Nat → Nat) (σ : Sg) (k v : Nat) : (mW G h ad σ).set 22 ([(ad 21, .inl (G.2.2.1 0, 60, .inl (fun i => nI (σ 21 i))))].set 0 (ad 21, .inl (G.2.2.1 0, 60, .inl (upd (fun i => nI (σ 21 i)) k (nI v))))) = mW G h ad (s2 σ 21 k v) := by
  rw [s2_updI]
  rfl
theorem mset22 (G : GT) (h : Nat) (ad : Nat → Nat) (σ : Sg) (k : Nat) : (mW G h ad σ).set 23 ([(ad 22, .inl (G.2.2.1 2, 60, .inl (fun i => nI (σ 22 i))))].set 0 (ad 22, .inl (G.2.2.1 2, 60, .inl (upd (fun i => nI (σ 22 i)) k (vp_nar .boolean (nI 1)))))) = mW G h ad (s2 σ 22 k 1) := by
  rw [show vp_nar .boolean (nI 1) = nI 1 by decide, s2_updI]
  rfl
theorem mset23 (G : GT) (h : Nat) (ad : Nat → Nat) (σ : Sg) (k : Nat) : (mW G h ad σ).set 24 ([(ad 23, .inl (G.2.2.1 2, 60, .inl (fun i => nI (σ 23 i))))].set 0 (ad 23, .inl (G.2.2.1 2, 60, .inl (upd (fun i => nI (σ 23 i)) k (vp_nar .boolean (nI 1)))))) = mW G h ad (s2 σ 23 k 1) := by
  rw [show vp_nar .boolean (nI 1) = nI 1 by decide, s2_updI]
  rfl
theorem mset24 (G : GT) (h : Nat) (ad : Nat → Nat) (σ : Sg) (k v : Nat) : (mW G h ad σ).set 25 ([(ad 24, .inl (G.2.2.1 1, 16, .inr (.inl (fun i => lN (σ 24 i)))))].set 0 (ad 24, .inl (G.2.2.1 1, 16, .inr (.inl (vp_updL (fun i => lN (σ 24 i)) k (lN v)))))) = mW G h ad (s2 σ 24 k v) := by
  rw [s2_updL]
  rfl
theorem mset25 (G : GT) (h : Nat) (ad : Nat → Nat) (σ : Sg) (k v : Nat) : (mW G h ad σ).set 26 ([(ad 25, .inl (G.2.2.1 0, 16, .inl (fun i => nI (σ 25 i))))].set 0 (ad 25, .inl (G.2.2.1 0, 16, .inl (upd (fun i => nI (σ 25 i)) k (nI v))))) = mW G h ad (s2 σ 25 k v) := by
  rw [s2_updI]
  rfl
theorem mput30 (G : GT) (h : Nat) (ad : Nat → Nat) (σ : Sg) (v : Nat) : (mW G h ad σ).set 0 ([mObj h ad σ].set 0 (h, .inr (3, [.ref (ad 0), .ref (ad 1), .ref (ad 2), .ref (ad 3), .ref (ad 4), .ref (ad 5), .ref (ad 6), .ref (ad 7), .ref (ad 8), .ref (ad 9), .ref (ad 10), .ref (ad 11), .ref (ad 12), .ref (ad 13), .ref (ad 14), .ref (ad 15), .ref (ad 16), .ref (ad 17), .ref (ad 18), .ref (ad 19), .ref (ad 20), .ref (ad 21), .ref (ad 22), .ref (ad 23), .ref (ad 24), .ref (ad 25), .ref (ad 26), .ref (ad 27), .ref (ad 28), .ref (ad 29), .int (nI (σ 30 0)), .int (nI (σ 31 0)), .int (nI (σ 32 0)), .int (nI (σ 33 0)), .int (nI (σ 34 0)), .int (nI (σ 35 0)), .int (nI (σ 36 0)), .int (nI (σ 37 0))].set 30 (.int (nI v))))) = mW G h ad (s2 σ 30 0 v) := rfl
theorem mput31 (G : GT) (h : Nat) (ad : Nat → Nat) (σ : Sg) (v : Nat) : (mW G h ad σ).set 0 ([mObj h ad σ].set 0 (h, .inr (3, [.ref (ad 0), .ref (ad 1), .ref (ad 2), .ref (ad 3), .ref (ad 4), .ref (ad 5), .ref (ad 6), .ref (ad 7), .ref (ad 8), .ref (ad 9), .ref (ad 10), .ref (ad 11), .ref (ad 12), .ref (ad 13), .ref (ad 14), .ref (ad 15), .ref (ad 16), .ref (ad 17), .ref (ad 18), .ref (ad 19), .ref (ad 20), .ref (ad 21), .ref (ad 22), .ref (ad 23), .ref (ad 24), .ref (ad 25), .ref (ad 26), .ref (ad 27), .ref (ad 28), .ref (ad 29), .int (nI (σ 30 0)), .int (nI (σ 31 0)), .int (nI (σ 32 0)), .int (nI (σ 33 0)), .int (nI (σ 34 0)), .int (nI (σ 35 0)), .int (nI (σ 36 0)), .int (nI (σ 37 0))].set 31 (.int (nI v))))) = mW G h ad (s2 σ 31 0 v) := rfl
theorem mput32 (G : GT) (h : Nat) (ad : Nat → Nat) (σ : Sg) (v : Nat) : (mW G h ad σ).set 0 ([mObj h ad σ].set 0 (h, .inr (3, [.ref (ad 0), .ref (ad 1), .ref (ad 2), .ref (ad 3), .ref (ad 4), .ref (ad 5), .ref (ad 6), .ref (ad 7), .ref (ad 8), .ref (ad 9), .ref (ad 10), .ref (ad 11), .ref (ad 12), .ref (ad 13), .ref (ad 14), .ref (ad 15), .ref (ad 16), .ref (ad 17), .ref (ad 18), .ref (ad 19), .ref (ad 20), .ref (ad 21), .ref (ad 22), .ref (ad 23), .ref (ad 24), .ref (ad 25), .ref (ad 26), .ref (ad 27), .ref (ad 28), .ref (ad 29), .int (nI (σ 30 0)), .int (nI (σ 31 0)), .int (nI (σ 32 0)), .int (nI (σ 33 0)), .int (nI (σ 34 0)), .int (nI (σ 35 0)), .int (nI (σ 36 0)), .int (nI (σ 37 0))].set 32 (.int (nI v))))) = mW G h ad (s2 σ 32 0 v) := rfl
theorem mput33 (G : GT) (h : Nat) (ad : Nat → Nat) (σ : Sg) (v : Nat) : (mW G h ad σ).set 0 ([mObj h ad σ].set 0 (h, .inr (3, [.ref (ad 0), .ref (ad 1), .ref (ad 2), .ref (ad 3), .ref (ad 4), .ref (ad 5), .ref (ad 6), .ref (ad 7), .ref (ad 8), .ref (ad 9), .ref (ad 10), .ref (ad 11), .ref (ad 12), .ref (ad 13), .ref (ad 14), .ref (ad 15), .ref (ad 16), .ref (ad 17), .ref (ad 18), .ref (ad 19), .ref (ad 20), .ref (ad 21), .ref (ad 22), .ref (ad 23), .ref (ad 24), .ref (ad 25), .ref (ad 26), .ref (ad 27), .ref (ad 28), .ref (ad 29), .int (nI (σ 30 0)), .int (nI (σ 31 0)), .int (nI (σ 32 0)), .int (nI (σ 33 0)), .int (nI (σ 34 0)), .int (nI (σ 35 0)), .int (nI (σ 36 0)), .int (nI (σ 37 0))].set 33 (.int (nI v))))) = mW G h ad (s2 σ 33 0 v) := rfl
theorem mput34 (G : GT) (h : Nat) (ad : Nat → Nat) (σ : Sg) (v : Nat) : (mW G h ad σ).set 0 ([mObj h ad σ].set 0 (h, .inr (3, [.ref (ad 0), .ref (ad 1), .ref (ad 2), .ref (ad 3), .ref (ad 4), .ref (ad 5), .ref (ad 6), .ref (ad 7), .ref (ad 8), .ref (ad 9), .ref (ad 10), .ref (ad 11), .ref (ad 12), .ref (ad 13), .ref (ad 14), .ref (ad 15), .ref (ad 16), .ref (ad 17), .ref (ad 18), .ref (ad 19), .ref (ad 20), .ref (ad 21), .ref (ad 22), .ref (ad 23), .ref (ad 24), .ref (ad 25), .ref (ad 26), .ref (ad 27), .ref (ad 28), .ref (ad 29), .int (nI (σ 30 0)), .int (nI (σ 31 0)), .int (nI (σ 32 0)), .int (nI (σ 33 0)), .int (nI (σ 34 0)), .int (nI (σ 35 0)), .int (nI (σ 36 0)), .int (nI (σ 37 0))].set 34 (.int (nI v))))) = mW G h ad (s2 σ 34 0 v) := rfl
theorem mput35 (G : GT) (h : Nat) (ad : Nat → Nat) (σ : Sg) (v : Nat) : (mW G h ad σ).set 0 ([mObj h ad σ].set 0 (h, .inr (3, [.ref (ad 0), .ref (ad 1), .ref (ad 2), .ref (ad 3), .ref (ad 4), .ref (ad 5), .ref (ad 6), .ref (ad 7), .ref (ad 8), .ref (ad 9), .ref (ad 10), .ref (ad 11), .ref (ad 12), .ref (ad 13), .ref (ad 14), .ref (ad 15), .ref (ad 16), .ref (ad 17), .ref (ad 18), .ref (ad 19), .ref (ad 20), .ref (ad 21), .ref (ad 22), .ref (ad 23), .ref (ad 24), .ref (ad 25), .ref (ad 26), .ref (ad 27), .ref (ad 28), .ref (ad 29), .int (nI (σ 30 0)), .int (nI (σ 31 0)), .int (nI (σ 32 0)), .int (nI (σ 33 0)), .int (nI (σ 34 0)), .int (nI (σ 35 0)), .int (nI (σ 36 0)), .int (nI (σ 37 0))].set 35 (.int (nI v))))) = mW G h ad (s2 σ 35 0 v) := rfl
theorem mput36 (G : GT) (h : Nat) (ad : Nat → Nat) (σ : Sg) (v : Nat) : (mW G h ad σ).set 0 ([mObj h ad σ].set 0 (h, .inr (3, [.ref (ad 0), .ref (ad 1), .ref (ad 2), .ref (ad 3), .ref (ad 4), .ref (ad 5), .ref (ad 6), .ref (ad 7), .ref (ad 8), .ref (ad 9), .ref (ad 10), .ref (ad 11), .ref (ad 12), .ref (ad 13), .ref (ad 14), .ref (ad 15), .ref (ad 16), .ref (ad 17), .ref (ad 18), .ref (ad 19), .ref (ad 20), .ref (ad 21), .ref (ad 22), .ref (ad 23), .ref (ad 24), .ref (ad 25), .ref (ad 26), .ref (ad 27), .ref (ad 28), .ref (ad 29), .int (nI (σ 30 0)), .int (nI (σ 31 0)), .int (nI (σ 32 0)), .int (nI (σ 33 0)), .int (nI (σ 34 0)), .int (nI (σ 35 0)), .int (nI (σ 36 0)), .int (nI (σ 37 0))].set 36 (.int (nI v))))) = mW G h ad (s2 σ 36 0 v) := rfl
theorem mput37 (G : GT) (h : Nat) (ad : Nat → Nat) (σ : Sg) (v : Nat) : (mW G h ad σ).set 0 ([mObj h ad σ].set 0 (h, .inr (3, [.ref (ad 0), .ref (ad 1), .ref (ad 2), .ref (ad 3), .ref (ad 4), .ref (ad 5), .ref (ad 6), .ref (ad 7), .ref (ad 8), .ref (ad 9), .ref (ad 10), .ref (ad 11), .ref (ad 12), .ref (ad 13), .ref (ad 14), .ref (ad 15), .ref (ad 16), .ref (ad 17), .ref (ad 18), .ref (ad 19), .ref (ad 20), .ref (ad 21), .ref (ad 22), .ref (ad 23), .ref (ad 24), .ref (ad 25), .ref (ad 26), .ref (ad 27), .ref (ad 28), .ref (ad 29), .int (nI (σ 30 0)), .int (nI (σ 31 0)), .int (nI (σ 32 0)), .int (nI (σ 33 0)), .int (nI (σ 34 0)), .int (nI (σ 35 0)), .int (nI (σ 36 0)), .int (nI (σ 37 0))].set 37 (.int (nI v))))) = mW G h ad (s2 σ 37 0 v) := rfl
