/-! ===== SPEC 3: signs, notes, guesses, carts ===== -/
def signF (σ : Sg) (m p : Nat) : Nat :=
  if p < 4 then σ 29 (4 * σ 19 m + p)
  else if p = 4 ∨ p = 5 + digitsF σ m ∨ p = 8 + digitsF σ m then 32
  else if p < 5 + digitsF σ m then 48 + (if p = 5 ∧ digitsF σ m = 2 then σ 18 m / 10 else σ 18 m % 10)
  else if p = 6 + digitsF σ m then 98
  else if p = 7 + digitsF σ m then 121
  else 48 + σ 17 m
theorem digits_12 (σ : Sg) (m : Nat) : digitsF σ m = 1 ∨ digitsF σ m = 2 := by unfold digitsF; split; exact Or.inl rfl; exact Or.inr rfl
theorem bh_toInt {a b c : Nat} (ha : a < 2 ^ 20) (hb : b < 2 ^ 20) (hc : c < 2 ^ 20) : (nI a - nI b - nI c).toInt = (a : Int) - b - c := by
  rw [Int32.toInt_sub, pk_sub_toInt (by omega) (by omega), nI_toInt (by omega)]
  exact Int.bmod_eq_of_le (by omega) (by omega)
def inspB (s d m : Nat) (σ : Sg) : Sg := if σ 18 m = s ∧ ¬ σ 22 m = 0 ∧ σ 23 m = 0 then s2 (s2 (s2 σ 23 m 1) 24 (4 * σ 17 m + σ 19 m) (σ 24 (4 * σ 17 m + σ 19 m) + d)) 25 (4 * σ 17 m + σ 19 m) (σ 25 (4 * σ 17 m + σ 19 m) + 1) else σ
def inspL (σ : Sg) (s k : Nat) : Sg := lp (inspB s (depthF σ s)) k (s2 (s2 σ 37 0 0) 2 s (depthF σ s))
def inspectF (σ : Sg) (s : Nat) : Sg := inspL σ s (σ 36 0)
theorem inspB_o {s d m f j : Nat} {σ : Sg} (hf : f ≠ 23 ∧ f ≠ 24 ∧ f ≠ 25) : inspB s d m σ f j = σ f j := by
  unfold inspB
  split
  · simp [s2_rd, hf.1, hf.2.1, hf.2.2]
  · rfl
theorem inspL_o (σ : Sg) (s k f j : Nat) (hf : f ≠ 23 ∧ f ≠ 24 ∧ f ≠ 25 ∧ f ≠ 2 ∧ f ≠ 37) : inspL σ s k f j = σ f j := by
  unfold inspL
  rw [lp_keep (f := inspB s (depthF σ s)) (fun τ : Sg => τ f j) (fun i a => inspB_o ⟨hf.1, hf.2.1, hf.2.2.1⟩) k]
  simp [s2_rd, hf.2.2.2.1, hf.2.2.2.2]
theorem dsum_le {σ : Sg} (h : Bd σ) (s n : Nat) : dsumN σ s n ≤ n * 30000 := by
  unfold dsumN
  induction n with
  | zero => exact Nat.le_refl _
  | succ n ih =>
    have h1 : σ 11 n < 30000 := h.lt 11 (by decide) n
    rw [Nat.succ_mul]
    refine Nat.add_le_add ih ?_
    by_cases q : σ 7 n = 2 ∧ σ 8 n = s
    · rw [if_pos q]; exact Nat.le_of_lt h1
    · rw [if_neg q]; exact Nat.zero_le _
theorem depthF_lt {σ : Sg} (h : Bd σ) (s : Nat) (hn : σ 32 0 ≤ 200) : depthF σ s < 2 ^ 30 := by
  unfold depthF
  split
  · decide
  · have := dsum_le h s (σ 32 0)
    exact Nat.lt_of_le_of_lt (Nat.div_le_self _ _) (by omega)
theorem dsum_63 {σ : Sg} (h : Bd σ) (s : Nat) (hn : σ 32 0 ≤ 200) : dsumN σ s (σ 32 0) < 2 ^ 63 := by
  have := dsum_le h s (σ 32 0)
  omega
def gsB (σ : Sg) (s m : Nat) (p : Nat × Nat) : Nat × Nat := if σ 18 m = s ∧ ¬ σ 22 m = 0 then ((if p.1 = NONE ∨ σ 21 p.1 ≤ σ 21 m then m else p.1), (if ¬ p.2 = 0 ∨ σ 23 m = 0 then 1 else 0)) else p
def gsL (σ : Sg) (s k : Nat) : Nat × Nat := lp (gsB σ s) k (NONE, 0)
theorem gsL_ok (σ : Sg) (s : Nat) : ∀ k, k < 2 ^ 20 → ((gsL σ s k).1 = NONE ∨ (gsL σ s k).1 < k) ∧ (¬ (gsL σ s k).2 = 0 → (gsL σ s k).1 < k) ∧ (gsL σ s k).2 < 2 := by
  intro k
  induction k with
  | zero => intro _; exact ⟨Or.inl rfl, fun h => absurd rfl h, Nat.zero_lt_two⟩
  | succ k ih =>
    intro hk
    obtain ⟨h1, h2, h3⟩ := ih (by omega)
    have e : gsL σ s (k + 1) = gsB σ s k (gsL σ s k) := rfl
    rw [e]
    generalize gsL σ s k = p at h1 h2 h3
    unfold gsB
    split
    · refine ⟨?_, fun _ => ?_, ?_⟩
      · show (if _ then k else p.1) = NONE ∨ (if _ then k else p.1) < k + 1
        split
        · right; omega
        · rcases h1 with h | h
          · left; exact h
          · right; omega
      · show (if _ then k else p.1) < k + 1
        split
        · omega
        · next q =>
          rcases h1 with h | h
          · exact absurd (Or.inl h) q
          · omega
      · show (if _ then 1 else 0) < 2
        split <;> decide
    · exact ⟨h1.imp id (fun h => by omega), fun h => by have := h2 h; omega, h3⟩
def guessF (σ : Sg) (s : Nat) : Nat := if ¬ (gsL σ s (σ 36 0)).2 = 0 then meansF σ (σ 17 (gsL σ s (σ 36 0)).1) (σ 19 (gsL σ s (σ 36 0)).1) else if σ 2 s = NONE then 0 else σ 2 s
theorem meansF_lt {σ : Sg} (h : Bd σ) (r w : Nat) : meansF σ r w < 2 ^ 30 := by
  unfold meansF
  have h1 : σ 27 w < 701 := h.lt 27 (by decide) w
  have h2 : σ 24 (4 * r + w) < 1073741824 := h.lt 24 (by decide) _
  split
  · omega
  · exact Nat.lt_of_le_of_lt (Nat.div_le_self _ _) (by omega)
abbrev doubtF (σ : Sg) (s : Nat) : Prop := σ 31 0 ≤ guessF σ s
theorem guessF_lt {σ : Sg} (h : Bd σ) (s : Nat) (hF : σ 2 s = NONE ∨ σ 2 s < 2 ^ 30) : guessF σ s < 2 ^ 30 := by
  unfold guessF
  split
  · exact meansF_lt h _ _
  · split
    · decide
    · next q => exact hF.resolve_left q
def deepN (σ : Sg) (s n : Nat) : Nat := lp (fun b k => if σ 7 b = 2 ∧ σ 8 b = s ∧ k < σ 11 b then σ 11 b else k) n 0
def takesF (σ : Sg) (k : Nat) : Nat := if 0 < lyingN σ (if doubtF σ k then k + 6 else k) (σ 32 0) then (if doubtF σ k then k + 6 else k) else if 0 < lyingN σ (if doubtF σ k then k else k + 6) (σ 32 0) then (if doubtF σ k then k else k + 6) else NONE
def manyS (σ : Sg) (x : Int32) : Nat := if inR x 0 ((σ 36 0 : Int) - 1) ∧ ¬ σ 22 (iN x) = 0 then 10 + digitsF σ (iN x) else 0
def cSign (σ : Sg) (x v : Int32) : Nat := if inR x 0 ((σ 36 0 : Int) - 1) ∧ inR v (-1) ((manyS σ x : Int) - 1) then 0 else 1
def cMean (x v : Int32) : Nat := c2_ (inR x 0 3) (inR v 0 3)
def cInsp (x : Int32) : Nat := if inR x 0 11 then 0 else 1
theorem deepN_lt {σ : Sg} (h : Bd σ) (s n : Nat) : deepN σ s n < 30000 := by
  unfold deepN
  induction n with
  | zero => exact Nat.lt_of_lt_of_le Nat.zero_lt_one (by decide)
  | succ n ih =>
    have h1 : σ 11 n < 30000 := h.lt 11 (by decide) n
    simp only [lp]
    split
    · exact h1
    · exact ih
def strF (σ : Sg) (s i : Nat) : Nat := if i = 0 then lyingN σ s (σ 32 0) else if i = 1 then depthF σ s else if i = 2 then deepN σ s (σ 32 0) else if i = 3 then σ 3 s else if i = 4 then guessF σ s else if i = 5 then (if doubtF σ s then 1 else 0) else σ 0 s
def cStr (x v : Int32) : Nat := c2_ (inR x 0 11) (inR v 0 6)
theorem deepN_succ (σ : Sg) (s b : Nat) : deepN σ s (b + 1) = if σ 7 b = 2 ∧ σ 8 b = s ∧ deepN σ s b < σ 11 b then σ 11 b else deepN σ s b := rfl
