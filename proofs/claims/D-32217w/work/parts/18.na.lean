/-! ===== SPEC 4: sign, cart, round ===== -/
def signR (σ : Sg) (x v : Int32) : Nat := if v = nI NONE then manyS σ x else signF σ (iN x) (iN v)
def cart1 (σ : Sg) (w s : Nat) : Sg := sinksF (s2 σ 3 s (σ 3 s + w)) s (σ 0 s * w / lyingN σ s (σ 32 0))
def cartR (up : Prop) [Decidable up] (w : Nat) : Nat → Nat → Sg → Nat × Sg
  | 0, mr, σ => (mr, σ)
  | d + 1, mr, σ => if takesF σ (if up then mr else mr - 1) = NONE then (mr, σ) else cartR up w d (if up then mr + 1 else mr - 1) (cart1 σ w (takesF σ (if up then mr else mr - 1)))
def cCart (f t w : Int32) : Nat := c2_ (inR f 0 6 ∧ inR t 0 6) (inR w 1 500 ∧ ¬ f = t)
def dist (f t : Nat) : Nat := if f < t then t - f else f - t
def cartF (σ : Sg) (f t w : Nat) : Nat × Sg := cartR (f < t) w (dist f t) f (s2 σ 37 0 0)
theorem takesF_cases (σ : Sg) (k : Nat) (hk : k < 6) : takesF σ k = NONE ∨ (takesF σ k < 12 ∧ 0 < lyingN σ (takesF σ k) (σ 32 0)) := by
  have key : ∀ a b : Nat, a < 12 → b < 12 → ((if 0 < lyingN σ a (σ 32 0) then a else if 0 < lyingN σ b (σ 32 0) then b else NONE) = NONE ∨ ((if 0 < lyingN σ a (σ 32 0) then a else if 0 < lyingN σ b (σ 32 0) then b else NONE) < 12 ∧ 0 < lyingN σ (if 0 < lyingN σ a (σ 32 0) then a else if 0 < lyingN σ b (σ 32 0) then b else NONE) (σ 32 0))) := by
    intro a b ha hb
    by_cases q : 0 < lyingN σ a (σ 32 0)
    · rw [if_pos q]; exact Or.inr ⟨ha, q⟩
    · rw [if_neg q]
      by_cases q2 : 0 < lyingN σ b (σ 32 0)
      · rw [if_pos q2]; exact Or.inr ⟨hb, q2⟩
      · rw [if_neg q2]; exact Or.inl rfl
  unfold takesF
  by_cases d : doubtF σ k
  · rw [if_pos d, if_pos d]; exact key _ _ (by omega) (by omega)
  · rw [if_neg d, if_neg d]; exact key _ _ (by omega) (by omega)
theorem cart1_ok {σ : Sg} (h : Sf σ) {w s : Nat} (hw : w ≤ 500) : Sf (cart1 σ w s) := by
  unfold cart1
  refine Sf.sinks (h.s2o (by decide) (Or.inl rfl)) ?_
  have h0 : σ 0 s < 51 := h.1.lt 0 (by decide) s
  exact Nat.le_trans (Nat.div_le_self _ _) (Nat.le_trans (Nat.mul_le_mul (Nat.le_of_lt_succ h0) hw) (by decide))
theorem cart1_o {σ : Sg} {w s f j : Nat} (hf : f ≠ 11 ∧ f ≠ 6 ∧ f ≠ 7 ∧ f ≠ 4 ∧ f ≠ 3) : cart1 σ w s f j = σ f j := by
  unfold cart1
  rw [sinks_o _ _ _ _ _ ⟨hf.1, hf.2.1, hf.2.2.1, hf.2.2.2.1⟩, s2_rd, if_neg hf.2.2.2.2]
def cRound (f t : Int32) : Nat := c2_ (inR f 0 6 ∧ inR t 0 6) (¬ f = t)
def roundR (σ : Sg) : Nat → Nat → Nat → Nat
  | 0, _, set => set
  | d + 1, k, set => if takesF σ k = NONE then NONE else roundR σ d (k + 1) (if 6 ≤ takesF σ k then set ||| 2 ^ k else set)
def roundF (σ : Sg) (f t : Nat) : Nat := roundR (s2 σ 37 0 0) (dist f t) (min f t) 0
theorem nI_or (a b : Nat) : nI a ||| nI b = nI (a ||| b) := by
  apply Int32.toBitVec_inj.1
  show BitVec.ofNat 32 a ||| BitVec.ofNat 32 b = BitVec.ofNat 32 (a ||| b)
  apply BitVec.eq_of_getLsbD_eq
  intro i hi
  simp [hi]
theorem nI_sh1 : ∀ k, k < 31 → nI 1 <<< (nI k &&& 31) = nI (2 ^ k) := by decide +kernel
theorem cartR_step {up : Prop} [Decidable up] {w d mr : Nat} {σ : Sg} (hd : 0 < d) (h : ¬ takesF σ (if up then mr else mr - 1) = NONE) : cartR up w d mr σ = cartR up w (d - 1) (if up then mr + 1 else mr - 1) (cart1 σ w (takesF σ (if up then mr else mr - 1))) := by
  obtain ⟨e, rfl⟩ : ∃ e, d = e + 1 := ⟨d - 1, by omega⟩
  show (if takesF σ (if up then mr else mr - 1) = NONE then _ else _) = _
  rw [if_neg h]; rfl
theorem cartR_stop {up : Prop} [Decidable up] {w d mr : Nat} {σ : Sg} (hd : 0 < d) (h : takesF σ (if up then mr else mr - 1) = NONE) : cartR up w d mr σ = (mr, σ) := by
  obtain ⟨e, rfl⟩ : ∃ e, d = e + 1 := ⟨d - 1, by omega⟩
  show (if takesF σ (if up then mr else mr - 1) = NONE then _ else _) = _
  rw [if_pos h]
theorem roundR_step {σ : Sg} {d k set : Nat} (hd : 0 < d) (h : ¬ takesF σ k = NONE) : roundR σ d k set = roundR σ (d - 1) (k + 1) (if 6 ≤ takesF σ k then set ||| 2 ^ k else set) := by
  obtain ⟨e, rfl⟩ : ∃ e, d = e + 1 := ⟨d - 1, by omega⟩
  show (if takesF σ k = NONE then _ else _) = _
  rw [if_neg h]; rfl
theorem roundR_stop {σ : Sg} {d k set : Nat} (hd : 0 < d) (h : takesF σ k = NONE) : roundR σ d k set = NONE := by
  obtain ⟨e, rfl⟩ : ∃ e, d = e + 1 := ⟨d - 1, by omega⟩
  show (if takesF σ k = NONE then _ else _) = _
  rw [if_pos h]
theorem nI_dec {k : Nat} (h : 1 ≤ k) : nI (k + NONE) = nI (k - 1) := by
  apply Int32.toBitVec_inj.1
  show BitVec.ofNat 32 (k + 4294967295) = BitVec.ofNat 32 (k - 1)
  apply BitVec.eq_of_toNat_eq
  rw [BitVec.toNat_ofNat, BitVec.toNat_ofNat]
  omega
theorem takes_w {σ : Sg} {k : Nat} (hk : k < 6) : takesF σ k < 2 ^ 32 := by
  rcases takesF_cases σ k hk with h | h
  · rw [h]; decide
  · omega
