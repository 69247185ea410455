/-! ===== SPEC 6: measures ===== -/
/-- what makes boardErrors 0 -/
def BdOk (σ : Sg) : Prop := ∀ b, b < σ 32 0 → σ 5 b ≤ σ 6 b ∧ σ 6 b - σ 5 b = σ 11 b ∧ (1000 ≤ σ 11 b ↔ σ 7 b = 3)
def allN (σ : Sg) (k : Nat) : Nat := lp (fun q a => a + countN σ q (σ 32 0)) k 0
theorem allN_all {σ : Sg} (h : Bd σ) : allN σ 5 = σ 32 0 := by
  show 0 + countN σ 0 _ + countN σ 1 _ + countN σ 2 _ + countN σ 3 _ + countN σ 4 _ = _
  generalize σ 32 0 = n
  unfold countN
  induction n with
  | zero => rfl
  | succ n ih =>
    have h7 : σ 7 n < 5 := h.lt 7 (by decide) n
    simp only [lp] at ih ⊢
    have hc : σ 7 n = 0 ∨ σ 7 n = 1 ∨ σ 7 n = 2 ∨ σ 7 n = 3 ∨ σ 7 n = 4 := by omega
    rcases hc with e | e | e | e | e <;> simp [e] <;> omega
def mdSum (σ : Sg) (n : Nat) : Nat := lp (fun b a => a + if σ 7 b = 2 then σ 11 b else 0) n 0
def dbN (σ : Sg) (n : Nat) : Nat := lp (fun s a => a + if doubtF σ s then 1 else 0) n 0
/-- bits that are no NaN -/
def OkB (n : Nat) : Prop := n < 18446744073709551616 ∧ n % 9223372036854775808 ≤ 9218868437227405312
theorem b64_t : FP.Core.b64.tails = 4503599627370496 := by decide
theorem b64_e : FP.Core.b64.exps = 2048 := by decide
theorem enc_fin (s : Bool) (c : Nat) (q : Int) (hc : c < 9007199254740992) (hq : q ≤ FP.Core.b64.qmax) : OkB (FP.Core.encode FP.Core.b64 (.fin s c q)) := by
  have hq2 : q ≤ 971 := hq
  have e1 : FP.Core.b64.qmin = -1074 := by decide
  have hs : s.toNat ≤ 1 := by cases s <;> decide
  unfold FP.Core.encode FP.Core.assemble OkB
  simp only [b64_t, b64_e, e1]
  split <;> omega
theorem enc_inf (s : Bool) : OkB (FP.Core.encode FP.Core.b64 (.inf s)) := by
  unfold OkB
  cases s <;> decide
theorem bd_ok (s : Bool) (c : Nat) (q : Int) (hc : c < 9007199254740992) : OkB (FP.Core.encode FP.Core.b64 (FP.Core.bound FP.Core.b64 s c q)) := by
  unfold FP.Core.bound
  split
  · next h => exact enc_fin s c q hc h
  · exact enc_inf s
theorem rr_ok (s : Bool) (a b : Nat) (e : Int) : OkB (FP.Core.encode FP.Core.b64 (FP.Core.roundRatio FP.Core.b64 s a b e)) := by
  have e1 : 2 ^ FP.Core.b64.p = 9007199254740992 := by decide
  unfold FP.Core.roundRatio FP.Core.roundAt FP.Core.settle
  split
  · exact enc_fin _ _ _ (by decide) (by decide)
  · split
    · next h => exact bd_ok _ _ _ (by rw [e1] at h; exact h)
    · exact bd_ok _ _ _ (by rw [b64_t]; decide)
theorem ok_toNat {n : Nat} (h : OkB n) : (UInt64.ofNat n).toNat = n := UInt64.toNat_ofNat_of_lt' (by simpa using h.1)
theorem ok_vf {n : Nat} (h : OkB n) : vf_n64 (UInt64.ofNat n) := by
  unfold vf_n64
  rw [UInt64.le_iff_toNat_le, UInt64.toNat_and, ok_toNat h]
  show n &&& (2 ^ 63 - 1) ≤ 9218868437227405312
  rw [Nat.and_two_pow_sub_one_eq_mod]
  exact h.2
theorem ok_dec {n : Nat} (h : OkB n) : FP.Core.decode FP.Core.b64 n ≠ .nan := by
  have e1 : FP.Core.fieldE FP.Core.b64 n = n / 4503599627370496 % 2048 := by unfold FP.Core.fieldE; rw [b64_t, b64_e]
  have e2 : FP.Core.fieldT FP.Core.b64 n = n % 4503599627370496 := by unfold FP.Core.fieldT; rw [b64_t]
  have e3 : FP.Core.b64.exps - 1 = 2047 := by decide
  obtain ⟨h1, h2⟩ := h
  unfold FP.Core.decode
  rw [e1, e2, e3]
  by_cases q : n / 4503599627370496 % 2048 = 2047
  · rw [if_pos q, if_pos (by omega)]
    exact fun q => by cases q
  · rw [if_neg q]
    split <;> exact fun q => by cases q
theorem quo_ok {x y : FP.Core.Datum} (hx : x ≠ .nan) {t : Bool} {d : Nat} {r : Int} (hy : y = .fin t d r) (hd : d ≠ 0) : OkB (FP.Core.encode FP.Core.b64 (FP.Core.quotient FP.Core.b64 x y)) := by
  subst hy
  cases x with
  | nan => exact absurd rfl hx
  | inf s => exact enc_inf _
  | fin s c q =>
    show OkB (FP.Core.encode FP.Core.b64 (if d = 0 then _ else FP.Core.roundRatio FP.Core.b64 (s != t) c d (q - r)))
    rw [if_neg hd]
    exact rr_ok _ _ _ _
def isFin0 : FP.Core.Datum → Bool
  | .fin _ c _ => decide (c ≠ 0)
  | _ => false
theorem isFin0_of {d : FP.Core.Datum} (h : isFin0 d = true) : ∃ s c q, d = .fin s c q ∧ c ≠ 0 := by
  cases d with
  | nan => cases h
  | inf s => cases h
  | fin s c q => exact ⟨s, c, q, rfl, of_decide_eq_true h⟩
theorem cnt_fin : ∀ n, n < 201 → 0 < n → isFin0 (FP.Core.decode FP.Core.b64 (FP.i2d (nI n)).toNat) = true := by decide +kernel
theorem mean_ok {a : Int64} {n : Nat} (h0 : 0 < n) (h : n < 201) : vf_n64 (FP.ddiv (FP.l2d a) (FP.i2d (nI n))) := by
  refine ok_vf ?_
  obtain ⟨s, c, q, e, hc⟩ := isFin0_of (cnt_fin n h h0)
  refine quo_ok ?_ e hc
  show FP.Core.decode FP.Core.b64 (UInt64.ofNat (FP.Core.fromInt FP.Core.b64 a.toInt)).toNat ≠ _
  have ho : OkB (FP.Core.fromInt FP.Core.b64 a.toInt) := rr_ok _ _ _ _
  rw [ok_toNat ho]
  exact ok_dec ho
def meanV (σ : Sg) : UInt64 := if countN σ 2 (σ 32 0) = 0 then FP.dconst0 else FP.ddiv (FP.l2d (lN (mdSum σ (σ 32 0)))) (FP.i2d (nI (countN σ 2 (σ 32 0))))
theorem share_ok : ∀ n, n < 7 → vf_n32 (FP.fdiv (FP.i2f (nI n)) 1086324736) := by unfold vf_n32; decide +kernel
theorem dbN_le (σ : Sg) (n : Nat) : dbN σ n ≤ n := by
  unfold dbN
  induction n with
  | zero => exact Nat.le_refl _
  | succ n ih => simp only [lp]; split <;> omega
