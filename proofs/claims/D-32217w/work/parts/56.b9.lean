/-! ===== B 4: Bogsign's world: ad (fixed addresses: 17 the object's own, 18 stretches, 19 their lists of boards, 20 of presses, 21 notes), τ (numbers and addresses that change), μ (modification counts), Λ (lists), T (the map of days), σ (the reference's store) ===== -/
/-- a board's fields out of the stores -/
def bdS (τ σ : Sg) : Sg := fun f b => match f with
  | 0 => b
  | 1 => seasonN (σ 9 b)
  | 2 => σ 9 b
  | 3 => σ 7 b
  | 4 => σ 8 b
  | 5 => σ 11 b
  | 6 => τ 0 b
  | _ => τ 1 b
def fam (f : Nat → Nat) (n : Nat) : List Nat := (List.range n).map f
theorem fam_len (f : Nat → Nat) (n : Nat) : (fam f n).length = n := by simp [fam]
theorem fam_get (f : Nat → Nat) {n i : Nat} (h : i < n) : (fam f n)[i]? = some (f i) := by
  unfold fam
  rw [List.getElem?_map, List.getElem?_range h]
  rfl
theorem fam_succ (f : Nat → Nat) (n : Nat) : fam f (n + 1) = fam f n ++ [f n] := by simp [fam, List.range_succ]
theorem fam_cg {f g : Nat → Nat} {n : Nat} (h : ∀ i, i < n → f i = g i) : fam f n = fam g n := List.map_congr_left (fun i hi => h i (List.mem_range.mp hi))
/-- which boards lie in the depot -/
def dpP (σ : Sg) : Nat → Bool := fun b => decide (b < σ 32 0 ∧ σ 7 b = 0)
/-- the cells of what is to come: boards cut, boards sent, a message -/
def coF (G : GT) (ad τ : Sg) (μ : Nat → Nat → Int32) (Λ : Nat → Nat → List (Nat × Nat)) (σ : Sg) : Nat → va_W := fun e =>
  if σ 13 e = 0 then [(τ 16 e, .inr (7, [.int (nI (σ 14 e))]))]
  else if σ 13 e = 1 then (τ 16 e, .inr (5, [.ref (τ 10 e), .ref (ad 18 (σ 14 e))])) :: alW G (τ 10 e) (τ 11 e) (τ 12 e) (μ 3 e) (Λ 3 e).length ((Λ 3 e).map (fun z => τ 14 z.1))
  else [(τ 16 e, .inr (9, [.ref (τ 15 (σ 14 e))]))]
def soF (G : GT) (ad τ σ : Sg) : Nat → va_W := fun i => [(ad 18 i, .inr (1, [.int (nI i), .ref (ad 19 i), .ref (ad 20 i), .int (nI (σ 0 i)), .int (nI (σ 3 i)), .int (nI (τ 2 i)), .int (nI (τ 3 i)), .ref (if τ 5 i = 0 then G.2.2.2 1 else τ 4 i)]))]
def slF (ad τ : Sg) (μ : Nat → Nat → Int32) (Λ : Nat → Nat → List (Nat × Nat)) : Nat → va_W := fun i => llK (ad 19 i) (μ 1 i) (Λ 0 i).length (lm (τ 14) (Λ 0 i))
def spF (G : GT) (ad τ : Sg) (μ : Nat → Nat → Int32) (Λ : Nat → Nat → List (Nat × Nat)) : Nat → va_W := fun i => alW G (ad 20 i) (τ 8 i) (τ 9 i) (μ 2 i) (Λ 1 i).length ((Λ 1 i).map (fun z => z.1))
def siF (Λ : Nat → Nat → List (Nat × Nat)) : Nat → va_W := fun i => intsW (Λ 1 i)
def sxF (τ : Sg) : Nat → va_W := fun i => if τ 5 i = 0 then [] else [(τ 4 i, .inr (15, [.ref (τ 15 (τ 5 i - 1))]))]
def dgN (n : Nat) : Nat := if n < 10 then 1 else 2
def msF (G : GT) (τ σ : Sg) : Nat → va_W := fun i => [(τ 15 i, .inr (8, [.int (nI (σ 17 i)), .int (nI (σ 18 i)), .int (nI (σ 19 i)), .int (nI (σ 20 i)), .int (nI (σ 21 i)), .int (nI (σ 22 i)), .int (nI (σ 23 i)), .ref (if σ 22 i = 0 then G.2.2.2 15 else τ 6 i)]))]
def mtF (G : GT) (τ σ : Sg) : Nat → va_W := fun i => if σ 22 i = 0 then [] else [(τ 6 i, .inr (17, [.ref (τ 7 i), .int (nI 0), .int 0, .int 0])), (τ 7 i, .inl (G.2.2.1 3, 10 + dgN (σ 18 i), .inl (fun j => nI (lineN (dgN (σ 18 i)) (σ 19 i) (σ 18 i) (σ 17 i) j))))]
def noF (ad σ : Sg) : Nat → va_W := fun i => [(ad 21 i, .inr (2, [.int (nI (σ 24 i)), .int (nI (σ 25 i))]))]
def dbF (τ σ : Sg) : Nat → va_W := fun i => [(τ 22 i, .inr (6, [.int (nI (σ 15 i)), .int (nI (σ 16 i))]))]
section BW
variable (G : GT) (ad τ : Sg) (μ : Nat → Nat → Int32) (Λ : Nat → Nat → List (Nat × Nat)) (T : TT) (σ : Sg)
def w0 : va_W := [(ad 17 0, .inr (0, [.ref (ad 17 1), .ref (ad 17 2), .ref (ad 17 3), .ref (ad 17 4), .ref (ad 17 5), .ref (ad 17 6), .ref (ad 17 7), .ref (ad 17 8), .int (nI (σ 30 0)), .int (nI (σ 31 0)), .int (nI (σ 33 0))]))]
def w1 : va_W := [(ad 17 1, .inl (G.2.2.1 5, 12, .inr (.inr (.inr (.inr (fun i => some (ad 18 i)))))))]
def w2 : va_W := flat 12 (soF G ad τ σ)
def w3 : va_W := flat 12 (slF ad τ μ Λ)
def w4 : va_W := flat 12 (spF G ad τ μ Λ)
def w5 : va_W := flat 12 (siF Λ)
def w6 : va_W := flat 12 (sxF τ)
def w7 : va_W := alW G (ad 17 2) (τ 13 0) (τ 13 1) (μ 0 0) (σ 32 0) (fam (τ 14) (σ 32 0))
def w8 : va_W := flat (σ 32 0) (bdF (τ 14) (bdS τ σ))
def w9 : va_W := [(ad 17 3, .inr (11, [.ref (ad 17 9), .int (nI (wIU (dpP σ))), .int (nI 1)]))]
def w10 : va_W := [(ad 17 9, .inl (G.2.2.1 1, 4, .inr (.inl (fun j => lN (bw (dpP σ) j)))))]
def w11 : va_W := [(ad 17 4, .inr (12, [.ref (τ 13 4), .int (nI (τ 13 6)), .int (nI ((τ 13 6 + σ 35 0) % τ 13 5))]))]
def w12 : va_W := [(τ 13 4, .inl (G.2.2.1 4, τ 13 5, .inr (.inr (.inr (.inr (dq (τ 13 5) (τ 13 6) (fam (τ 22) (σ 35 0))))))))]
def w13 : va_W := flat (σ 35 0) (dbF τ σ)
def w14 : va_W := alW G (ad 17 5) (τ 13 2) (τ 13 3) (μ 0 1) (σ 36 0) (fam (τ 15) (σ 36 0))
def w15 : va_W := flat (σ 36 0) (msF G τ σ)
def w16 : va_W := flat (σ 36 0) (mtF G τ σ)
def w17 : va_W := [(ad 17 6, .inl (G.2.2.1 6, 16, .inr (.inr (.inr (.inr (fun i => some (ad 21 i)))))))]
def w18 : va_W := flat 16 (noF ad σ)
def w19 : va_W := [(ad 17 7, .inl (G.2.2.1 0, 4, .inl (fun i => nI (σ 1 i))))]
def w20 : va_W := [(ad 17 8, .inr (13, [.null, .null, .null, vr (tad T), .int (nI (ink T).length), .int (μ 0 2), .null, .null, .null]))]
def w21 : va_W := tw none T
def w22 : va_W := wTK (ink T)
def w23 : va_W := wTL (μ 4) (Λ 2) (τ 16) (ink T)
def w24 : va_W := flat (σ 34 0) (coF G ad τ μ Λ σ)
def bW : List va_W := [w0 ad σ, w1 G ad, w2 G ad τ σ, w3 ad τ μ Λ, w4 G ad τ μ Λ, w5 Λ, w6 τ, w7 G ad τ μ σ, w8 τ σ, w9 ad σ, w10 G ad σ, w11 ad τ σ, w12 G τ σ, w13 τ σ, w14 G ad τ μ σ, w15 G τ σ, w16 G τ σ, w17 G ad, w18 ad σ, w19 G ad σ, w20 ad μ T, w21 T, w22 T, w23 τ μ Λ T, w24 G ad τ μ Λ σ]
end BW
theorem dpP_s7 {σ : Sg} {b v : Nat} (hb : b < σ 32 0) (hv : v ≠ 0) : dpP (s2 σ 7 b v) = bset (dpP σ) b false := by
  funext j
  unfold dpP bset
  by_cases e : j = b
  · subst e; simp [s2_rd, hv]
  · simp [s2_rd, e]
theorem dpP_cg {σ ρ : Sg} (h7 : ∀ b, b < σ 32 0 → σ 7 b = ρ 7 b) (h : σ 32 0 = ρ 32 0) : dpP σ = dpP ρ := by
  funext j
  unfold dpP
  rw [← h]
  by_cases e : j < σ 32 0
  · simp [e, h7 j e]
  · simp [e]
theorem dpP_o {σ : Sg} {f b v : Nat} (h7 : f ≠ 7) (h32 : f ≠ 32) : dpP (s2 σ f b v) = dpP σ := by
  unfold dpP
  simp [s2_rd, Ne.symm h7, Ne.symm h32]
/-! ===== B 5: sending boards: what the loop finds ===== -/
theorem dep_next {σ : Sg} {N : Nat} : ∀ (d p : Nat), p + d = N → countN σ 0 p < countN σ 0 N → ∃ b, p ≤ b ∧ b < N ∧ σ 7 b = 0 ∧ ∀ j, p ≤ j → j < b → σ 7 j ≠ 0 := by
  intro d
  induction d with
  | zero => intro p h1 h2; rw [show p = N by omega] at h2; exact absurd h2 (Nat.lt_irrefl _)
  | succ d ih =>
    intro p h1 h2
    by_cases h : σ 7 p = 0
    · exact ⟨p, Nat.le_refl _, by omega, h, fun j q1 q2 => by omega⟩
    · have e : countN σ 0 (p + 1) = countN σ 0 p := by
        show countN σ 0 p + (if σ 7 p = 0 then 1 else 0) = _
        rw [if_neg h]
        rfl
      obtain ⟨b, g1, g2, g3, g4⟩ := ih (p + 1) (by omega) (by rw [e]; exact h2)
      refine ⟨b, by omega, g2, g3, fun j q1 q2 => ?_⟩
      by_cases hj : j = p
      · rw [hj]; exact h
      · exact g4 j (by omega) q2
theorem sendL_succ (σ : Sg) (s n k : Nat) : sendL σ s n (k + 1) = sendB s (σ 34 0) k (sendL σ s n k) := rfl
theorem sendL_skip {σ : Sg} {s n p : Nat} : ∀ (d : Nat), (∀ j, p ≤ j → j < p + d → σ 7 j ≠ 0) → sendL σ s n (p + d) = sendL σ s n p ∧ countN σ 0 (p + d) = countN σ 0 p := by
  intro d
  induction d with
  | zero => intro _; exact ⟨rfl, rfl⟩
  | succ d ih =>
    intro h
    obtain ⟨h1, h2⟩ := ih (fun j q1 q2 => h j q1 (by omega))
    have h7 := (sendL_7 σ s n (p + d)).2.2 (p + d) (Nat.le_refl _)
    have hz := h (p + d) (by omega) (by omega)
    refine ⟨?_, ?_⟩
    · rw [← Nat.add_assoc, sendL_succ]
      unfold sendB
      rw [if_neg (fun q => hz (h7 ▸ q.2))]
      exact h1
    · show countN σ 0 (p + d) + (if σ 7 (p + d) = 0 then 1 else 0) = _
      rw [if_neg hz, h2]
      rfl
theorem sendL_take {σ : Sg} {s n b : Nat} (h0 : σ 7 b = 0) (hl : 0 < (sendL σ s n b).1) : sendL σ s n (b + 1) = ((sendL σ s n b).1 - 1, s2 (s2 (s2 (sendL σ s n b).2 7 b 1) 8 b s) 10 b (σ 34 0)) ∧ countN σ 0 (b + 1) = countN σ 0 b + 1 := by
  have h7 := (sendL_7 σ s n b).2.2 b (Nat.le_refl _)
  refine ⟨?_, ?_⟩
  · rw [sendL_succ]
    unfold sendB
    rw [if_pos ⟨hl, h7.trans h0⟩]
  · show countN σ 0 b + (if σ 7 b = 0 then 1 else 0) = _
    rw [if_pos h0]
theorem sendL_ev (σ : Sg) (s n k f j : Nat) (hf : f ≠ 7 ∧ f ≠ 8 ∧ f ≠ 10) : (sendL σ s n k).2 f j = comesF σ (σ 30 0 + 1 + s % 6) 1 s f j := by
  unfold sendL
  exact lp_keep (f := sendB s (σ 34 0)) (fun p : Nat × Sg => p.2 f j) (fun i a => sendB_o hf) k _
theorem sendL_zero (σ : Sg) (s n : Nat) : sendL σ s n 0 = (n, comesF σ (σ 30 0 + 1 + s % 6) 1 s) := rfl
theorem lm_cg {bo bo' : Nat → Nat} {ns : List (Nat × Nat)} (h : ∀ z ∈ ns, bo z.2 = bo' z.2) : lm bo ns = lm bo' ns := List.map_congr_left (fun z hz => by rw [h z hz])
theorem wTL_co {μd : Nat → Int32} {Λd : Nat → List (Nat × Nat)} {co co' : Nat → Nat} {K : List KV} (h : ∀ d, ∀ z ∈ Λd d, co z.2 = co' z.2) : wTL μd Λd co K = wTL μd Λd co' K := flatMap_cg (fun x _ => by rw [lm_cg (h x.2.2.1)])
/-- the store's board fields alone matter -/
theorem bdF_cg {bo : Nat → Nat} {τ σ ρ : Sg} {b : Nat} (h : ∀ f, f = 7 ∨ f = 8 ∨ f = 9 ∨ f = 11 → σ f b = ρ f b) : bdF bo (bdS τ σ) b = bdF bo (bdS τ ρ) b := by
  unfold bdF bdL bdS
  simp only [h 7 (by simp), h 8 (by simp), h 9 (by simp), h 11 (by simp)]
def um {α : Type} (μ : Nat → α) (a : Nat) (f : α) : Nat → α := fun i => if i = a then f else μ i
theorem um_s {α : Type} (μ : Nat → α) (a : Nat) (f : α) : um μ a f a = f := if_pos rfl
theorem um_n {α : Type} (μ : Nat → α) {a i : Nat} (f : α) (h : i ≠ a) : um μ a f i = μ i := if_neg h
/-- what a short list's arrays take -/
def gS (cap : Nat) : Nat := if cap = 0 then 0 else if cap = 10 then 10 else if cap = 15 then 25 else 47
theorem gS_le (cap : Nat) : gS cap ≤ 47 := by
  unfold gS
  (repeat' split) <;> omega
theorem gS_step {cx : Nat} {xs : List Nat} (h : cx = 0 ∨ cx = 10 ∨ cx = 15 ∨ cx = 22) (h1 : xs.length ≤ cx) (h2 : xs.length < 20) : (capS cx xs.length = 0 ∨ capS cx xs.length = 10 ∨ capS cx xs.length = 15 ∨ capS cx xs.length = 22) ∧ gS cx + gC cx xs.length ≤ gS (capS cx xs.length) := by
  unfold capS gC gS
  rcases h with rfl | rfl | rfl | rfl
  · simp
  · by_cases e : xs.length = 10
    · simp [e]
    · simp [e]
  · by_cases e : xs.length = 15
    · simp [e]
    · simp [e]
  · have e : xs.length ≠ 22 := by omega
    simp [e]
theorem aOk.step {cx x k : Nat} {xs : List Nat} (h : aOk cx xs) (h2 : xs.length < 2 ^ 20) (hk : xs.length = k) : aOk (capS cx k) (xs ++ [x]) := by
  obtain ⟨h1, h3, h4⟩ := h
  subst hk
  unfold capS aOk
  rw [List.length_append, List.length_singleton]
  by_cases e : cx = 0
  · rw [if_pos e]; omega
  · rw [if_neg e]
    by_cases e2 : xs.length = cx
    · rw [if_pos e2]; omega
    · rw [if_neg e2]; omega
