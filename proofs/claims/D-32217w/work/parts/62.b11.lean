theorem dp_ct0 {σ : Sg} {n : Nat} (h : n ≤ σ 32 0) : fb_ct (dpP σ) n = countN σ 0 n := by
  induction n with
  | zero => rfl
  | succ n ih =>
    rw [fb_ct_succ, ih (by omega)]
    show _ = countN σ 0 n + (if σ 7 n = 0 then 1 else 0)
    congr 1
    unfold dpP
    by_cases e : σ 7 n = 0
    · rw [if_pos e, if_pos]; simp; exact ⟨by omega, e⟩
    · rw [if_neg e, if_neg]; simp; intro _; exact e
theorem dp_ct {σ : Sg} (h : σ 32 0 ≤ 256) : fb_ct (dpP σ) 256 = countN σ 0 (σ 32 0) := by
  obtain ⟨d, hd⟩ : ∃ d, 256 = σ 32 0 + d := ⟨256 - σ 32 0, by omega⟩
  rw [hd, fb_ct_split, dp_ct0 (Nat.le_refl _)]
  have : fb_ct (fun k => dpP σ (σ 32 0 + k)) d = 0 := fb_ct_zero.mpr (fun k hk => by unfold dpP; simp; intro q; omega)
  omega
theorem dp_z {σ : Sg} (h : σ 32 0 ≤ 256) : wIU (dpP σ) = 0 ↔ countN σ 0 (σ 32 0) = 0 := by
  rw [← dp_ct h, wIU_zero]
  exact fb_ct_zero.symm
theorem ring_e {cp h n : Nat} (hh : h < cp) (hn : n < cp) : h = (h + n) % cp ↔ n = 0 := by
  rcases Nat.lt_or_ge (h + n) cp with q | q
  · rw [Nat.mod_eq_of_lt q]; omega
  · rw [Nat.mod_eq_sub_mod q, Nat.mod_eq_of_lt (by omega)]; omega
theorem serveN_min (σ : Sg) : min (σ 16 0) (countN σ 0 (σ 32 0)) = serveN σ := by
  unfold serveN
  split <;> omega
theorem serveF_34 (σ : Sg) : serveF σ 34 0 = σ 34 0 + 1 := (sends_34 _ _ _).trans (by rw [serve1_o _ _ _ (by decide)])
theorem serve_go {σ : Sg} (hr : 0 < σ 35 0) (hc : 0 < countN σ 0 (σ 32 0)) {k : Nat} (hk : 0 < k) : servesN k σ = servesN (k - 1) (serveF σ) := by
  obtain ⟨k, rfl⟩ : ∃ j, k = j + 1 := ⟨k - 1, by omega⟩
  rw [servesN, if_pos ⟨hr, hc⟩, Nat.add_sub_cancel]
theorem serve_no {σ : Sg} (h : ¬ (0 < σ 35 0 ∧ 0 < countN σ 0 (σ 32 0))) (k : Nat) : servesN k σ = σ := by
  cases k with
  | zero => rfl
  | succ k => rw [servesN, if_neg h]
theorem WF.evlt {G : GT} {τ : Sg} {Λ : Nat → Nat → List (Nat × Nat)} {T : TT} {σ : Sg} {i c p : Nat} (h : WF G τ Λ T σ i c p) (d : Nat) (z : Nat × Nat) (hz : z ∈ Λ 2 d) : z.2 < σ 34 0 := by
  have h1 : z.2 ∈ (Λ 2 d).map (fun z => z.2) := List.mem_map.mpr ⟨z, hz, rfl⟩
  rw [h.ev] at h1
  split at h1
  · exact List.mem_range.mp (List.mem_filter.mp h1).1
  · cases h1
