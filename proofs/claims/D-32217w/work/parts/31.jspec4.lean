/-! ===== JDK 4: an array's content counts within its length; ArrayDeque ===== -/
theorem arrV_cg {c : ClassId} {n : Nat} {f g : Nat → Value} (h : ∀ j, j < n → f j = g j) : arrV c n f = arrV c n g := by
  have e : (arrV c n f).slots = (arrV c n g).slots := by
    apply Array.ext_getElem?
    intro i
    by_cases q : i < n
    · rw [arrV_read _ _ q, arrV_read _ _ q, h i q]
    · rw [Array.getElem?_eq_none (by rw [arrV_size]; omega), Array.getElem?_eq_none (by rw [arrV_size]; omega)]
  unfold arrV at e ⊢
  simp only at e
  rw [e]
theorem Ws.extq {G : GT} {A : Nat → Prop} {s : State} {S S' : List va_W} {H : Heap} {locs : List Loc} (hW : Ws G A s S H locs) (i j : Nat) {seg : va_W} {a cA N : Nat} {f g : Nat → Option Nat} (hi : S[i]? = some seg) (hj : seg[j]? = some (a, .inl (cA, N, .inr (.inr (.inr (.inr f)))))) (hf : ∀ k, k < N → f k = g k) (hS : S.set i (seg.set j (a, .inl (cA, N, .inr (.inr (.inr (.inr g)))))) = S') : Ws G A s S' H locs := by
  obtain ⟨q, e1, e2⟩ := seg_place hi hj
  obtain ⟨w1, w2, w3⟩ := hW
  rw [← hS]
  refine ⟨?_, ?_, w3⟩
  · rw [e2]
    intro k x hk
    by_cases hq : k = q
    · subst hq
      rw [List.getElem?_set_self (List.getElem?_eq_some_iff.mp e1).1] at hk
      cases hk
      have h0 : H[a]? = some (vp_cell cA (N, .inr (.inr (.inr (.inr f))))) := w1 _ _ e1
      show H[a]? = some (vp_cell cA (N, .inr (.inr (.inr (.inr g)))))
      rw [h0, vp_cell_q, vp_cell_q, arrV_cg fun j hj => by rw [hf j hj]]
    · rw [List.getElem?_set_ne (fun h => hq h.symm)] at hk
      exact w1 k x hk
  · rw [e2]
    obtain ⟨d1, d2⟩ := w2
    refine ⟨fun i j x y hx hy e => ?_, fun k x hx => ?_⟩
    · have g : ∀ {k : Nat} {x : Nat × va_E}, (S.flatten.set q (a, .inl (cA, N, .inr (.inr (.inr (.inr g))))))[k]? = some x → ∃ y, S.flatten[k]? = some y ∧ y.1 = x.1 := by
        intro k x hx
        by_cases hq : k = q
        · subst hq
          rw [List.getElem?_set_self (List.getElem?_eq_some_iff.mp e1).1] at hx
          cases hx
          exact ⟨_, e1, rfl⟩
        · rw [List.getElem?_set_ne (fun h => hq h.symm)] at hx
          exact ⟨x, hx, rfl⟩
      obtain ⟨x', hx', ex⟩ := g hx
      obtain ⟨y', hy', ey⟩ := g hy
      exact d1 i j x' y' hx' hy' (by rw [ex, ey]; exact e)
    · by_cases hq : k = q
      · subst hq
        rw [List.getElem?_set_self (List.getElem?_eq_some_iff.mp e1).1] at hx
        cases hx
        have h9 := d2 _ _ e1
        exact h9
      · rw [List.getElem?_set_ne (fun h => hq h.symm)] at hx
        exact d2 k x hx
/-- the ring of C places: ds begins at h -/
def dq (C h : Nat) (ds : List Nat) : Nat → Option Nat := fun j => ds[(j + C - h) % C]?
theorem dq_nil (C h : Nat) : dq C h [] = fun _ => none := by funext j; simp [dq]
theorem dq_at {C h k : Nat} {ds : List Nat} (hh : h < C) (hk : k < C) : dq C h ds ((h + k) % C) = ds[k]? := by
  unfold dq
  congr 1
  by_cases q : h + k < C
  · rw [Nat.mod_eq_of_lt q, show h + k + C - h = k + C by omega, Nat.add_mod_right, Nat.mod_eq_of_lt hk]
  · rw [show (h + k) % C = h + k - C by rw [Nat.mod_eq_sub_mod (by omega), Nat.mod_eq_of_lt (by omega)], show h + k - C + C - h = k by omega, Nat.mod_eq_of_lt hk]
theorem dq_ix {C h j : Nat} (hh : h < C) (hj : j < C) : (h ≤ j ∧ (j + C - h) % C = j - h) ∨ (j < h ∧ (j + C - h) % C = j + C - h) := by
  by_cases q : h ≤ j
  · left; exact ⟨q, by rw [show j + C - h = (j - h) + C by omega, Nat.add_mod_right, Nat.mod_eq_of_lt (by omega)]⟩
  · right; exact ⟨by omega, Nat.mod_eq_of_lt (by omega)⟩
theorem dq_push {C h n x : Nat} {ds : List Nat} (hh : h < C) (hn : ds.length = n) (hC : n < C) : ∀ j, j < C → va_up (dq C h ds) ((h + n) % C) (some x) j = dq C h (ds ++ [x]) j := by
  intro j hj
  unfold va_up
  by_cases q : j = (h + n) % C
  · subst q
    rw [if_pos rfl, dq_at hh hC, ← hn]; simp
  · rw [if_neg q]
    unfold dq
    have hne : (j + C - h) % C ≠ n := by
      intro e
      apply q
      rcases dq_ix hh hj with ⟨h1, h2⟩ | ⟨h1, h2⟩
      · rw [show h + n = j by omega, Nat.mod_eq_of_lt hj]
      · rw [show h + n = j + C by omega, Nat.add_mod_right, Nat.mod_eq_of_lt hj]
    rcases Nat.lt_or_ge ((j + C - h) % C) n with h1 | h1
    · rw [List.getElem?_append_left (by omega)]
    · rw [List.getElem?_eq_none (by omega), List.getElem?_eq_none (by simp; omega)]
theorem dq_pop {C h x : Nat} {ds : List Nat} (hh : h < C) (hC : ds.length + 1 ≤ C) : ∀ j, j < C → va_up (dq C h (x :: ds)) h none j = dq C ((h + 1) % C) ds j := by
  intro j hj
  unfold va_up
  have hh' : (h + 1) % C < C := Nat.mod_lt _ (by omega)
  by_cases q : j = h
  · subst q
    rw [if_pos rfl]
    unfold dq
    symm
    apply List.getElem?_eq_none
    by_cases q2 : j + 1 < C
    · rw [Nat.mod_eq_of_lt q2, Nat.mod_eq_of_lt (by omega)]; omega
    · rw [show j + 1 = C by omega, Nat.mod_self, Nat.sub_zero, Nat.add_mod_right, Nat.mod_eq_of_lt hj]; omega
  · rw [if_neg q]
    unfold dq
    have e : (j + C - h) % C = (j + C - (h + 1) % C) % C + 1 := by
      by_cases q2 : h + 1 < C
      · rw [Nat.mod_eq_of_lt q2]
        rcases dq_ix hh hj with ⟨h1, h2⟩ | ⟨h1, h2⟩ <;> rcases dq_ix q2 hj with ⟨h3, h4⟩ | ⟨h3, h4⟩ <;> omega
      · rw [show h + 1 = C by omega, Nat.mod_self, Nat.sub_zero, Nat.add_mod_right, Nat.mod_eq_of_lt hj]
        rcases dq_ix hh hj with ⟨h1, h2⟩ | ⟨h1, h2⟩ <;> omega
    rw [e]; rfl
section KM
variable {p : Program} {l : Launch} {e : Env} {R : Room} {s : State} {m : MethodId} {args : Array Value} {below : List Frame} {meth : Method} {c : Code} {H : Heap} {locs : List Loc} {cells slots : Nat} {Q : State → Prop}
variable {cc : ByteArray} {rest : List Value} {pc : Nat} {ls : Array Slot} {G : GT} {y : MethodName} {n : Nat} {ret : Option FieldType} {A : Nat → Prop} {S S' : List va_W}
/-- System.arraycopy within one array of objects -/
theorem k_copyG (C : Cx p s m args meth c G y cc n ret) (hW : Ws G A s S H locs) (i0 j0 : Nat) {seg0 : va_W} {a0 N0 k sp dp : Nat} {f : Nat → Option Nat} (hi0 : S[i0]? = some seg0) (hj0 : seg0[j0]? = some (a0, .inl (G.2.2.1 4, N0, .inr (.inr (.inr (.inr f)))))) {own : String} {index : Nat} (hl : Cond.methodLink own index arraycopyName ∈ lw_all) (ho : own = y.cls) (h0 : sp + k ≤ N0) (h1 : dp + k ≤ N0) (hk : N0 < 2 ^ 31) (hel : ∀ i, i < k → ∀ z, f (sp + i) = some z → roLv G z H) (hfr : 1 ≤ R.frames) (hlo : 29 ≤ R.locals) (hsz : ls.size = n) (hrest : rest.length ≤ 4) (d : decode cc pc = .ok (.invokestatic index, 3)) (hS : S.set i0 (seg0.set j0 (a0, .inl (G.2.2.1 4, N0, .inr (.inr (.inr (.inr (va_cpy f f sp dp k))))))) = S')
    (kk : ∀ (H : Heap) (locs : List Loc), Ws G A s S' H locs → W p l e R s m args below meth c H locs cells slots Q (F0 m (pc + 3) ls rest)) : W p l e R s m args below meth c H locs cells slots Q (F0 m pc ls (.int (nI k) :: .int (nI dp) :: .ref a0 :: .int (nI sp) :: .ref a0 :: rest)) := by
  subst ho
  obtain ⟨p0, e0, e2⟩ := seg_place hi0 hj0
  have hany : ∀ i, i < k → ∀ z, f (sp + i) = some z → va_Any "java/lang/Object" s H z := fun i hi z hz => k_any C (hel i hi z hz)
  obtain ⟨w1, w2, w3, w4, w5⟩ := hW
  have zs : (nI sp).toNatClampNeg = sp := nI_clamp (by omega)
  have zd : (nI dp).toNatClampNeg = dp := nI_clamp (by omega)
  have zk : (nI k).toNatClampNeg = k := nI_clamp (by omega)
  refine va_copyM (D := gD G) (own := y.cls) C.hx C.hb (C.hml.trans hsz.symm) C.hown (C.hts _ hl) (C.hts _ q547) (C.hts _ q546) (C.hts _ q108) C.hK w1 w2 w3 p0 p0 4 4 e0 e0 rfl rfl (nI_pos (by omega)) (nI_pos (by omega)) (nI_pos (by omega)) (by rw [zs, zk]; omega) (by rw [zd, zk]; omega) (by rw [zs, zk]; exact hany) hfr (by have := k_cat hrest; have hw : nativeFrameWords "java/lang/System" "arraycopy" 5 ≤ 10 := (by decide); omega) d (fun H locs g1 g2 g3 => kk H locs ?_)
  rw [zs, zd, zk] at g1 g2
  rw [← e2, hS] at g1 g2
  exact ⟨g1, g2, g3, w4, w5⟩
end KM
/-- the ring as it lies, when it is full -/
def rot (h : Nat) (ds : List Nat) : List Nat := ds.drop (ds.length - h) ++ ds.take (ds.length - h)
theorem rot_len {h : Nat} {ds : List Nat} : (rot h ds).length = ds.length := by unfold rot; simp
theorem rot_mem {h x : Nat} {ds : List Nat} (hx : x ∈ rot h ds) : x ∈ ds := by
  rcases List.mem_append.mp hx with q | q
  · exact List.mem_of_mem_drop q
  · exact List.mem_of_mem_take q
theorem rot_lo {h j : Nat} {ds : List Nat} (hh : h ≤ ds.length) (hj : j < h) : (rot h ds)[j]? = ds[j + ds.length - h]? := by
  unfold rot
  rw [List.getElem?_append_left (by simp; omega), List.getElem?_drop]
  congr 1; omega
theorem rot_hi {h j : Nat} {ds : List Nat} (hh : h ≤ ds.length) (hj : h ≤ j) (hj2 : j < ds.length) : (rot h ds)[j]? = ds[j - h]? := by
  unfold rot
  rw [List.getElem?_append_right (by simp; omega), List.getElem?_take_of_lt (by simp; omega)]
  congr 1; simp; omega
theorem rot_out {h j : Nat} {ds : List Nat} (hj : ds.length ≤ j) : (rot h ds)[j]? = none := List.getElem?_eq_none (by rw [rot_len]; exact hj)
theorem rot_dq {C h : Nat} {ds : List Nat} (hh : h < C) (hC : ds.length = C) : ∀ j, j < C → dq C h ds j = (fun i => (rot h ds)[i]?) j := by
  intro j hj
  subst hC
  show ds[(j + ds.length - h) % ds.length]? = (rot h ds)[j]?
  rcases dq_ix hh hj with ⟨h1, h2⟩ | ⟨h1, h2⟩
  · rw [h2, rot_hi (by omega) h1 hj]
  · rw [h2, rot_lo (by omega) h1]
/-- none from h to i -/
def nul (h i : Nat) (g : Nat → Option Nat) : Nat → Option Nat := fun j => if h ≤ j ∧ j < i then none else g j
theorem nul_0 (h : Nat) (g : Nat → Option Nat) : nul h h g = g := by funext j; exact if_neg (by omega)
theorem nul_up {h i : Nat} (hi : h ≤ i) (g : Nat → Option Nat) : va_up (nul h i g) i none = nul h (i + 1) g := by
  funext j
  unfold va_up nul
  by_cases q : j = i
  · rw [if_pos q, if_pos (by omega)]
  · rw [if_neg q]
    by_cases q2 : h ≤ j ∧ j < i
    · rw [if_pos q2, if_pos (by omega)]
    · rw [if_neg q2, if_neg (by omega)]
theorem dq_grow {C J h : Nat} {ds : List Nat} (hh : h < C) (hC : ds.length = C) : ∀ j, j < C + J → nul h (h + J) (va_cpy (fun i => (rot h ds)[i]?) (fun i => (rot h ds)[i]?) h (h + J) (C - h)) j = dq (C + J) (h + J) ds j := by
  intro j hj
  subst hC
  unfold nul va_cpy
  show _ = ds[(j + (ds.length + J) - (h + J)) % (ds.length + J)]?
  by_cases q1 : j < h
  · rw [if_neg (by omega), if_neg (by omega)]
    show (rot h ds)[j]? = _
    rw [rot_lo (by omega) q1]
    congr 1
    rw [Nat.mod_eq_of_lt (by omega)]; omega
  · by_cases q2 : j < h + J
    · rw [if_pos (by omega)]
      symm
      apply List.getElem?_eq_none
      rw [Nat.mod_eq_of_lt (by omega)]; omega
    · rw [if_neg (by omega), if_pos (by omega)]
      show (rot h ds)[h + (j - (h + J))]? = _
      rw [rot_hi (by omega) (by omega) (by omega)]
      congr 1
      rw [show j + (ds.length + J) - (h + J) = (j - (h + J)) + (ds.length + J) by omega, Nat.add_mod_right, Nat.mod_eq_of_lt (by omega)]
      omega
