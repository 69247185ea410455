/-! ===== B 1: families of cells, lists in one word ===== -/
def flat (n : Nat) (f : Nat → va_W) : va_W := (List.range n).flatMap f
def flatx (n b : Nat) (f : Nat → va_W) : va_W := ((List.range n).erase b).flatMap f
theorem flat_open {n b : Nat} (f : Nat → va_W) (hb : b < n) : (flat n f).Perm (f b ++ flatx n b f) := by
  have h := List.perm_cons_erase (List.mem_range.mpr hb)
  exact h.flatMap_right f
theorem flatx_cg {n b : Nat} {f g : Nat → va_W} (h : ∀ i, i ≠ b → f i = g i) : flatx n b f = flatx n b g := by
  unfold flatx
  have : ∀ L : List Nat, (∀ i ∈ L, i ≠ b) → L.flatMap f = L.flatMap g := by
    intro L
    induction L with
    | nil => intro _; rfl
    | cons a t ih =>
      intro hL
      rw [List.flatMap_cons, List.flatMap_cons, h a (hL a List.mem_cons_self), ih (fun i hi => hL i (List.mem_cons_of_mem _ hi))]
  exact this _ (fun i hi => (List.Nodup.mem_erase_iff List.nodup_range).mp hi |>.1)
theorem flat_cg {n : Nat} {f g : Nat → va_W} (h : ∀ i, i < n → f i = g i) : flat n f = flat n g := by
  unfold flat
  have : ∀ L : List Nat, (∀ i ∈ L, i < n) → L.flatMap f = L.flatMap g := by
    intro L
    induction L with
    | nil => intro _; rfl
    | cons a t ih =>
      intro hL
      rw [List.flatMap_cons, List.flatMap_cons, h a (hL a List.mem_cons_self), ih (fun i hi => hL i (List.mem_cons_of_mem _ hi))]
  exact this _ (fun i hi => List.mem_range.mp hi)
theorem flat_succ (n : Nat) (f : Nat → va_W) : flat (n + 1) f = flat n f ++ f n := by
  unfold flat
  rw [List.range_succ, List.flatMap_append]
  simp
theorem flat_mem {n b : Nat} {f : Nat → va_W} {x : Nat × va_E} (hb : b < n) (hx : x ∈ f b) : x ∈ flat n f := List.mem_flatMap.mpr ⟨b, List.mem_range.mpr hb, hx⟩
theorem flatx_mem {n b i : Nat} {f : Nat → va_W} {x : Nat × va_E} (hi : i < n) (hne : i ≠ b) (hx : x ∈ f i) : x ∈ flatx n b f := List.mem_flatMap.mpr ⟨i, (List.Nodup.mem_erase_iff List.nodup_range).mpr ⟨hne, List.mem_range.mpr hi⟩, hx⟩
theorem erase_perm {S : List va_W} {j : Nat} {seg : va_W} (h : S[j]? = some seg) : S.flatten.Perm (seg ++ (S.eraseIdx j).flatten) := by
  induction S generalizing j with
  | nil => cases h
  | cons a t ih =>
    cases j with
    | zero =>
      cases h
      exact List.Perm.refl _
    | succ j =>
      rw [List.eraseIdx_cons_succ, List.flatten_cons, List.flatten_cons]
      refine ((ih h).append_left a).trans ?_
      rw [← List.append_assoc, ← List.append_assoc]
      exact List.perm_append_comm.append_right _
theorem set_perm {S : List va_W} {i : Nat} {x y z : va_W} (h : S[i]? = some x) (hp : x.Perm (y ++ z)) : S.flatten.Perm ((S.set i y).flatten ++ z) := by
  induction S generalizing i with
  | nil => cases h
  | cons a t ih =>
    cases i with
    | zero =>
      cases h
      rw [List.set_cons_zero, List.flatten_cons, List.flatten_cons, List.append_assoc]
      refine (hp.append_right _).trans ?_
      rw [List.append_assoc]
      exact List.perm_append_comm.append_left _
    | succ i =>
      rw [List.set_cons_succ, List.flatten_cons, List.flatten_cons, List.append_assoc]
      exact (ih h).append_left a
/-- one member's cells out of a family -/
theorem Ws.opn {G : GT} {A : Nat → Prop} {s : State} {S S' : List va_W} {H : Heap} {locs : List Loc} (h : Ws G A s S H locs) (i : Nat) {n b : Nat} {f : Nat → va_W} (hi : S[i]? = some (flat n f)) (hb : b < n) (hS : S.set i (flatx n b f) ++ [f b] = S') : Ws G A s S' H locs := by
  subst hS
  refine h.perm ?_
  rw [List.flatten_append, List.flatten_cons, List.flatten_nil, List.append_nil]
  exact set_perm hi ((flat_open f hb).trans List.perm_append_comm)
/-- and back -/
theorem Ws.cls {G : GT} {A : Nat → Prop} {s : State} {S S' : List va_W} {H : Heap} {locs : List Loc} (h : Ws G A s S H locs) (i j : Nat) {n b : Nat} {f : Nat → va_W} (g : Nat → va_W) {x : va_W} (hi : S[i]? = some (flatx n b f)) (hj : S[j]? = some x) (hij : i < j) (hb : b < n) (hfg : ∀ t, t ≠ b → f t = g t) (hx : x = g b) (hS : (S.eraseIdx j).set i (flat n g) = S') : Ws G A s S' H locs := by
  subst hS hx
  refine h.perm ?_
  have h1 := erase_perm hj
  have hi' : (S.eraseIdx j)[i]? = some (flatx n b f) := by rw [List.getElem?_eraseIdx_of_lt hij]; exact hi
  refine h1.trans (List.perm_append_comm.trans ?_)
  have h2 : (((S.eraseIdx j).set i (flat n g)).set i (flatx n b f)) = S.eraseIdx j := by
    rw [List.set_set]
    apply List.ext_getElem?
    intro t
    rw [List.getElem?_set]
    split
    · next e =>
      subst e
      rw [if_pos (List.getElem?_eq_some_iff.mp hi').1, hi']
    · rfl
  have h3 := set_perm (S := (S.eraseIdx j).set i (flat n g)) (i := i) (x := flat n g) (y := flatx n b f) (z := g b) (by rw [List.getElem?_set_self]; exact (List.getElem?_eq_some_iff.mp hi').1) (by rw [flatx_cg hfg]; exact (flat_open g hb).trans List.perm_append_comm)
  rw [h2] at h3
  exact h3.symm
def llHd (a : Nat) (md : Int32) (k : Nat) (ns : List (Nat × Nat)) : Nat × va_E := (a, .inr (14, [.int md, .int (nI k), vr (hdo ns none), vr (lst ns none)]))
theorem llK_eq (a : Nat) (md : Int32) (k : Nat) (ns : List (Nat × Nat)) : llK a md k ns = llHd a md k ns :: llG none ns none := rfl
theorem llK_hd (a : Nat) (md : Int32) (k : Nat) (ns : List (Nat × Nat)) : llHd a md k ns ∈ llK a md k ns := List.mem_cons_self
theorem llK_nd (a : Nat) (md : Int32) (k : Nat) (i t : List (Nat × Nat)) (n x : Nat) : (n, .inr (19, [.ref x, vr (hdo t none), vr (lst i none)])) ∈ llK a md k (i ++ (n, x) :: t) := List.mem_cons_of_mem _ (llG_mem i t n x none none)
/-- an ArrayList: its object and its array (none while the capacity is 0) -/
def aHd (G : GT) (a q cap : Nat) (md : Int32) (k : Nat) : Nat × va_E := (a, .inr (10, [.int md, .ref (if cap = 0 then G.2.2.2 2 else q), .int (nI k)]))
def aAr (G : GT) (q cap : Nat) (xs : List Nat) : va_W := if cap = 0 then [] else [(q, .inl (G.2.2.1 4, cap, .inr (.inr (.inr (.inr (fun i => xs[i]?))))))]
def alW (G : GT) (a q cap : Nat) (md : Int32) (k : Nat) (xs : List Nat) : va_W := aHd G a q cap md k :: aAr G q cap xs
def capS (cap k : Nat) : Nat := if cap = 0 then 10 else if k = cap then cap + cap / 2 else cap
def gC (cap k : Nat) : Nat := if cap = 0 then 10 else if k = cap then cap + cap / 2 else 0
theorem alW_hd (G : GT) (a q cap : Nat) (md : Int32) (k : Nat) (xs : List Nat) : aHd G a q cap md k ∈ alW G a q cap md k xs := List.mem_cons_self
theorem alW_h1 {G : GT} {a q cap : Nat} {md : Int32} {k : Nat} {xs : List Nat} (hc : cap ≠ 0) : (a, .inr (10, [.int md, .ref q, .int (nI k)])) ∈ alW G a q cap md k xs := by
  unfold alW aHd
  rw [if_neg hc]
  exact List.mem_cons_self
theorem alW_ar {G : GT} {a q cap : Nat} {md : Int32} {k : Nat} {xs : List Nat} (hc : cap ≠ 0) : (q, .inl (G.2.2.1 4, cap, .inr (.inr (.inr (.inr (fun i => xs[i]?)))))) ∈ alW G a q cap md k xs := by
  unfold alW aAr
  rw [if_neg hc]
  exact List.mem_cons_of_mem _ List.mem_cons_self
/-- a list with room as ArrayList keeps it -/
def aOk (cap : Nat) (xs : List Nat) : Prop := xs.length ≤ cap ∧ (cap = 0 ∨ 10 ≤ cap) ∧ cap < 2 ^ 24
theorem aOk.cap0 {cap : Nat} {xs : List Nat} (h : aOk cap xs) (hx : 0 < xs.length) : cap ≠ 0 := by
  have := h.1
  omega
theorem room_le {s : State} {pl : Platform} {fr lo mc ms fr' lo' mc' ms' : Nat} (h1 : mc ≤ mc') (h2 : ms ≤ ms') (h3 : fr ≤ fr') (h4 : lo ≤ lo') (h : s.hasRoom pl { frames := fr', cells := mc', slots := ms', locals := lo' } = true) : s.hasRoom pl { frames := fr, cells := mc, slots := ms, locals := lo } = true := by
  unfold State.hasRoom at h ⊢
  simp only [Bool.and_eq_true, decide_eq_true_eq] at h ⊢
  obtain ⟨⟨⟨⟨a1, a2, a3, a4, a5, a6⟩, a7⟩, a8⟩, a9⟩ := h
  exact ⟨⟨⟨⟨by omega, by omega, by omega, by omega, by omega, a6⟩, by omega⟩, by omega⟩, a9⟩
/-- a contract with more room -/
theorem Ct.wide {l : Launch} {G : GT} {y : MethodName} {b : ByteArray} {n : Nat} {ret : Option FieldType} {fr lo mc ms fr' lo' mc' ms' : Nat} {av : List Value} {S : List va_W} {Rp : roI → Prop} {Qp : Option Value → List va_W → Prop} (h1 : mc ≤ mc') (h2 : ms ≤ ms') (h3 : fr ≤ fr') (h4 : lo ≤ lo') (h : Ct l G y b n ret fr lo mc ms av S Rp Qp) : Ct l G y b n ret fr' lo' mc' ms' av S Rp Qp := by
  intro sz p e ha hc hk s m args below hf happ hP hK
  have happ' : (headSpec (ws_ y b n ret) { frames := fr, cells := mc, slots := ms, locals := lo }).appliesLoose y e.platform s = true := by
    rw [Spec.appliesLoose_iff hf] at happ ⊢
    obtain ⟨a1, a2, a3, a4, a5, a6, a7, a8⟩ := happ
    exact ⟨a1, a2, a3, a4, a5, a6, room_le h1 h2 h3 h4 a7, a8⟩
  obtain ⟨k, o, g1, g2, g3, hQ, L, hL1, hL2⟩ := h sz p e ha hc hk s m args below hf happ' hP hK
  refine ⟨k, o, g1, g2, g3, hQ, L, ?_, hL2⟩
  obtain ⟨q1, q2, q3⟩ := hL1
  exact ⟨q1, q2, q3.mono h1 h2⟩
theorem cL_add (l : Launch) (G : GT) (a e0 k : Nat) (md : Int32) (ns : List (Nat × Nat)) (hk : ns.length = k) : Ct l G yJ8_addLast cJ8_addLast 2 none 9 250 1 3 [.ref a, .ref e0] [llK a md k ns] noR (fun v S1 => v = none ∧ ∃ q, S1 = [llK a (md + 1) (k + 1) (ns ++ [(q, e0)])]) := by
  rcases nil_snoc ns with rfl | ⟨i, ⟨n, x⟩, rfl⟩
  · subst hk
    refine Ct.wide (Nat.le_refl _) (Nat.le_refl _) (by decide) (by decide) <| Ct.fr (Sr := []) (ctJ8_addLast_0 l G a e0 md) (wperm (fun d x => by simp [llK, llG_app, llG_cons, llG_nil, hdo_nil, hdo_cons, lst_nil, lst_cons, hdo_app, lst_app, vr_n, vr_s, List.count_append, List.count_cons, List.count_nil, List.flatten_append, List.flatten_cons, List.flatten_nil, List.length_nil, List.length_cons, Nat.zero_add]; try omega)) (fun _ h => h.elim) (fun v S1 hq => ?_)
    obtain ⟨h1, q, rfl⟩ := hq
    exact ⟨_, ⟨h1, q, rfl⟩, wperm (fun d x => by simp [llK, llG_app, llG_cons, llG_nil, hdo_nil, hdo_cons, lst_nil, lst_cons, hdo_app, lst_app, vr_n, vr_s, List.count_append, List.count_cons, List.count_nil, List.flatten_append, List.flatten_cons, List.flatten_nil, List.length_nil, List.length_cons, Nat.zero_add]; try omega)⟩
  · refine Ct.wide (Nat.le_refl _) (Nat.le_refl _) (by decide) (by decide) <| Ct.fr (Sr := [llG none i (some n)]) (ctJ8_addLast_1 l G a e0 n x k md (hdo (i ++ [(n, x)]) none) (lst i none)) (wperm (fun d x => by simp [llK, llG_app, llG_cons, llG_nil, hdo_nil, hdo_cons, lst_nil, lst_cons, hdo_app, lst_app, vr_n, vr_s, List.count_append, List.count_cons, List.count_nil, List.flatten_append, List.flatten_cons, List.flatten_nil, List.length_nil, List.length_cons, Nat.zero_add]; try omega)) (fun _ h => h.elim) (fun v S1 hq => ?_)
    obtain ⟨h1, q, rfl⟩ := hq
    exact ⟨_, ⟨h1, q, rfl⟩, wperm (fun d x => by simp [llK, llG_app, llG_cons, llG_nil, hdo_nil, hdo_cons, lst_nil, lst_cons, hdo_app, lst_app, vr_n, vr_s, List.count_append, List.count_cons, List.count_nil, List.flatten_append, List.flatten_cons, List.flatten_nil, List.length_nil, List.length_cons, Nat.zero_add]; try omega)⟩
theorem cL_poll (l : Launch) (G : GT) (a n x k : Nat) (md : Int32) (t : List (Nat × Nat)) (hk : t.length = k) : Ct l G yJ8_pollFirst cJ8_pollFirst 2 (some (.object "java/lang/Object")) 9 250 0 0 [.ref a] [llK a md (k + 1) ((n, x) :: t)] noR (fun v S1 => v = some (.ref x) ∧ S1 = [llK a (md + 1) k t]) := by
  rcases t with _ | ⟨⟨m1, y1⟩, t0⟩
  · subst hk
    refine Ct.wide (Nat.le_refl _) (Nat.le_refl _) (by decide) (by decide) <| Ct.fr (Sr := []) (ctJ8_pollFirst_0 l G a n x md) (wperm (fun d x => by simp [llK, llG_app, llG_cons, llG_nil, hdo_nil, hdo_cons, lst_nil, lst_cons, hdo_app, lst_app, vr_n, vr_s, List.count_append, List.count_cons, List.count_nil, List.flatten_append, List.flatten_cons, List.flatten_nil, List.length_nil, List.length_cons, Nat.zero_add]; try omega)) (fun _ h => h.elim) (fun v S1 hq => ?_)
    obtain ⟨h1, rfl⟩ := hq
    exact ⟨_, ⟨h1, rfl⟩, wperm (fun d x => by simp [llK, llG_app, llG_cons, llG_nil, hdo_nil, hdo_cons, lst_nil, lst_cons, hdo_app, lst_app, vr_n, vr_s, List.count_append, List.count_cons, List.count_nil, List.flatten_append, List.flatten_cons, List.flatten_nil, List.length_nil, List.length_cons, Nat.zero_add]; try omega)⟩
  · refine Ct.wide (Nat.le_refl _) (Nat.le_refl _) (by decide) (by decide) <| Ct.fr (Sr := [llG (some m1) t0 none]) (ctJ8_pollFirst_1 l G a n x m1 y1 k md (lst t0 (some m1)) (hdo t0 none)) (wperm (fun d x => by simp [llK, llG_app, llG_cons, llG_nil, hdo_nil, hdo_cons, lst_nil, lst_cons, hdo_app, lst_app, vr_n, vr_s, List.count_append, List.count_cons, List.count_nil, List.flatten_append, List.flatten_cons, List.flatten_nil, List.length_nil, List.length_cons, Nat.zero_add]; try omega)) (fun _ h => h.elim) (fun v S1 hq => ?_)
    obtain ⟨h1, rfl⟩ := hq
    exact ⟨_, ⟨h1, rfl⟩, wperm (fun d x => by simp [llK, llG_app, llG_cons, llG_nil, hdo_nil, hdo_cons, lst_nil, lst_cons, hdo_app, lst_app, vr_n, vr_s, List.count_append, List.count_cons, List.count_nil, List.flatten_append, List.flatten_cons, List.flatten_nil, List.length_nil, List.length_cons, Nat.zero_add]; try omega)⟩
theorem cL_poll0 (l : Launch) (G : GT) (a : Nat) (md : Int32) : Ct l G yJ8_pollFirst cJ8_pollFirst 2 (some (.object "java/lang/Object")) 0 0 0 0 [.ref a] [llK a md 0 []] noR (fun v S1 => v = some .null ∧ S1 = [llK a md 0 []]) := ctJ8_pollFirst_n l G a md
theorem lst_some (t : List (Nat × Nat)) (n : Nat) : ∃ l0, lst t (some n) = some l0 := by
  induction t generalizing n with
  | nil => exact ⟨n, rfl⟩
  | cons z t ih => exact ih z.1
theorem cL_iter (l : Launch) (G : GT) (a k : Nat) (md : Int32) (ns : List (Nat × Nat)) (hk : ns.length = k) (hb : k < 2 ^ 30) : Ct l G yJ7_iterator cJ7_iterator 1 (some (.object "java/util/Iterator")) 9 250 1 5 [.ref a] [] (fun z => z = .inl (llHd a md k ns)) (fun v S1 => ∃ q0, v = some (.ref q0) ∧ S1 = [[(q0, .inr (22, [.null, vr (hdo ns none), .int (nI 0), .int md, .ref a]))]]) := by
  subst hk
  rcases ns with _ | ⟨⟨n, x⟩, t⟩
  · exact Ct.wide (Nat.le_refl _) (Nat.le_refl _) (by decide) (by decide) (ctJ7_iterator_0 l G a md)
  · obtain ⟨l0, hl0⟩ := lst_some t n
    have h := ctJ7_iterator_1 l G a t.length n l0 md (by simp at hb; omega) (fun h0 => by
      have : t = [] := List.eq_nil_of_length_eq_zero h0
      subst this
      exact (Option.some.inj hl0).symm)
    have e : (fun z : roI => z = .inl (llHd a md ((n, x) :: t).length ((n, x) :: t))) = fun z => z = .inl (a, .inr (14, [.int md, .int (nI (t.length + 1)), .ref n, .ref l0])) := by
      unfold llHd
      rw [lst_cons, hl0]
      rfl
    rw [e]
    exact Ct.wide (Nat.le_refl _) (Nat.le_refl _) (by decide) (by decide) h
theorem cL_rem (l : Launch) (G : GT) (a n o0 k : Nat) (md : Int32) (i t : List (Nat × Nat)) (fs : List Value) (hk : k < 2 ^ 30) (hlen : i.length + t.length = k) (ho : ∀ z ∈ i, z.2 ≠ o0) : Ct l G yJ8_remove cJ8_remove 3 (some .boolean) 9 250 0 0 [.ref a, .ref o0] [llK a md (k + 1) (i ++ (n, o0) :: t)] (fun z => z = .inl (o0, .inr (4, fs))) (fun v S1 => v = some (.int (nI 1)) ∧ S1 = [llK a (md + 1) k (i ++ t)]) := by
  obtain ⟨l0, hl0⟩ := lst_some t n
  obtain ⟨f0, hf⟩ : ∃ f0, hdo i (some n) = some f0 := by
    cases i with
    | nil => exact ⟨n, rfl⟩
    | cons z i => exact ⟨z.1, rfl⟩
  refine Ct.wide (Nat.le_refl _) (Nat.le_refl _) (by decide) (by decide) <| Ct.fr (Sr := []) (ctJ8_remove l G a n o0 f0 l0 k md i t fs hk hlen hf hl0 ho) ?_ (fun _ h => Or.inl h) (fun v S1 hq => ?_)
  · refine wperm (fun d x => ?_)
    simp only [llK, hdo_app, hdo_cons, lst_app, lst_cons, hf, hl0, vr_s, List.count_append, List.count_cons, List.count_nil, List.flatten_append, List.flatten_cons, List.flatten_nil]
    omega
  · exact ⟨_, ⟨hq.1, rfl⟩, by simpa using hq.2⟩
theorem cA_add (l : Launch) (G : GT) (a q cap e0 k : Nat) (md : Int32) (xs : List Nat) (hk : xs.length = k) (h : aOk cap xs) : Ct l G yJ2_add cJ2_add 2 (some .boolean) 9 250 1 (gC cap k) [.ref a, .ref e0] [alW G a q cap md k xs] (fun z => ∃ x ∈ e0 :: xs, z = .inr x) (fun v S1 => v = some (.int (nI 1)) ∧ ∃ q2, S1 = [alW G a q2 (capS cap k) (md + 1) (k + 1) (xs ++ [e0])]) := by
  obtain ⟨h1, h2, h3⟩ := h
  subst hk
  unfold gC capS
  by_cases hc : cap = 0
  · have hx : xs = [] := List.eq_nil_of_length_eq_zero (by omega)
    subst hx hc
    simp only [if_true]
    refine Ct.wide (Nat.le_refl _) (Nat.le_refl _) (by decide) (by decide) <| Ct.fr (Sr := []) (ctJ2_add_e l G a e0 md) (List.Perm.refl _) (fun z hz => Or.inl ⟨e0, List.mem_cons_self, hz⟩) (fun v S1 hq => ?_)
    obtain ⟨g1, q2, rfl⟩ := hq
    exact ⟨_, ⟨g1, q2, rfl⟩, List.Perm.refl _⟩
  · simp only [if_neg hc]
    by_cases hf : xs.length = cap
    · simp only [if_pos hf]
      have h9 := ctJ2_add_g l G a q xs.length e0 md xs rfl (by omega) (by omega)
      rw [hf] at h9
      refine Ct.wide (Nat.le_refl _) (Nat.le_refl _) (by decide) (by decide) <| Ct.fr (Sr := []) h9 ?_ (fun z hz => Or.inl hz) (fun v S1 hq => ?_)
      · unfold alW aHd aAr
        rw [if_neg hc, if_neg hc, hf]
        exact List.Perm.refl _
      · obtain ⟨g1, q2, rfl⟩ := hq
        refine ⟨_, ⟨g1, q2, rfl⟩, ?_⟩
        unfold alW aHd aAr
        rw [if_neg (by omega), if_neg (by omega), hf]
        exact List.Perm.refl _
    · simp only [if_neg hf]
      refine Ct.wide (Nat.zero_le _) (Nat.zero_le _) (by decide) (by decide) (Ct.fr (Sr := []) (ctJ2_add_r l G a q xs.length cap e0 md xs rfl (by omega) (by omega)) ?_ (fun z hz => Or.inl ⟨e0, List.mem_cons_self, hz⟩) (fun v S1 hq => ?_))
      · unfold alW aHd aAr
        rw [if_neg hc, if_neg hc]
        exact List.Perm.refl _
      · obtain ⟨g1, rfl⟩ := hq
        refine ⟨_, ⟨g1, q, rfl⟩, ?_⟩
        unfold alW aHd aAr
        rw [if_neg hc, if_neg hc]
        exact List.Perm.refl _
