/-! ===== JDK 6: TreeMap: what the turns keep; the least key's place ===== -/
def recol (x : TN) (c : Bool) : TN := (x.1, x.2.1, x.2.2.1, x.2.2.2.1, c)
/-- a node without its colour -/
def nk (x : TN) : Nat × Nat × Nat × Nat := (x.1, x.2.1, x.2.2.1, x.2.2.2.1)
theorem nk_recol (x : TN) (c : Bool) : nk (recol x c) = nk x := rfl
def ink (t : TT) : List (Nat × Nat × Nat × Nat) := (inord t).map nk
theorem ink_leaf : ink .leaf = [] := rfl
theorem ink_nd (z : Nat) (x : TN) (u : Unit) (l r : TT) : ink (.inner z x u l r) = ink l ++ nk x :: ink r := by simp [ink, inord]
theorem ink_plug (cx : List TF) (t : TT) : ink (plug cx t) = (ctxL cx).map nk ++ (ink t ++ (ctxR cx).map nk) := by
  simp [ink, inord_plug]
theorem ink_cg {cx : List TF} {t t' : TT} (h : ink t = ink t') : ink (plug cx t) = ink (plug cx t') := by rw [ink_plug, ink_plug, h]
theorem tad_n : tad .leaf = none := rfl
theorem tad_i (z : Nat) (x : TN) (u : Unit) (l r : TT) : tad (.inner z x u l r) = some x.1 := rfl
theorem pa_n : pa [] = none := rfl
theorem pa_c (dd : Bool) (z : Nat) (x : TN) (o : TT) (cx : List TF) : pa ((dd, z, x, o) :: cx) = some x.1 := rfl
theorem plug_ct (d : DecidableEq (Nat × va_E)) (y : Nat × va_E) (cx : List TF) (t : TT) : List.count y (tw none (plug cx t)) = List.count y (cw cx (tad t)) + List.count y (tw (pa cx) t) := by
  rw [List.perm_iff_count.mp (plug_tw cx t) y, List.count_append]
theorem sib_ne {dd : Bool} {z z1 : Nat} {g a : TN} {o l r : TT} {u : Unit} {cx : List TF} (h : (tw none (plug ((dd, z, g, o) :: cx) (.inner z1 a u l r))).Pairwise apartR) : tad o ≠ some a.1 := by
  have h1 := ((plug_tw ((dd, z, g, o) :: cx) (.inner z1 a u l r)).pairwise_iff (fun {x y} (hxy : apartR x y) => Ne.symm hxy)).mp h
  obtain ⟨-, -, h2⟩ := List.pairwise_append.mp h1
  cases o with
  | leaf => intro q; cases q
  | inner z2 y u2 l2 r2 =>
    intro q
    have q : y.1 = a.1 := Option.some.inj q
    cases dd with
    | true => exact h2 _ (List.mem_cons_of_mem _ (List.mem_append_left _ List.mem_cons_self)) _ List.mem_cons_self q
    | false => exact h2 _ (List.mem_cons_of_mem _ (List.mem_append_left _ List.mem_cons_self)) _ List.mem_cons_self q
theorem par_ne {dd : Bool} {z z1 : Nat} {g a : TN} {o l r : TT} {u : Unit} {cx : List TF} (h : (tw none (plug ((dd, z, g, o) :: cx) (.inner z1 a u l r))).Pairwise apartR) : g.1 ≠ a.1 := by
  have h1 := ((plug_tw ((dd, z, g, o) :: cx) (.inner z1 a u l r)).pairwise_iff (fun {x y} (hxy : apartR x y) => Ne.symm hxy)).mp h
  obtain ⟨-, -, h2⟩ := List.pairwise_append.mp h1
  cases dd with
  | true => exact h2 _ List.mem_cons_self _ List.mem_cons_self
  | false => exact h2 _ List.mem_cons_self _ List.mem_cons_self
theorem kid_neL {z z1 z2 : Nat} {g a b : TN} {l1 r1 l2 r2 : TT} {u u1 u2 : Unit} {cx : List TF} (h : (tw none (plug cx (.inner z g u (.inner z1 a u1 l1 r1) (.inner z2 b u2 l2 r2)))).Pairwise apartR) : a.1 ≠ b.1 := by
  have h1 := ((plug_tw cx _).pairwise_iff (fun {x y} (hxy : apartR x y) => Ne.symm hxy)).mp h
  obtain ⟨-, h2, -⟩ := List.pairwise_append.mp h1
  have h3 := (List.pairwise_cons.mp h2).2
  obtain ⟨-, -, h4⟩ := List.pairwise_append.mp h3
  exact h4 _ List.mem_cons_self _ List.mem_cons_self
/-- the cells of one segment are apart -/
theorem Ws.apart {G : GT} {A : Nat → Prop} {s : State} {S : List va_W} {H : Heap} {locs : List Loc} (h : Ws G A s S H locs) (i : Nat) {seg : va_W} (hi : S[i]? = some seg) : seg.Pairwise apartR :=
  (List.pairwise_flatten.mp (va_D_pw.mp h.2.1).1).1 _ (List.mem_of_getElem? hi)
/-- a context of left steps alone -/
def allL : List TF → Prop
  | [] => True
  | (dd, _, _, _) :: cx => dd = true ∧ allL cx
theorem plug_app (cx cy : List TF) (t : TT) : plug (cx ++ cy) t = plug cy (plug cx t) := by
  induction cx generalizing t with
  | nil => rfl
  | cons f cx ih =>
    obtain ⟨dd, z, x, o⟩ := f
    cases dd <;> exact ih _
theorem allL_app {cx cy : List TF} (h1 : allL cx) (h2 : allL cy) : allL (cx ++ cy) := by
  induction cx with
  | nil => exact h2
  | cons f cx ih => exact ⟨h1.1, ih h1.2⟩
theorem allL_left {cx cy : List TF} (h : allL (cx ++ cy)) : allL cx := by
  induction cx with
  | nil => trivial
  | cons f cx ih => exact ⟨h.1, ih h.2⟩
/-- the node p (but for its colour) with the subtrees lp, rp stands at the left edge -/
def Sp (p : TN) (lp rp : TT) (X : TT) : Prop := ∃ (cy : List TF) (z : Nat) (p' : TN), allL cy ∧ nk p' = nk p ∧ X = plug cy (.inner z p' () lp rp)
theorem Sp_self {p : TN} {lp rp : TT} (z : Nat) (p' : TN) (h : nk p' = nk p) : Sp p lp rp (.inner z p' () lp rp) := ⟨[], z, p', trivial, h, rfl⟩
theorem Sp_up {p : TN} {lp rp X : TT} (h : Sp p lp rp X) (z : Nat) (y : TN) (r : TT) : Sp p lp rp (.inner z y () X r) := by
  obtain ⟨cy, z1, p', h1, h2, rfl⟩ := h
  exact ⟨cy ++ [(true, z, y, r)], z1, p', allL_app h1 ⟨rfl, trivial⟩, h2, by rw [plug_app]; rfl⟩
theorem Sp_plug {p : TN} {lp rp X : TT} (h : Sp p lp rp X) {cx : List TF} (hc : allL cx) : Sp p lp rp (plug cx X) := by
  obtain ⟨cy, z1, p', h1, h2, rfl⟩ := h
  exact ⟨cy ++ cx, z1, p', allL_app h1 hc, h2, by rw [plug_app]⟩
theorem Sp_recol {p : TN} {lp rp l r : TT} {z : Nat} {x : TN} {u : Unit} (h : Sp p lp rp (.inner z x u l r)) (c : Bool) : Sp p lp rp (.inner z (recol x c) u l r) := by
  obtain ⟨cy, z1, p', h1, h2, h3⟩ := h
  rcases nil_snoc cy with rfl | ⟨c0, ⟨dd, zz, y, o⟩, rfl⟩
  · cases h3
    exact ⟨[], z, recol x c, trivial, h2, rfl⟩
  · rw [plug_app] at h3
    have hd : dd = true := by
      clear h3 h2
      induction c0 with
      | nil => exact h1.1
      | cons f c0 ih => exact ih h1.2
    subst hd
    have h3 : Std.DTreeMap.Internal.Impl.inner z x u l r = .inner zz y () (plug c0 (.inner z1 p' () lp rp)) o := h3
    cases h3
    exact ⟨c0 ++ [(true, z, recol x c, r)], z1, p', allL_app (allL_left h1) ⟨rfl, trivial⟩, h2, by rw [plug_app]; rfl⟩
theorem plug_node (cx : List TF) (z : Nat) (x : TN) (u : Unit) (l r : TT) : ∃ z0 x0 l0 r0, plug cx (.inner z x u l r) = .inner z0 x0 () l0 r0 := by
  induction cx generalizing z x l r with
  | nil => exact ⟨_, _, _, _, rfl⟩
  | cons f cx ih =>
    obtain ⟨dd, zz, y, o⟩ := f
    cases dd
    · exact ih _ _ _ _
    · exact ih _ _ _ _
theorem first_spine : ∀ (T : TT) {x : TN} {B : List TN}, inord T = x :: B → ∃ cx z r, allL cx ∧ T = plug cx (.inner z x () .leaf r)
  | .leaf, x, B, h => by cases h
  | .inner z y u .leaf r, x, B, h => by
    have h : y :: inord r = x :: B := h
    cases h
    exact ⟨[], _, _, trivial, rfl⟩
  | .inner z y u (.inner z2 y2 u2 l2 r2) r, x, B, h => by
    have h : inord (.inner z2 y2 u2 l2 r2) ++ y :: inord r = x :: B := h
    have hne : inord (.inner z2 y2 u2 l2 r2) ≠ [] := by simp [inord]
    obtain ⟨x1, B1, h1⟩ := List.exists_cons_of_ne_nil hne
    rw [h1] at h
    have hx : x1 = x := (List.cons.inj h).1
    subst hx
    obtain ⟨cx, z3, r3, h2, h3⟩ := first_spine (.inner z2 y2 u2 l2 r2) h1
    exact ⟨cx ++ [(true, z, y, r)], z3, r3, allL_app h2 ⟨rfl, trivial⟩, by rw [plug_app, ← h3]; rfl⟩
theorem tfind_none {T : TT} {i : Nat} (h : ∀ x ∈ inord T, x.2.2.1 ≠ i) : tfind T i = none := by
  cases e : tfind T i with
  | none => rfl
  | some x => obtain ⟨h0, h1, -⟩ := tfind_cell none T i x e; exact absurd h0 (h x h1)
abbrev srt (L : List TN) : Prop := L.Pairwise (fun a b => a.2.2.1 < b.2.2.1)
theorem tfind_some : ∀ {T : TT} {x : TN}, srt (inord T) → x ∈ inord T → tfind T x.2.2.1 = some x
  | .leaf, x, _, h => by cases h
  | .inner z y u l r, x, hs, h => by
    have hs : srt (inord l ++ y :: inord r) := hs
    have h : x ∈ inord l ++ y :: inord r := h
    obtain ⟨s1, s2, s3⟩ := List.pairwise_append.mp hs
    obtain ⟨s4, s5⟩ := List.pairwise_cons.mp s2
    show (if x.2.2.1 < y.2.2.1 then tfind l x.2.2.1 else if x.2.2.1 = y.2.2.1 then some y else tfind r x.2.2.1) = some x
    rcases List.mem_append.mp h with h | h
    · have := s3 x h y List.mem_cons_self
      rw [if_pos this]
      exact tfind_some s1 h
    · rcases List.mem_cons.mp h with rfl | h
      · rw [if_neg (Nat.lt_irrefl _), if_pos rfl]
      · have := s4 x h
        rw [if_neg (by omega), if_neg (by omega)]
        exact tfind_some s5 h
theorem ink_srt {L L' : List TN} (h : L.map nk = L'.map nk) (hs : srt L) : srt L' := by
  have key : ∀ M : List TN, srt M ↔ (M.map nk).Pairwise (fun a b => a.2.2.1 < b.2.2.1) := fun M => by
    rw [List.pairwise_map]; rfl
  rw [key] at hs ⊢
  rwa [← h]
theorem tcol_f : tcol false = 0 := rfl
theorem tcol_t : tcol true = 1 := rfl
theorem tcol_z {c : Bool} (h : tcol c = 0) : c = false := by cases c with
  | false => rfl
  | true => cases h
theorem tcol_o {c : Bool} (h : ¬ tcol c = 0) : c = true := by cases c with
  | false => exact absurd rfl h
  | true => rfl
theorem rootA_some (cx : List TF) (a : Nat) : ∃ r, rootA cx (some a) = some r := by
  induction cx generalizing a with
  | nil => exact ⟨a, rfl⟩
  | cons f cx ih =>
    obtain ⟨dd, z, x, o⟩ := f
    cases dd <;> exact ih _
/-- what falls in the loop behind an insertion -/
def mu : List TF → Nat
  | [] => 0
  | (_, _, x, _) :: c => if x.2.2.2.2 = false then c.length + 1 else 0
theorem mu_c (dd : Bool) (z : Nat) (x : TN) (o : TT) (c : List TF) : mu ((dd, z, x, o) :: c) = if x.2.2.2.2 = false then c.length + 1 else 0 := rfl
theorem mu_le (cx : List TF) : mu cx ≤ cx.length := by
  cases cx with
  | nil => exact Nat.le_refl _
  | cons f c =>
    obtain ⟨dd, z, x, o⟩ := f
    simp only [mu, List.length_cons]
    split <;> omega
theorem root_of {cx : List TF} {t : TT} {a z0 : Nat} {x0 : TN} {l0 r0 : TT} {u0 : Unit} (ha : tad t = some a) (h : plug cx t = .inner z0 x0 u0 l0 r0) : rootA cx (some a) = some x0.1 := by
  rw [← ha, ← plug_ad, h]
  rfl
/-- what falls in the loop behind a removal -/
def mud : List TF → TN → Nat
  | [], _ => 0
  | _ :: c, x => if x.2.2.2.2 = true then c.length + 1 else 0
theorem mud_le (cx : List TF) (x : TN) : mud cx x ≤ cx.length := by
  cases cx with
  | nil => exact Nat.le_refl _
  | cons f c =>
    simp only [mud, List.length_cons]
    split <;> omega
theorem ctxL_allL {cx : List TF} (h : allL cx) : ctxL cx = [] := by
  induction cx with
  | nil => rfl
  | cons f cx ih =>
    obtain ⟨dd, z, x, o⟩ := f
    obtain ⟨h1, h2⟩ := h
    subst h1
    exact ih h2
