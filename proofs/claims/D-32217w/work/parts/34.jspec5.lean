/-! ===== JDK 5: TreeMap: trees, contexts, their cells ===== -/
/-- a node: its address, its key's address, its key, its value's address, its colour (true: black) -/
abbrev TN : Type := Nat × Nat × Nat × Nat × Bool
/-- a tree: the library's shape of a search tree, its own counts and values unused -/
abbrev TT : Type := Std.DTreeMap.Internal.Impl TN (fun _ => Unit)
abbrev tnil : TT := .leaf
abbrev tnd (x : TN) (l r : TT) : TT := .inner 0 x () l r
def tad : TT → Option Nat
  | .leaf => none
  | .inner _ x _ _ _ => some x.1
def tcol (c : Bool) : Nat := if c then 1 else 0
/-- a node's cell: left, right, parent -/
def tcell (x : TN) (l r p : Option Nat) : Nat × va_E := (x.1, .inr (20, [.ref x.2.1, .ref x.2.2.2.1, vr l, vr r, vr p, .int (nI (tcol x.2.2.2.2))]))
def tw : Option Nat → TT → va_W
  | _, .leaf => []
  | p, .inner _ x _ l r => tcell x (tad l) (tad r) p :: (tw (some x.1) l ++ tw (some x.1) r)
/-- a step up: were we its left child, the shape's count, the node, its other subtree -/
abbrev TF : Type := Bool × Nat × TN × TT
def plug : List TF → TT → TT
  | [], t => t
  | (true, z, x, r) :: cx, t => plug cx (.inner z x () t r)
  | (false, z, x, l) :: cx, t => plug cx (.inner z x () l t)
/-- the parent's address -/
def pa : List TF → Option Nat
  | [] => none
  | (_, _, x, _) :: _ => some x.1
def rootA : List TF → Option Nat → Option Nat
  | [], h => h
  | (_, _, x, _) :: cx, _ => rootA cx (some x.1)
/-- the cells of a context whose hole holds a tree at h -/
def cw : List TF → Option Nat → va_W
  | [], _ => []
  | (true, z, x, r) :: cx, h => tcell x h (tad r) (pa cx) :: (tw (some x.1) r ++ cw cx (some x.1))
  | (false, z, x, l) :: cx, h => tcell x (tad l) h (pa cx) :: (tw (some x.1) l ++ cw cx (some x.1))
theorem plug_ad : ∀ (cx : List TF) (t : TT), tad (plug cx t) = rootA cx (tad t)
  | [], _ => rfl
  | (true, z, x, r) :: cx, t => plug_ad cx (.inner z x () t r)
  | (false, z, x, l) :: cx, t => plug_ad cx (.inner z x () l t)
theorem plug_tw : ∀ (cx : List TF) (t : TT), (tw none (plug cx t)).Perm (cw cx (tad t) ++ tw (pa cx) t)
  | [], _ => List.Perm.refl _
  | (true, z, x, r) :: cx, t => by
    refine (plug_tw cx (.inner z x () t r)).trans ?_
    refine wperm fun d z9 => ?_
    simp only [cw, tw, pa, tad, List.count_append, List.count_cons]
    omega
  | (false, z, x, l) :: cx, t => by
    refine (plug_tw cx (.inner z x () l t)).trans ?_
    refine wperm fun d z9 => ?_
    simp only [cw, tw, pa, tad, List.count_append, List.count_cons]
    omega
/-- keys and values in order -/
def inord : TT → List TN
  | .leaf => []
  | .inner _ x _ l r => inord l ++ x :: inord r
def ctxL : List TF → List TN
  | [] => []
  | (true, _, _, _) :: cx => ctxL cx
  | (false, z, x, l) :: cx => ctxL cx ++ (inord l ++ [x])
def ctxR : List TF → List TN
  | [] => []
  | (true, z, x, r) :: cx => x :: inord r ++ ctxR cx
  | (false, _, _, _) :: cx => ctxR cx
theorem inord_plug : ∀ (cx : List TF) (t : TT), inord (plug cx t) = ctxL cx ++ (inord t ++ ctxR cx)
  | [], t => by simp [plug, ctxL, ctxR]
  | (true, z, x, r) :: cx, t => by
    show inord (plug cx (.inner z x () t r)) = _
    rw [inord_plug cx]; simp [inord, ctxL, ctxR]
  | (false, z, x, l) :: cx, t => by
    show inord (plug cx (.inner z x () l t)) = _
    rw [inord_plug cx]; simp [inord, ctxL, ctxR]
theorem tcol_nar (c : Bool) : narrow .boolean (.int (nI (tcol c))) = .int (nI (tcol c)) := by cases c <;> decide
theorem tcol_fit (c : Bool) : fits .boolean (.int (nI (tcol c))) = true := by cases c <;> decide
theorem tcol_lt (c : Bool) : tcol c < 2 ^ 31 := by cases c <;> decide
def tfind : TT → Nat → Option TN
  | .leaf, _ => none
  | .inner _ x _ l r, i => if i < x.2.2.1 then tfind l i else if i = x.2.2.1 then some x else tfind r i
def tsz : TT → Nat
  | .leaf => 0
  | .inner _ _ _ l r => tsz l + tsz r + 1
theorem cell_plug (cx : List TF) (n : Nat) (x : TN) (u : Unit) (l r : TT) : tcell x (tad l) (tad r) (pa cx) ∈ tw none (plug cx (.inner n x u l r)) :=
  (plug_tw cx (.inner n x u l r)).mem_iff.mpr (List.mem_append_right _ List.mem_cons_self)
theorem in_plug (cx : List TF) (n : Nat) (x : TN) (u : Unit) (l r : TT) : x ∈ inord (plug cx (.inner n x u l r)) := by
  rw [inord_plug]
  exact List.mem_append_right _ (List.mem_append_left _ (List.mem_append_right _ List.mem_cons_self))
theorem tfind_cell : ∀ (p0 : Option Nat) (T : TT) (i : Nat) (x : TN), tfind T i = some x → x.2.2.1 = i ∧ x ∈ inord T ∧ ∃ l r p, tcell x l r p ∈ tw p0 T
  | _, .leaf, _, _, h => by cases h
  | p0, .inner z y u l r, i, x, h => by
    have h : (if i < y.2.2.1 then tfind l i else if i = y.2.2.1 then some y else tfind r i) = some x := h
    split at h
    · obtain ⟨h0, h1, l2, r2, p2, h2⟩ := tfind_cell (some y.1) l i x h
      exact ⟨h0, List.mem_append_left _ h1, l2, r2, p2, List.mem_cons_of_mem _ (List.mem_append_left _ h2)⟩
    · split at h
      · next q =>
        cases h
        exact ⟨q.symm, List.mem_append_right _ List.mem_cons_self, _, _, _, List.mem_cons_self⟩
      · obtain ⟨h0, h1, l2, r2, p2, h2⟩ := tfind_cell (some y.1) r i x h
        exact ⟨h0, List.mem_append_right _ (List.mem_cons_of_mem _ h1), l2, r2, p2, List.mem_cons_of_mem _ (List.mem_append_right _ h2)⟩
