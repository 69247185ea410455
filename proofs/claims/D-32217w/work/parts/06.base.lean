/-! ===== BASE: the ghost G, the class table, worlds cut in segments, contracts ===== -/
abbrev GT : Type := (Nat → ClassId) × (Nat → Nat → Nat) × (Nat → ClassId) × (Nat → Nat)
abbrev gD (G : GT) : va_G := (G.1, G.2.1)
abbrev gB (G : GT) : Nat := G.2.2.2 0
def gT (G : GT) : List (ClassId × FieldType) := [(G.2.2.1 0, .int), (G.2.2.1 1, .long), (G.2.2.1 2, .boolean), (G.2.2.1 3, .byte), (G.2.2.1 4, .object "java/lang/Object"), (G.2.2.1 5, .object "Bogsign$Stretch"), (G.2.2.1 6, .object "Bogsign$Notes")]
def ClF0 (cl : List vw_C) (ci : Nat) (C : String) (T : u_T) (N : Nat) (ty : Nat → FieldType) : Prop := cl[ci]? = some (C, T, N) ∧ (∀ w ∈ u_ws C T N, w ∈ lw_all) ∧ (∀ k, k < N → parseFieldDescriptor (T k).2.2.1 = some (ty k)) ∧ (∀ a, a < N → ∀ b, b < N → a ≠ b → (T a).2.1 ≠ (T b).2.1)
def kcl : List vw_C := [(RX1, TX1, 11), (RX2, TX2, 8), (RX3, TX3, 2), (RX4, TX4, 38), (RX5, TX5, 8), (RX7, TX7, 2), (RX9, TX9, 2), (RX10, TX10, 1), (RX11, TX11, 8), (RX12, TX12, 1), (RJ2, TJ2, 3), (RJ3, TJ3, 3), (RJ4, TJ4, 3), (RJ6, TJ6, 9), (RJ8, TJ8, 4), (RJ9, TJ9, 1), (RJ16, TJ16, 1), (RJ18, TJ18, 4), (RJ28, TJ28, 4), (RJ30, TJ30, 3), (RJ31, TJ31, 6), (RJ32, TJ32, 4), (RJ35, TJ35, 5), (RJ38, TJ38, 4)]
theorem clX1 : ClF0 kcl 0 RX1 TX1 11 tyX1 := ⟨rfl, in_X1, tyX1_ok, nmX1⟩
theorem clX2 : ClF0 kcl 1 RX2 TX2 8 tyX2 := ⟨rfl, in_X2, tyX2_ok, nmX2⟩
theorem clX3 : ClF0 kcl 2 RX3 TX3 2 tyX3 := ⟨rfl, in_X3, tyX3_ok, nmX3⟩
theorem clX4 : ClF0 kcl 3 RX4 TX4 38 tyX4 := ⟨rfl, in_X4, tyX4_ok, nmX4⟩
theorem clX5 : ClF0 kcl 4 RX5 TX5 8 tyX5 := ⟨rfl, in_X5, tyX5_ok, nmX5⟩
theorem clX7 : ClF0 kcl 5 RX7 TX7 2 tyX7 := ⟨rfl, in_X7, tyX7_ok, nmX7⟩
theorem clX9 : ClF0 kcl 6 RX9 TX9 2 tyX9 := ⟨rfl, in_X9, tyX9_ok, nmX9⟩
theorem clX10 : ClF0 kcl 7 RX10 TX10 1 tyX10 := ⟨rfl, in_X10, tyX10_ok, nmX10⟩
theorem clX11 : ClF0 kcl 8 RX11 TX11 8 tyX11 := ⟨rfl, in_X11, tyX11_ok, nmX11⟩
theorem clX12 : ClF0 kcl 9 RX12 TX12 1 tyX12 := ⟨rfl, in_X12, tyX12_ok, nmX12⟩
theorem clJ2 : ClF0 kcl 10 RJ2 TJ2 3 tyJ2 := ⟨rfl, in_J2, tyJ2_ok, nmJ2⟩
theorem clJ3 : ClF0 kcl 11 RJ3 TJ3 3 tyJ3 := ⟨rfl, in_J3, tyJ3_ok, nmJ3⟩
theorem clJ4 : ClF0 kcl 12 RJ4 TJ4 3 tyJ4 := ⟨rfl, in_J4, tyJ4_ok, nmJ4⟩
theorem clJ6 : ClF0 kcl 13 RJ6 TJ6 9 tyJ6 := ⟨rfl, in_J6, tyJ6_ok, nmJ6⟩
theorem clJ8 : ClF0 kcl 14 RJ8 TJ8 4 tyJ8 := ⟨rfl, in_J8, tyJ8_ok, nmJ8⟩
theorem clJ9 : ClF0 kcl 15 RJ9 TJ9 1 tyJ9 := ⟨rfl, in_J9, tyJ9_ok, nmJ9⟩
theorem clJ16 : ClF0 kcl 16 RJ16 TJ16 1 tyJ16 := ⟨rfl, in_J16, tyJ16_ok, nmJ16⟩
theorem clJ18 : ClF0 kcl 17 RJ18 TJ18 4 tyJ18 := ⟨rfl, in_J18, tyJ18_ok, nmJ18⟩
theorem clJ28 : ClF0 kcl 18 RJ28 TJ28 4 tyJ28 := ⟨rfl, in_J28, tyJ28_ok, nmJ28⟩
theorem clJ30 : ClF0 kcl 19 RJ30 TJ30 3 tyJ30 := ⟨rfl, in_J30, tyJ30_ok, nmJ30⟩
theorem clJ31 : ClF0 kcl 20 RJ31 TJ31 6 tyJ31 := ⟨rfl, in_J31, tyJ31_ok, nmJ31⟩
theorem clJ32 : ClF0 kcl 21 RJ32 TJ32 4 tyJ32 := ⟨rfl, in_J32, tyJ32_ok, nmJ32⟩
theorem clJ35 : ClF0 kcl 22 RJ35 TJ35 5 tyJ35 := ⟨rfl, in_J35, tyJ35_ok, nmJ35⟩
theorem clJ38 : ClF0 kcl 23 RJ38 TJ38 4 tyJ38 := ⟨rfl, in_J38, tyJ38_ok, nmJ38⟩
abbrev ClF (ci : Nat) (C : String) (T : u_T) (N : Nat) (ty : Nat → FieldType) : Prop := ClF0 kcl ci C T N ty
/-- what is only read: an array's or an object's content, weaker than va_at (constants have it too) -/
def roE (a : (Nat → Int32) ⊕ (Nat → Int64) ⊕ (Nat → UInt32) ⊕ (Nat → UInt64) ⊕ (Nat → Option Nat)) (j : Nat) : Value := match a with
  | .inl f => .int (f j)
  | .inr (.inl f) => .long (f j)
  | .inr (.inr (.inl f)) => .float (f j)
  | .inr (.inr (.inr (.inl f))) => .double (f j)
  | .inr (.inr (.inr (.inr f))) => va_rf (f j)
def roAt (G : GT) (x : Nat × va_E) (H : Heap) : Prop := match x.2 with
  | .inl a => ∃ cell : Cell, H[x.1]? = some cell ∧ cell.cls = a.1 ∧ cell.vm ≠ .unknown ∧ (∀ k, cell.vm ≠ .statics k) ∧ a.2.1 ≤ cell.slots.size ∧ cell.slots.size.toInt32 = Int32.ofNat a.2.1 ∧ ∀ j, j < a.2.1 → cell.slots[j]? = some (roE a.2.2 j)
  | .inr o => ∃ r : vw_C, kcl[o.1]? = some r ∧ ∃ cell : Cell, H[x.1]? = some cell ∧ cell.cls = G.1 o.1 ∧ cell.vm ≠ .unknown ∧ cell.vm.isStatics = false ∧ ∀ k, k < r.2.2 → cell.slots[G.2.1 o.1 k]? = some (vp_V o.2 k)
theorem roAt.kept {G : GT} {x : Nat × va_E} {H H1 : Heap} (h : roAt G x H) (hq : H1[x.1]? = H[x.1]?) : roAt G x H1 := by
  obtain ⟨a, e⟩ := x
  cases e with
  | inl y => obtain ⟨c, h1, h2⟩ := h; exact ⟨c, hq.trans h1, h2⟩
  | inr o => obtain ⟨r, h0, c, h1, h2⟩ := h; exact ⟨r, h0, c, hq.trans h1, h2⟩
theorem roAt.lt {G : GT} {x : Nat × va_E} {H : Heap} (h : roAt G x H) : x.1 < H.size := by
  obtain ⟨a, e⟩ := x
  cases e with
  | inl y => obtain ⟨c, h1, h2⟩ := h; exact (Array.getElem?_eq_some_iff.mp h1).1
  | inr o => obtain ⟨r, h0, c, h1, h2⟩ := h; exact (Array.getElem?_eq_some_iff.mp h1).1
theorem roAt.of {G : GT} {x : Nat × va_E} {H : Heap} (h : va_at (gD G) kcl x H) : roAt G x H := by
  obtain ⟨a, e⟩ := x
  cases e with
  | inl y =>
    obtain ⟨cA, n, f⟩ := y
    have h : H[a]? = some (vp_cell cA (n, f)) := h
    have key : ∃ g : Nat → Value, vp_cell cA (n, f) = arrV cA n g ∧ ∀ j, g j = roE f j := by
      rcases f with f | f | f | f | f <;> exact ⟨_, rfl, fun _ => rfl⟩
    obtain ⟨g, e1, e2⟩ := key
    rw [e1] at h
    refine ⟨_, h, rfl, fun q => (by cases q), fun k q => (by cases q), ?_, ?_, fun j hj => ?_⟩
    · rw [arrV_size]; exact Nat.le_refl _
    · rw [arrV_size]
    · rw [arrV_read _ _ hj, e2]
  | inr o =>
    obtain ⟨r, h1, cell, q1, q2, q3, q4⟩ := h
    exact ⟨r, h1, cell, q1, q2, by rw [q3]; exact fun q => (by cases q), by rw [q3]; rfl, q4⟩
/-- a live object of one of our classes -/
def roLv (G : GT) (a : Nat) (H : Heap) : Prop := ∃ (cell : Cell) (ci : Nat), H[a]? = some cell ∧ cell.vm.isStatics = false ∧ ci < 24 ∧ cell.cls = G.1 ci
abbrev roI : Type := (Nat × va_E) ⊕ Nat
def roA : roI → Nat
  | .inl x => x.1
  | .inr a => a
def roAtI (G : GT) (x : roI) (H : Heap) : Prop := match x with
  | .inl y => roAt G y H
  | .inr a => roLv G a H
theorem roAt.lv {G : GT} {a ci : Nat} {fs : List Value} {H : Heap} (h : roAt G (a, .inr (ci, fs)) H) : roLv G a H := by
  obtain ⟨r, h0, c, h1, h2, h3, h4, h5⟩ := h
  exact ⟨c, ci, h1, h4, (List.getElem?_eq_some_iff.mp h0).1, h2⟩
theorem roAtI.kept {G : GT} {x : roI} {H H1 : Heap} (h : roAtI G x H) (hq : H1[roA x]? = H[roA x]?) : roAtI G x H1 := by
  cases x with
  | inl y => exact roAt.kept h hq
  | inr a => obtain ⟨c, ci, h1, h2⟩ := h; exact ⟨c, ci, hq.trans h1, h2⟩
theorem roAtI.lt {G : GT} {x : roI} {H : Heap} (h : roAtI G x H) : roA x < H.size := by
  cases x with
  | inl y => exact roAt.lt h
  | inr a => obtain ⟨c, ci, h1, h2⟩ := h; exact (Array.getElem?_eq_some_iff.mp h1).1
def noR : roI → Prop := fun _ => False
/-- words that are no 'good' ones, but hold all through a run -/
def mvW : Cond → Bool
  | .fieldLinkNest _ _ _ _ _ _ => true
  | .methodLinkNest _ _ _ _ => true
  | .castable _ _ => true
  | .declares _ => true
  | _ => false
def kNcL : List (String × String) := [("Bogsign$SentBoards", "Bogsign$CutBoards"), ("Bogsign$Carried", "Bogsign$CutBoards"), ("Bogsign$Carried", "Bogsign$SentBoards"), ("java/lang/IllegalStateException", "java/lang/IllegalArgumentException"), ("java/lang/IllegalArgumentException", "java/lang/IndexOutOfBoundsException"), ("java/lang/IllegalStateException", "java/lang/IndexOutOfBoundsException")]
/-- texts of the literals: place, bytes -/
def kTx : Nat → List Int32
  | 0 => [102, 105, 114, 109, 10, 115, 111, 102, 116, 10, 100, 101, 101, 112, 10, 103, 111, 110, 101, 10]
  | 1 => [32, 98, 121, 32]
  | 2 => [115, 111, 102, 116]
  | 3 => [100, 101, 101, 112]
  | 4 => [103, 111, 110, 101]
  | _ => []
/-- the literals' hashes, as asked before the start -/
def kHs : Nat → Int32
  | 0 => 468235137
  | 1 => 1051273
  | 2 => 3535914
  | 3 => 3079404
  | 4 => 3178655
  | _ => 0
def kHz : Nat → Int32
  | 5 => 1
  | _ => 0
def kStr (G : GT) (i : Nat) : va_W := [(G.2.2.2 (10 + i), .inr (17, [.ref (G.2.2.2 (20 + i)), .int 0, .int (kHs i), .int (kHz i)])), (G.2.2.2 (20 + i), .inl (G.2.2.1 3, (kTx i).length, .inl (fun j => (kTx i).getD j 0)))]
/-- constants' cells: the empty Optional, ArrayList's empty array, the literals -/
def kRO (G : GT) : va_W := [(G.2.2.2 1, .inr (15, [.null])), (G.2.2.2 2, .inl (G.2.2.1 4, 0, .inr (.inr (.inr (.inr (fun _ => none)))))), (G.2.2.2 5, .inl (G.2.2.1 3, 100, .inl (fun j => nI (48 + j % 10)))), (G.2.2.2 6, .inl (G.2.2.1 3, 100, .inl (fun j => nI (48 + j / 10))))] ++ (kStr G 0 ++ (kStr G 1 ++ (kStr G 2 ++ (kStr G 3 ++ (kStr G 4 ++ kStr G 5)))))
def kZ (G : GT) : List (String × String × String × Value) := [("java/util/Optional", "EMPTY", "Ljava/util/Optional;", .ref (G.2.2.2 1)), ("java/util/ArrayList", "DEFAULTCAPACITY_EMPTY_ELEMENTDATA", "[Ljava/lang/Object;", .ref (G.2.2.2 2)), ("java/lang/Integer$IntegerCache", "high", "I", .int 127), ("java/lang/Integer$IntegerCache", "cache", "[Ljava/lang/Integer;", .ref (G.2.2.2 3)), ("java/lang/String", "COMPACT_STRINGS", "Z", .int 1), ("java/util/BitSet", "$assertionsDisabled", "Z", .int 1), ("jdk/internal/util/Preconditions", "SIOOBE_FORMATTER", "Ljava/util/function/BiFunction;", .ref (G.2.2.2 7)), ("java/lang/Integer", "DigitOnes", "[B", .ref (G.2.2.2 5)), ("java/lang/Integer", "DigitTens", "[B", .ref (G.2.2.2 6))]
def kS (G : GT) : List (String × Nat × String × Nat) := [("Bogsign$Words", 3, "firm\nsoft\ndeep\ngone\n", G.2.2.2 10), ("Bogsign$Message", 53, " by ", G.2.2.2 11), ("Bogsign$Words", 15, "soft", G.2.2.2 12), ("Bogsign$Words", 21, "deep", G.2.2.2 13), ("Bogsign$Words", 23, "gone", G.2.2.2 14), ("Bogsign$Message", 7, "", G.2.2.2 15)]
def kQ : List (String × String × String) := [(Bundle.tN, "UNASSIGNED_STACK", Bundle.steD), (Bundle.tN, "SUPPRESSED_SENTINEL", Bundle.listD)]
/-- words that the tables don't hold: the private methods of StringBuilder's superclass, called on a StringBuilder -/
def kXt : List Cond := [.selects "java/lang/StringBuilder" ⟨"java/lang/AbstractStringBuilder", "putStringAt", "(ILjava/lang/String;)V"⟩ ⟨"java/lang/AbstractStringBuilder", "putStringAt", "(ILjava/lang/String;)V"⟩, .selects "java/lang/StringBuilder" ⟨"java/lang/AbstractStringBuilder", "inflateIfNeededFor", "(Ljava/lang/String;)V"⟩ ⟨"java/lang/AbstractStringBuilder", "inflateIfNeededFor", "(Ljava/lang/String;)V"⟩, .selects "java/lang/StringBuilder" ⟨"java/lang/AbstractStringBuilder", "ensureCapacityInternal", "(I)V"⟩ ⟨"java/lang/AbstractStringBuilder", "ensureCapacityInternal", "(I)V"⟩]
theorem kXt_good : ∀ w ∈ kXt, (w.onTables && w.keeps) = true := by decide
/-- what holds of the machine and of the constants all through the run -/
def Kx (G : GT) (U : State) : Prop :=
  va_K (gD G) kcl (gT G) U ∧
  ((∀ w ∈ lw_tbl, mvW w = true → va_Nw w U) ∧ ∀ w ∈ kXt, va_Nw w U) ∧
  (∀ (C : String) (x y : MethodName), (x.cls ≠ "java/lang/invoke/MethodHandle" ∧ x.cls ≠ "java/lang/invoke/VarHandle") → Cond.declares x ∈ lw_tbl → Cond.interfaceMethod x.cls x.cls x.name x.desc ∈ lw_tbl → Cond.publicMethod y ∈ lw_tbl → Cond.unhidden C x.name x.desc ∈ lw_tbl → Cond.castable C x.cls ∈ lw_tbl → va_Fw C x y U) ∧
  (∀ C : String, Cond.arrayOver (.object C) ∈ lw_tbl → va_AO C U) ∧
  (∀ q ∈ kNcL, va_Nc q.1 q.2 U) ∧
  (∀ x ∈ kRO G, x.1 < gB G ∧ roAt G x U.heap) ∧
  (∀ z ∈ kZ G, va_Z z.1 z.2.1 z.2.2.1 z.2.2.2 (fun q => gB G ≤ q) U U.heap) ∧
  (∀ z ∈ kS G, vk_R z.1 z.2.1 z.2.2.1 z.2.2.2 U) ∧
  (∀ z ∈ kQ, vx_Zq z.1 z.2.1 z.2.2 (fun q => gB G ≤ q) U U.heap) ∧
  (vb_C (fun k => G.2.2.2 (1000 + k)) (fun q => gB G ≤ q) U U.heap ∧ va_T (.object "java/lang/Integer") (G.2.2.2 3) 256 (fun k => .ref (G.2.2.2 (1000 + k))) (fun q => gB G ≤ q) U U.heap) ∧
  (va_Mi "[Ljava/lang/Object;" (G.2.2.2 4) U ∧ va_Dc U) ∧
  gB G ≤ U.heap.size
theorem Kx.go {G : GT} {s U : State} (h : Kx G s) (hW : s.WarmedH U.vm) (hH : ∀ q, q < gB G → U.heap[q]? = s.heap[q]?) (hs : gB G ≤ U.heap.size) : Kx G U := by
  obtain ⟨h1, ⟨h2, h2x⟩, h3, h4, h5, h6, h7, h8, h9, h10, h11, h12⟩ := h
  have hk : ∀ a : Nat, a < s.heap.size → ¬ (gB G ≤ a) → U.heap[a]? = s.heap[a]? := fun a _ h => hH a (Nat.lt_of_not_le h)
  refine ⟨va_K.moved hW.alike h1, ⟨fun w hw hm => ?_, fun w hw => word_at hW (Or.inl (kXt_good w hw)) (h2x w hw)⟩, fun C x y hx a1 a2 a3 a4 a5 => va_Fw.moved hx hW.alike (h3 C x y hx a1 a2 a3 a4 a5), fun C hC => va_AO.moved hW.alike (h4 C hC), fun q hq => va_Nc.moved hW.alike (h5 q hq), fun x hx => ⟨(h6 x hx).1, (h6 x hx).2.kept (hH _ (h6 x hx).1)⟩, fun z hz => va_Z.moved hW.alike ((h7 z hz).kept hk), fun z hz => vk_R.warm hW (h8 z hz), fun z hz => vx_Zq.moved hW.alike ((h9 z hz).kept hk), ⟨vb_C.moved hW.alike (h10.1.kept hk), va_T.moved hW.alike (h10.2.kept hk)⟩, ⟨va_Mi.moved hW.alike h11.1, va_Dc.moved hW.alike h11.2⟩, hs⟩
  have hn := h2 w hw hm
  unfold mvW at hm
  split at hm
  · exact va_Nw.warmF hW hn
  · exact va_Nw.warmM hW hn
  · exact va_Nw.warmC hW hn
  · exact va_Nw.warmD hW hn
  · cases hm
theorem Kx.same {G : GT} {u U : State} (h : Kx G u) (hv : U.vm = u.vm) (hh : U.heap = u.heap) : Kx G U := by
  obtain ⟨h1, ⟨h2, h2x⟩, h3, h4, h5, h6, h7, h8, h9, h10, h11, h12⟩ := h
  have hA : u.vm.Alike U.vm := by rw [hv]; exact Vm.Alike.refl _
  refine ⟨va_K.moved hA h1, ⟨fun w hw hm => ?_, fun w hw => va_Nw.same ((Bool.and_eq_true_iff.mp (kXt_good w hw)).1) hv.symm (h2x w hw)⟩, fun C x y hx a1 a2 a3 a4 a5 => va_Fw.moved hx hA (h3 C x y hx a1 a2 a3 a4 a5), fun C hC => va_AO.moved hA (h4 C hC), fun q hq => va_Nc.moved hA (h5 q hq), fun x hx => ⟨(h6 x hx).1, by rw [hh]; exact (h6 x hx).2⟩, fun z hz => by rw [hh]; exact va_Z.moved hA (h7 z hz), fun z hz => vk_R.same hv (h8 z hz), fun z hz => by rw [hh]; exact vx_Zq.moved hA (h9 z hz), by rw [hh]; exact ⟨vb_C.moved hA h10.1, va_T.moved hA h10.2⟩, ⟨va_Mi.moved hA h11.1, va_Dc.moved hA h11.2⟩, by rw [hh]; exact h12⟩
  have hn := h2 w hw hm
  unfold mvW at hm
  split at hm
  · exact va_Nw.same rfl hv.symm hn
  · exact va_Nw.same rfl hv.symm hn
  · exact va_Nw.same rfl hv.symm hn
  · exact va_Nw.same rfl hv.symm hn
  · cases hm
theorem Kx.nw {G : GT} {U : State} (h : Kx G U) {w : Cond} (hw : w ∈ lw_tbl) (hm : mvW w = true) : va_Nw w U := h.2.1.1 w hw hm
/-! worlds in segments -/
theorem va_P_mem {D : va_G} {cl : List vw_C} {ws : va_W} {H : Heap} : va_P D cl ws H ↔ ∀ q ∈ ws, va_at D cl q H := by
  constructor
  · intro h q hq
    obtain ⟨i, hi⟩ := List.getElem?_of_mem hq
    exact h i q hi
  · intro h k q hk
    exact h q (List.mem_of_getElem? hk)
def apartR (x y : Nat × va_E) : Prop := x.1 ≠ y.1
theorem va_D_pw {A : Nat → Prop} {ws : va_W} : va_D A ws ↔ ws.Pairwise apartR ∧ ∀ q ∈ ws, A q.1 := by
  constructor
  · intro h
    refine ⟨List.pairwise_iff_getElem.mpr fun i j hi hj hij e => ?_, fun q hq => ?_⟩
    · have := h.1 i j ws[i] ws[j] (List.getElem?_eq_getElem hi) (List.getElem?_eq_getElem hj) e
      omega
    · obtain ⟨i, hi⟩ := List.getElem?_of_mem hq
      exact h.2 i q hi
  · intro ⟨h1, h2⟩
    refine ⟨fun i j p q hi hj e => ?_, fun k q hk => h2 q (List.mem_of_getElem? hk)⟩
    obtain ⟨li, ei⟩ := List.getElem?_eq_some_iff.mp hi
    obtain ⟨lj, ej⟩ := List.getElem?_eq_some_iff.mp hj
    rcases Nat.lt_trichotomy i j with h | h | h
    · exact absurd e (by have := List.pairwise_iff_getElem.mp h1 i j li lj h; rw [ei, ej] at this; exact this)
    · exact h
    · exact absurd e.symm (by have := List.pairwise_iff_getElem.mp h1 j i lj li h; rw [ei, ej] at this; exact this)
theorem va_P_perm {D : va_G} {cl : List vw_C} {w1 w2 : va_W} {H : Heap} (p : w1.Perm w2) (h : va_P D cl w1 H) : va_P D cl w2 H := va_P_mem.mpr fun q hq => va_P_mem.mp h q (p.mem_iff.mpr hq)
theorem va_D_perm {A : Nat → Prop} {w1 w2 : va_W} (p : w1.Perm w2) (h : va_D A w1) : va_D A w2 := by
  obtain ⟨h1, h2⟩ := va_D_pw.mp h
  exact va_D_pw.mpr ⟨(p.pairwise_iff (fun {x y} (hxy : apartR x y) => Ne.symm hxy)).mp h1, fun q hq => h2 q (p.mem_iff.mpr hq)⟩
def Ws (G : GT) (A : Nat → Prop) (s : State) (S : List va_W) (H : Heap) (locs : List Loc) : Prop :=
  va_P (gD G) kcl S.flatten H ∧ va_D A S.flatten ∧ va_S A s.heap H locs ∧ (∀ q : Nat, s.heap.size ≤ q → A q) ∧ (∀ q : Nat, A q → gB G ≤ q)
theorem Ws.perm {G : GT} {A : Nat → Prop} {s : State} {S S' : List va_W} {H : Heap} {locs : List Loc} (h : Ws G A s S H locs) (p : S.flatten.Perm S'.flatten) : Ws G A s S' H locs :=
  ⟨va_P_perm p h.1, va_D_perm p h.2.1, h.2.2⟩
def pick (S : List va_W) (is : List Nat) : List va_W := is.filterMap (fun i => S[i]?)
theorem pick_range (S : List va_W) : pick S (List.range S.length) = S := by
  unfold pick
  induction S with
  | nil => rfl
  | cons x t ih =>
    rw [List.length_cons, List.range_succ_eq_map, List.filterMap_cons, List.filterMap_map]
    show x :: _ = _
    congr 1
theorem pick_perm (S : List va_W) (N : Nat) (hN : S.length = N) {is : List Nat} (h : is.isPerm (List.range N) = true) : (pick S is).Perm S := by
  subst hN
  have h1 := (List.isPerm_iff.mp h).filterMap (fun i => S[i]?)
  have h2 := pick_range S
  unfold pick at h2 ⊢
  rw [h2] at h1
  exact h1
theorem Ws.pick {G : GT} {A : Nat → Prop} {s : State} {S S' : List va_W} {H : Heap} {locs : List Loc} (h : Ws G A s S H locs) (N : Nat) (hN : S.length = N) (is : List Nat) (hp : is.isPerm (List.range N) = true) (hS : pick S is = S') : Ws G A s S' H locs := by
  subst hS
  exact h.perm (pick_perm S N hN hp).flatten.symm
theorem Ws.drop {G : GT} {A : Nat → Prop} {s : State} {S S1 S2 : List va_W} {H : Heap} {locs : List Loc} (h : Ws G A s S H locs) (hS : S = S1 ++ S2) : Ws G A s S1 H locs := by
  subst hS
  obtain ⟨h1, h2, h3⟩ := h
  rw [List.flatten_append] at h1 h2
  obtain ⟨d1, d2⟩ := va_D_pw.mp h2
  exact ⟨va_P_mem.mpr fun q hq => va_P_mem.mp h1 q (List.mem_append_left _ hq), va_D_pw.mpr ⟨(List.pairwise_append.mp d1).1, fun q hq => d2 q (List.mem_append_left _ hq)⟩, h3⟩
theorem seg_mem {S : List va_W} {i j : Nat} {seg : va_W} {x : Nat × va_E} (hi : S[i]? = some seg) (hj : seg[j]? = some x) : x ∈ S.flatten := List.mem_flatten.mpr ⟨seg, List.mem_of_getElem? hi, List.mem_of_getElem? hj⟩
theorem seg_place : ∀ {S : List va_W} {i j : Nat} {seg : va_W} {x : Nat × va_E}, S[i]? = some seg → seg[j]? = some x → ∃ q : Nat, S.flatten[q]? = some x ∧ ∀ y, (S.set i (seg.set j y)).flatten = S.flatten.set q y := by
  intro S
  induction S with
  | nil => intro i j seg x hi; simp at hi
  | cons t r ih =>
    intro i j seg x hi hj
    cases i with
    | zero =>
      simp only [List.getElem?_cons_zero, Option.some.injEq] at hi
      subst hi
      have hl := (List.getElem?_eq_some_iff.mp hj).1
      refine ⟨j, by rw [List.flatten_cons, List.getElem?_append_left hl]; exact hj, fun y => ?_⟩
      rw [List.set_cons_zero, List.flatten_cons, List.flatten_cons, List.set_append_left _ _ hl]
    | succ i =>
      simp only [List.getElem?_cons_succ] at hi
      obtain ⟨q, h1, h2⟩ := ih hi hj
      refine ⟨t.length + q, by rw [List.flatten_cons, List.getElem?_append_right (by omega)]; simpa using h1, fun y => ?_⟩
      rw [List.set_cons_succ, List.flatten_cons, List.flatten_cons, h2, List.set_append_right _ _ (by omega), Nat.add_sub_cancel_left]
/-! contracts -/
def cPre (G : GT) (av : List Value) (S : List va_W) (Rp : roI → Prop) (sz : Nat) : Array Value → State → Prop := va_Pc av (fun U => U.heap.size = sz ∧ va_P (gD G) kcl S.flatten U.heap ∧ va_D (fun q => gB G ≤ q) S.flatten ∧ (∀ x, Rp x → roAtI G x U.heap ∧ ∀ y ∈ S.flatten, y.1 ≠ roA x) ∧ Kx G U ∧ gB G ≤ sz)
/-- an end: v and the cells S' -/
def cQ (G : GT) (A : Nat → Prop) (Qp : Option Value → List va_W → Prop) : Array Value → State → Outcome → State → Prop := fun _ st oc t => (∃ (v : Option Value) (S' : List va_W), oc = .returned v ∧ Qp v S' ∧ va_P (gD G) kcl S'.flatten t.heap ∧ va_D A S'.flatten) ∧ va_F A st t
abbrev cPost (G : GT) (S : List va_W) (sz : Nat) (Qp : Option Value → List va_W → Prop) : Array Value → State → Outcome → State → Prop := cQ G (va_A S.flatten sz) Qp
/-- method y (code b, n locals) with the arguments av over the owned cells S and the cells Rp that are only read: it returns v and leaves S', Qp v S' -/
def Ct (l : Launch) (G : GT) (y : MethodName) (b : ByteArray) (n : Nat) (ret : Option FieldType) (fr lo mc ms : Nat) (av : List Value) (S : List va_W) (Rp : roI → Prop) (Qp : Option Value → List va_W → Prop) : Prop :=
  ∀ sz : Nat, Met l y (ws_ y b n ret) { frames := fr, cells := mc, slots := ms, locals := lo } (cPre G av S Rp sz) (cPost G S sz Qp) mc ms (va_A S.flatten sz)
theorem cPre_blind {G : GT} {av : List Value} {S : List va_W} {Rp : roI → Prop} {sz : Nat} : FrameBlind (cPre G av S Rp sz) := by
  intro a U g mk q
  obtain ⟨q0, q1, q2, q3, q4, q5, q6⟩ := q
  exact ⟨q0, q1, q2, q3, q4, q5.same rfl rfl, q6⟩
/-- what a walk knows of its method -/
def Cx (p : Program) (s : State) (m : MethodId) (args : Array Value) (meth : Method) (c : Code) (G : GT) (y : MethodName) (cc : ByteArray) (n : Nat) (ret : Option FieldType) : Prop :=
  p.tables.exec = Jvm.exec ∧ c.code = cc ∧ meth.sig.returnType = ret ∧ meth.locks = false ∧ c.maxLocals = n ∧ s.vm.findClass y.cls = some m.cls ∧ (∀ w ∈ lw_all, w.before args s = true) ∧ Kx G s ∧ (meth.name = y.name)
def Ro (G : GT) (A : Nat → Prop) (s : State) (x : roI) : Prop := roAtI G x s.heap ∧ ¬ A (roA x)
theorem Ro.atI {G : GT} {A : Nat → Prop} {s : State} {x : roI} {S : List va_W} {H : Heap} {locs : List Loc} (h : Ro G A s x) (hW : Ws G A s S H locs) : roAtI G x H := h.1.kept (hW.2.2.1.2.1 _ h.1.lt h.2)
theorem Ro.at {G : GT} {A : Nat → Prop} {s : State} {x : Nat × va_E} {S : List va_W} {H : Heap} {locs : List Loc} (h : Ro G A s (.inl x)) (hW : Ws G A s S H locs) : roAt G x H := h.atI hW
theorem Ro.const {G : GT} {A : Nat → Prop} {s : State} {x : Nat × va_E} (hX : Kx G s) (hA : ∀ q, A q → gB G ≤ q) (hx : x ∈ kRO G) : Ro G A s (.inl x) := by
  obtain ⟨-, -, -, -, -, h6, -⟩ := hX
  exact ⟨(h6 x hx).2, fun h => absurd (hA _ h) (by have := (h6 x hx).1; show ¬ gB G ≤ x.1; omega)⟩
section KB
variable {p : Program} {l : Launch} {e : Env} {R : Room} {s : State} {m : MethodId} {args : Array Value} {below : List Frame} {meth : Method} {c : Code} {H : Heap} {locs : List Loc} {cells slots : Nat} {Q : State → Prop}
variable {G : GT} {y : MethodName} {cc : ByteArray} {n : Nat} {ret : Option FieldType} {A : Nat → Prop} {S S' : List va_W} {rest : List Value} {pc : Nat} {ls : Array Slot}
theorem Met.ofWF {y : MethodName} {ws ws' : List Cond} {rm : Room} {Pc : Array Value → State → Prop} {Qc : Array Value → State → Outcome → State → Prop} {mc ms : Nat} {free : Addr → Prop} {cc : ByteArray} {maxL : Nat} {ret : Option FieldType}
    (hy : plainFor y = true) (hw : ws = Cond.code y cc maxL ret :: ws')
    (body : ∀ p e s m args below meth c s₁, BodyLoose p l y (headSpec ws rm) cc maxL ret e s m args below meth c s₁ → c.maxLocals = maxL → Pc args s →
      W p l e (headSpec ws rm).room s m args below meth c s.heap [] 0 0 (MQ below Qc args s mc ms free) (entryFrame m args maxL)) : Met l y ws rm Pc Qc mc ms free := by
  refine MetFree.of_bodyRF (code := cc) (maxLocals := maxL) (ret := ret) hy ?_ ?_
  · intro args s m h hn
    obtain ⟨meth, c, h1, h2, h3, h4, h5, h6, -, -⟩ := Cond.code_spec hn (atoms_spec (ws := ws) h _ (by rw [hw]; exact List.mem_cons_self))
    exact ⟨meth, c, h1, h2, h3, h4, h5, h6⟩
  · intro p e s m args below meth c s₁ B hml hP _ hst
    have hh0 : s₁.heap = s.heap := by rw [B.state]; rfl
    obtain ⟨t, a1, o, b1, b2, b3⟩ := body p e s m args below meth c s₁ B hml hP s₁ hh0 (Stand.of_body B)
    exact ⟨t, o, hst.trans a1, b1, b2, ⟨b3.1, b3.2⟩⟩
theorem Ct.of {y : MethodName} {fr lo mc ms : Nat} {av : List Value} {Rp : roI → Prop} {Qp : Option Value → List va_W → Prop} (hy : plainFor y = true) (hn : (lg_sl av).length ≤ n)
    (body : ∀ (p : Program) (e : Env) (s : State) (m : MethodId) (below : List Frame) (meth : Method) (c : Code) (A : Nat → Prop) (ls : Array Slot), Cx p s m av.toArray meth c G y cc n ret → Ws G A s S s.heap [] → (∀ x, Rp x → Ro G A s x) → lv_has ls n (lv_args 0 av) →
      W p l e { frames := fr, cells := mc, slots := ms, locals := lo } s m av.toArray below meth c s.heap [] 0 0 (MQ below (cQ G A Qp) av.toArray s mc ms A) (F0 m 0 ls [])) :
    Ct l G y cc n ret fr lo mc ms av S Rp Qp := by
  intro sz
  refine Met.ofWF (cc := cc) (maxL := n) (ret := ret) hy rfl ?_
  intro p e s m args below meth c s₁ B hml hv
  obtain ⟨rfl, hsz, hP, hD0, hRp, hX, hB⟩ := hv
  have hts := atoms_spec (ws := ws_ y cc n ret) B.pre
  have hts : ∀ w ∈ lw_all, w.before _ s = true := fun w h => hts w (List.mem_cons_of_mem _ h)
  subst hsz
  have hD := hD0.self (sz := s.heap.size)
  have hAB : ∀ q, va_A S.flatten s.heap.size q → gB G ≤ q := by
    intro q hq
    rcases hq with ⟨k, e', hk⟩ | hq
    · exact hD0.2 k _ hk
    · exact Nat.le_trans hB hq
  have hro : ∀ x, Rp x → Ro G (va_A S.flatten s.heap.size) s x := by
    intro x hx
    obtain ⟨h1, h2⟩ := hRp x hx
    refine ⟨h1, fun h => ?_⟩
    rcases h with ⟨k, e', hk⟩ | h
    · exact h2 _ (List.mem_of_getElem? hk) rfl
    · have := h1.lt; omega
  have hl := lv_entry av (n := n) hn
  rw [lg_entry_eq]
  exact body p e s m below meth c _ _ ⟨B.exec, B.bytes, B.returns, B.notSynchronized, hml, findClass_of_methodNamed B.named, hts, hX, (name_of_methodNamed B.named B.method).1⟩ ⟨hP, hD, va_S.rf, fun q h => Or.inr h, hAB⟩ hro hl
/-! rows: what is read -/
theorem Ws.get (hW : Ws G A s S H locs) (i j : Nat) {seg : va_W} {x : Nat × va_E} (hi : S[i]? = some seg) (hj : seg[j]? = some x) : roAt G x H := roAt.of (va_P_mem.mp hW.1 _ (seg_mem hi hj))
theorem Ws.mem (hW : Ws G A s S H locs) {x : Nat × va_E} (hx : x ∈ S.flatten) : roAt G x H := roAt.of (va_P_mem.mp hW.1 _ hx)
theorem Cx.hx (C : Cx p s m args meth c G y cc n ret) : p.tables.exec = Jvm.exec := C.1
theorem Cx.hb (C : Cx p s m args meth c G y cc n ret) : c.code = cc := C.2.1
theorem Cx.hr (C : Cx p s m args meth c G y cc n ret) : meth.sig.returnType = ret := C.2.2.1
theorem Cx.hlocks (C : Cx p s m args meth c G y cc n ret) : meth.locks = false := C.2.2.2.1
theorem Cx.hml (C : Cx p s m args meth c G y cc n ret) : c.maxLocals = n := C.2.2.2.2.1
theorem Cx.hown (C : Cx p s m args meth c G y cc n ret) : s.vm.findClass y.cls = some m.cls := C.2.2.2.2.2.1
theorem Cx.hts (C : Cx p s m args meth c G y cc n ret) : ∀ w ∈ lw_all, w.before args s = true := C.2.2.2.2.2.2.1
theorem Cx.hX (C : Cx p s m args meth c G y cc n ret) : Kx G s := C.2.2.2.2.2.2.2.1
theorem Cx.hK (C : Cx p s m args meth c G y cc n ret) : va_K (gD G) kcl (gT G) s := C.hX.1
theorem Cx.hname (C : Cx p s m args meth c G y cc n ret) : meth.name = y.name := C.2.2.2.2.2.2.2.2
theorem k_get (C : Cx p s m args meth c G y cc n ret) {ci : Nat} {Cn : String} {T : u_T} {N : Nat} {ty : Nat → FieldType} (F : ClF ci Cn T N ty) {a : Nat} {fs : List Value} (hx : roAt G (a, .inr (ci, fs)) H) {own dc nm ds : String} {fin : Bool} {index : Nat} (k : Nat) (hk : k < N) (hT : T k = (dc, nm, ds, fin)) (hl : Cond.fieldLink own index dc nm ds ∈ lw_all) (ho : own = y.cls) {v : Value} (hv : fs[k]? = some v) (d : decode cc pc = .ok (.getfield index, 3))
    (kk : W p l e R s m args below meth c H locs cells slots Q (F0 m (pc + 3) ls (v :: rest))) : W p l e R s m args below meth c H locs cells slots Q (F0 m pc ls (.ref a :: rest)) := by
  obtain ⟨r, h1, cell, q1, q2, q3, -, q4⟩ := hx
  obtain ⟨f1, f2, f3, f4⟩ := F
  have hr : r = (Cn, T, N) := Option.some.inj (h1.symm.trans f1)
  subst hr
  subst ho
  obtain ⟨hS, hfc, kC, hkC, hkind⟩ := C.hK.1 ci _ f1
  obtain ⟨cf, kf, fi, f, hi, hsl⟩ := hS k hk
  have hst := (u_facts hfc hkC (u_lays C.hts f2 hk) hi).1
  have e1 : (T k).1 = dc := by rw [hT]
  have e2 : (T k).2.1 = nm := by rw [hT]
  have e3 : (T k).2.2.1 = ds := by rw [hT]
  simp only [e1, e2, e3] at hi
  refine W.getf C.hx C.hb C.hown (C.hts _ hl) hi hst q1 q3 (v := v) ?_ rfl rfl d kk
  rw [hsl, q4 k hk]
  simp [vp_V, hv]
theorem k_getS (C : Cx p s m args meth c G y cc n ret) {ci : Nat} {Cn : String} {T : u_T} {N : Nat} {ty : Nat → FieldType} (F : ClF ci Cn T N ty) {a : Nat} {fs : List Value} (hx : roAt G (a, .inr (ci, fs)) H) {own ref dc nm ds : String} {fin : Bool} {index : Nat} (k : Nat) (hk : k < N) (hT : T k = (dc, nm, ds, fin)) (hl : Cond.fieldLink own index ref nm ds ∈ lw_all) (hs : Cond.sameField ref dc nm ds ∈ lw_all) (hsame : (Cond.sameField ref dc nm ds).before args s = true → ∀ x, s.fieldFound? dc nm ds = some x → s.fieldFound? ref nm ds = some x) (ho : own = y.cls) {v : Value} (hv : fs[k]? = some v) (d : decode cc pc = .ok (.getfield index, 3))
    (kk : W p l e R s m args below meth c H locs cells slots Q (F0 m (pc + 3) ls (v :: rest))) : W p l e R s m args below meth c H locs cells slots Q (F0 m pc ls (.ref a :: rest)) := by
  obtain ⟨r, h1, cell, q1, q2, q3, -, q4⟩ := hx
  obtain ⟨f1, f2, f3, f4⟩ := F
  have hr : r = (Cn, T, N) := Option.some.inj (h1.symm.trans f1)
  subst hr
  subst ho
  obtain ⟨hS, hfc, kC, hkC, hkind⟩ := C.hK.1 ci _ f1
  obtain ⟨cf, kf, fi, f, hi, hsl⟩ := hS k hk
  have hst := (u_facts hfc hkC (u_lays C.hts f2 hk) hi).1
  have e1 : (T k).1 = dc := by rw [hT]
  have e2 : (T k).2.1 = nm := by rw [hT]
  have e3 : (T k).2.2.1 = ds := by rw [hT]
  simp only [e1, e2, e3] at hi
  refine W.getf C.hx C.hb C.hown (C.hts _ hl) (hsame (C.hts _ hs) _ hi) hst q1 q3 (v := v) ?_ rfl rfl d kk
  rw [hsl, q4 k hk]
  simp [vp_V, hv]
theorem ro_arr {G : GT} {a cA N : Nat} {f : (Nat → Int32) ⊕ (Nat → Int64) ⊕ (Nat → UInt32) ⊕ (Nat → UInt64) ⊕ (Nat → Option Nat)} (hx : roAt G (a, .inl (cA, N, f)) H) {ty : FieldType} (hK : va_K (gD G) kcl (gT G) s) (t : Nat) (ht : (gT G)[t]? = some (cA, ty)) : ∃ cell : Cell, H[a]? = some cell ∧ s.isArrayOf cell ty ∧ cell.vm ≠ .unknown ∧ N ≤ cell.slots.size ∧ cell.slots.size.toInt32 = Int32.ofNat N ∧ ∀ j, j < N → cell.slots[j]? = some (roE f j) := by
  obtain ⟨cell, q1, q2, q3, q4, q5, q6, q7⟩ := hx
  refine ⟨cell, q1, ⟨q4, ?_⟩, q3, q5, q6, q7⟩
  have h := ((hK.2 t _ ht).1 0 (fun _ => .null)).2
  have q2 : cell.cls = cA := q2
  rw [q2]
  exact h
theorem k_alen (C : Cx p s m args meth c G y cc n ret) {a cA N : Nat} {f : (Nat → Int32) ⊕ (Nat → Int64) ⊕ (Nat → UInt32) ⊕ (Nat → UInt64) ⊕ (Nat → Option Nat)} {ty : FieldType} (t : Nat) (ht : (gT G)[t]? = some (cA, ty)) (hx : roAt G (a, .inl (cA, N, f)) H) (d : decode cc pc = .ok (.arraylength, 1))
    (kk : W p l e R s m args below meth c H locs cells slots Q (F0 m (pc + 1) ls (.int (nI N) :: rest))) : W p l e R s m args below meth c H locs cells slots Q (F0 m pc ls (.ref a :: rest)) := by
  obtain ⟨cell, h1, h2, h3, h4, h5, h6⟩ := ro_arr hx C.hK t ht
  exact W.alen C.hx C.hb h1 h2 h5 rfl rfl d kk
theorem k_iald (C : Cx p s m args meth c G y cc n ret) {a cA N k : Nat} {f : Nat → Int32} (ht : (gT G)[0]? = some (cA, .int) := by rfl) (hx : roAt G (a, .inl (cA, N, .inl f)) H) (hk : k < N) (hN : N < 2 ^ 31) (d : decode cc pc = .ok (.iaload, 1))
    (kk : W p l e R s m args below meth c H locs cells slots Q (F0 m (pc + 1) ls (.int (f k) :: rest))) : W p l e R s m args below meth c H locs cells slots Q (F0 m pc ls (.int (nI k) :: .ref a :: rest)) := by
  obtain ⟨cell, h1, h2, h3, h4, h5, h6⟩ := ro_arr hx C.hK 0 ht
  have hc : (nI k).toNatClampNeg = k := nI_clamp (by omega)
  exact W.iald (v := .int (f k))  C.hx C.hb h1 h2 h3 (by rw [hc]; exact fun h => h.elim (nI_pos (by omega)) (fun h => by omega)) (by rw [hc]; exact h6 k hk) rfl rfl d kk
theorem k_lald (C : Cx p s m args meth c G y cc n ret) {a cA N k : Nat} {f : Nat → Int64} (ht : (gT G)[1]? = some (cA, .long) := by rfl) (hx : roAt G (a, .inl (cA, N, .inr (.inl f))) H) (hk : k < N) (hN : N < 2 ^ 31) (d : decode cc pc = .ok (.laload, 1))
    (kk : W p l e R s m args below meth c H locs cells slots Q (F0 m (pc + 1) ls (.long (f k) :: rest))) : W p l e R s m args below meth c H locs cells slots Q (F0 m pc ls (.int (nI k) :: .ref a :: rest)) := by
  obtain ⟨cell, h1, h2, h3, h4, h5, h6⟩ := ro_arr hx C.hK 1 ht
  have hc : (nI k).toNatClampNeg = k := nI_clamp (by omega)
  exact W.lald (v := .long (f k))  C.hx C.hb h1 h2 h3 (by rw [hc]; exact fun h => h.elim (nI_pos (by omega)) (fun h => by omega)) (by rw [hc]; exact h6 k hk) rfl rfl d kk
theorem k_zald (C : Cx p s m args meth c G y cc n ret) {a cA N k : Nat} {f : Nat → Int32} (ht : (gT G)[2]? = some (cA, .boolean) := by rfl) (hx : roAt G (a, .inl (cA, N, .inl f)) H) (hk : k < N) (hN : N < 2 ^ 31) (d : decode cc pc = .ok (.baload, 1))
    (kk : W p l e R s m args below meth c H locs cells slots Q (F0 m (pc + 1) ls (.int (f k) :: rest))) : W p l e R s m args below meth c H locs cells slots Q (F0 m pc ls (.int (nI k) :: .ref a :: rest)) := by
  obtain ⟨cell, h1, h2, h3, h4, h5, h6⟩ := ro_arr hx C.hK 2 ht
  have hc : (nI k).toNatClampNeg = k := nI_clamp (by omega)
  exact W.zald (v := .int (f k))  C.hx C.hb h1 h2 h3 (by rw [hc]; exact fun h => h.elim (nI_pos (by omega)) (fun h => by omega)) (by rw [hc]; exact h6 k hk) rfl rfl d kk
theorem k_bald (C : Cx p s m args meth c G y cc n ret) {a cA N k : Nat} {f : Nat → Int32} (ht : (gT G)[3]? = some (cA, .byte) := by rfl) (hx : roAt G (a, .inl (cA, N, .inl f)) H) (hk : k < N) (hN : N < 2 ^ 31) (d : decode cc pc = .ok (.baload, 1))
    (kk : W p l e R s m args below meth c H locs cells slots Q (F0 m (pc + 1) ls (.int (f k) :: rest))) : W p l e R s m args below meth c H locs cells slots Q (F0 m pc ls (.int (nI k) :: .ref a :: rest)) := by
  obtain ⟨cell, h1, h2, h3, h4, h5, h6⟩ := ro_arr hx C.hK 3 ht
  have hc : (nI k).toNatClampNeg = k := nI_clamp (by omega)
  exact W.bald (v := .int (f k))  C.hx C.hb h1 h2 h3 (by rw [hc]; exact fun h => h.elim (nI_pos (by omega)) (fun h => by omega)) (by rw [hc]; exact h6 k hk) rfl rfl d kk
theorem k_aald (C : Cx p s m args meth c G y cc n ret) {a cA N k : Nat} {f : Nat → Option Nat} (t : Nat) {E : String} (ht : (gT G)[t]? = some (cA, .object E)) (hx : roAt G (a, .inl (cA, N, .inr (.inr (.inr (.inr f))))) H) (hk : k < N) (hN : N < 2 ^ 31) (d : decode cc pc = .ok (.aaload, 1))
    (kk : W p l e R s m args below meth c H locs cells slots Q (F0 m (pc + 1) ls (va_rf (f k) :: rest))) : W p l e R s m args below meth c H locs cells slots Q (F0 m pc ls (.int (nI k) :: .ref a :: rest)) := by
  obtain ⟨cell, h1, h2, h3, h4, h5, h6⟩ := ro_arr hx C.hK t ht
  have hc : (nI k).toNatClampNeg = k := nI_clamp (by omega)
  exact W.aald (v := va_rf (f k)) (ty := .object E) C.hx C.hb h1 h2 rfl h3 (by rw [hc]; exact fun h => h.elim (nI_pos (by omega)) (fun h => by omega)) (by rw [hc]; exact h6 k hk) rfl rfl d kk

/-! rows: what is written -/
theorem k_put (C : Cx p s m args meth c G y cc n ret) {ci : Nat} {Cn : String} {T : u_T} {N : Nat} {ty : Nat → FieldType} (F : ClF ci Cn T N ty) (hW : Ws G A s S H locs) (i j : Nat) {seg : va_W} {a : Nat} {fs : List Value} (hi : S[i]? = some seg) (hj : seg[j]? = some (a, .inr (ci, fs))) {own ref dc nm ds : String} {fin : Bool} {index : Nat} (k : Nat) (hk : k < N) (hT : T k = (dc, nm, ds, fin)) (hl : Cond.fieldLink own index ref nm ds ∈ lw_all) (ho : own = y.cls) (hsame : ∀ x, s.fieldFound? dc nm ds = some x → s.fieldFound? ref nm ds = some x) (hfin : fin = false ∨ (y.name = "<init>" ∧ dc = own)) {fty : FieldType} {v : Value} (hd : parseFieldDescriptor ds = some fty) (hn : narrow fty v = v) (hfit : fits fty v = true) (hlen : k < fs.length) (d : decode cc pc = .ok (.putfield index, 3)) (hS : S.set i (seg.set j (a, .inr (ci, fs.set k v))) = S')
    (kk : ∀ (H : Heap) (locs : List Loc), Ws G A s S' H locs → W p l e R s m args below meth c H locs cells slots Q (F0 m (pc + 3) ls rest)) : W p l e R s m args below meth c H locs cells slots Q (F0 m pc ls (v :: .ref a :: rest)) := by
  obtain ⟨q0, e1, e2⟩ := seg_place hi hj
  obtain ⟨f1, f2, f3, f4⟩ := F
  obtain ⟨w1, w2, w3, w4, w5⟩ := hW
  subst ho
  have t1 : (T k).1 = dc := by rw [hT]
  have t2 : (T k).2.1 = nm := by rw [hT]
  have t3 : (T k).2.2.1 = ds := by rw [hT]
  have t4 : (T k).2.2.2 = fin := by rw [hT]
  rcases hfin with hf | ⟨hf, hdc⟩
  · refine va_put (D := gD G) (ci := ci) (v := v) (ty := fty) (C := Cn) (T := T) (N := N) (own := y.cls) (ref := ref) C.hx C.hb C.hts f2 ty f3 f4 C.hown C.hK w1 w2 w3 q0 e1 f1 k hk (by rw [t2, t3]; exact C.hts _ hl) (by rw [t1, t2, t3]; exact hsame) (by rw [t4]; exact hf) (by rw [t3]; exact hd) hn hfit hlen d (fun H locs g1 g2 g3 => kk H locs ?_)
    rw [← e2, hS] at g1 g2
    exact ⟨g1, g2, g3, w4, w5⟩
  · cases hfb : fin with
    | false =>
      refine va_put (D := gD G) (ci := ci) (v := v) (ty := fty) (C := Cn) (T := T) (N := N) (own := y.cls) (ref := ref) C.hx C.hb C.hts f2 ty f3 f4 C.hown C.hK w1 w2 w3 q0 e1 f1 k hk (by rw [t2, t3]; exact C.hts _ hl) (by rw [t1, t2, t3]; exact hsame) (by rw [t4]; exact hfb) (by rw [t3]; exact hd) hn hfit hlen d (fun H locs g1 g2 g3 => kk H locs ?_)
      rw [← e2, hS] at g1 g2
      exact ⟨g1, g2, g3, w4, w5⟩
    | true =>
      refine va_putF (D := gD G) (ci := ci) (v := v) (ty := fty) (C := Cn) (T := T) (N := N) (own := y.cls) (ref := ref) C.hx C.hb C.hts f2 ty f3 f4 C.hown C.hK w1 w2 w3 q0 e1 f1 k hk (by rw [t2, t3]; exact C.hts _ hl) (by rw [t1, t2, t3]; exact hsame) (by rw [t4]; exact hfb) (by rw [C.hname]; exact hf) (by rw [t1]; exact hdc) (by rw [t3]; exact hd) hn hfit hlen d (fun H locs g1 g2 g3 => kk H locs ?_)
      rw [← e2, hS] at g1 g2
      exact ⟨g1, g2, g3, w4, w5⟩
theorem k_iast (C : Cx p s m args meth c G y cc n ret) (hW : Ws G A s S H locs) (i j : Nat) {seg : va_W} {a cA N k : Nat} {f : Nat → Int32} (hi : S[i]? = some seg) (hj : seg[j]? = some (a, .inl (cA, N, .inl f))) (ht : (gT G)[0]? = some (cA, .int) := by rfl) (hk : k < N) (hN : N < 2 ^ 31) {x : Int32} (d : decode cc pc = .ok (.iastore, 1)) (hS : S.set i (seg.set j (a, .inl (cA, N, .inl (upd f k x)))) = S')
    (kk : ∀ (H : Heap) (locs : List Loc), Ws G A s S' H locs → W p l e R s m args below meth c H locs cells slots Q (F0 m (pc + 1) ls rest)) : W p l e R s m args below meth c H locs cells slots Q (F0 m pc ls (.int x :: .int (nI k) :: .ref a :: rest)) := by
  obtain ⟨q0, e1, e2⟩ := seg_place hi hj
  obtain ⟨w1, w2, w3, w4, w5⟩ := hW
  refine va_iast (D := gD G) C.hx C.hb C.hK w1 w2 w3 q0 0 e1 ht (vp_in_nI hk hN) d (fun H locs g1 g2 g3 => kk H locs ?_)
  rw [nI_clamp (by omega)] at g1 g2
  rw [← e2, hS] at g1 g2
  exact ⟨g1, g2, g3, w4, w5⟩
theorem k_last (C : Cx p s m args meth c G y cc n ret) (hW : Ws G A s S H locs) (i j : Nat) {seg : va_W} {a cA N k : Nat} {f : Nat → Int64} (hi : S[i]? = some seg) (hj : seg[j]? = some (a, .inl (cA, N, .inr (.inl f)))) (ht : (gT G)[1]? = some (cA, .long) := by rfl) (hk : k < N) (hN : N < 2 ^ 31) {x : Int64} (d : decode cc pc = .ok (.lastore, 1)) (hS : S.set i (seg.set j (a, .inl (cA, N, .inr (.inl (vp_updL f k x))))) = S')
    (kk : ∀ (H : Heap) (locs : List Loc), Ws G A s S' H locs → W p l e R s m args below meth c H locs cells slots Q (F0 m (pc + 1) ls rest)) : W p l e R s m args below meth c H locs cells slots Q (F0 m pc ls (.long x :: .int (nI k) :: .ref a :: rest)) := by
  obtain ⟨q0, e1, e2⟩ := seg_place hi hj
  obtain ⟨w1, w2, w3, w4, w5⟩ := hW
  refine va_last (D := gD G) C.hx C.hb C.hK w1 w2 w3 q0 1 e1 ht (vp_in_nI hk hN) d (fun H locs g1 g2 g3 => kk H locs ?_)
  rw [nI_clamp (by omega)] at g1 g2
  rw [← e2, hS] at g1 g2
  exact ⟨g1, g2, g3, w4, w5⟩
theorem k_new (C : Cx p s m args meth c G y cc n ret) {ci : Nat} {Cn : String} {T : u_T} {N : Nat} {ty : Nat → FieldType} (F : ClF ci Cn T N ty) (hW : Ws G A s S H locs) {own : String} {index : Nat} (hcl : Cond.classLink own index Cn ∈ lw_all) (ho : own = y.cls) (hin : Cond.instantiable Cn N ∈ lw_all) (hini : Cond.initialized Cn ∈ lw_all) {fs : List Value} (hfs : ∀ j, j < N → defaultValue (ty j) = vp_V fs j) (hc : cells + 1 ≤ R.cells) (hs : slots + N ≤ R.slots) (d : decode cc pc = .ok (.new index, 3))
    (kk : ∀ (q : Nat) (H : Heap), Ws G A s (S ++ [[(q, .inr (ci, fs))]]) H locs → W p l e R s m args below meth c H locs (cells + 1) (slots + N) Q (F0 m (pc + 3) ls (.ref q :: rest))) : W p l e R s m args below meth c H locs cells slots Q (F0 m pc ls rest) := by
  obtain ⟨f1, f2, f3, f4⟩ := F
  obtain ⟨w1, w2, w3, w4, w5⟩ := hW
  subst ho
  refine va_new (D := gD G) (ci := ci) (fs := fs) (C := Cn) (T := T) (N := N) (own := y.cls) C.hx C.hb C.hts f2 ty f3 C.hown (C.hts _ hcl) (C.hts _ hin) (C.hts _ hini) C.hK w1 w2 w3 w4 f1 hfs hc hs d (fun q H g1 g2 g3 => kk q H ⟨?_, ?_, g3, w4, w5⟩)
  · rw [List.flatten_append]; exact g1
  · rw [List.flatten_append]; exact g2
theorem k_newa (C : Cx p s m args meth c G y cc n ret) (hW : Ws G A s S H locs) {atype : ArrayType} {ty : FieldType} {cA : ClassId} (t : Nat) (ht : (gT G)[t]? = some (cA, ty)) (harr : Cond.arrayClass (newarray.typeOf atype) ∈ lw_all) (hty : newarray.typeOf atype = ty) (hpr : ∀ E, ty ≠ .object E) {N : Nat} {a0 : vp_A} (ha : ∀ cA : ClassId, vp_cell cA a0 = arrV cA N (fun _ => defaultValue ty)) (hN : N < 2 ^ 26) (hb8 : componentBytes ty ≤ 8) (hc : cells + 1 ≤ R.cells) (hs : slots + N ≤ R.slots) (d : decode cc pc = .ok (.newarray atype, 2))
    (kk : ∀ (q : Nat) (H : Heap), Ws G A s (S ++ [[(q, .inl (cA, a0))]]) H locs → W p l e R s m args below meth c H locs (cells + 1) (slots + N) Q (F0 m (pc + 2) ls (.ref q :: rest))) : W p l e R s m args below meth c H locs cells slots Q (F0 m pc ls (.int (nI N) :: rest)) := by
  obtain ⟨w1, w2, w3, w4, w5⟩ := hW
  have hbytes : N * componentBytes ty ≤ 536870912 := Nat.le_trans (Nat.mul_le_mul_left _ hb8) (by omega)
  refine va_newa (D := gD G) C.hx C.hb (C.hts _ harr) hty C.hK w1 w2 w3 w4 ha (nI_pos (by omega)) (nI_clamp (by omega)) hbytes hc hs d (fun q cA1 H g0 g1 g2 g3 => ?_)
  have e1 := (C.hK.2 t _ ht).2
  have e2 := (g0.2 (gT G).length _ (by rw [List.getElem?_append_right (Nat.le_refl _), Nat.sub_self]; rfl)).2
  have e3 : cA1 = cA := by
    cases ty with
    | object E => exact absurd rfl (hpr E)
    | _ => exact Option.some.inj (e2.symm.trans e1)
  subst e3
  refine kk q H ⟨?_, ?_, g3, w4, w5⟩
  · rw [List.flatten_append]; exact g1
  · rw [List.flatten_append]; exact g2
theorem k_newq (C : Cx p s m args meth c G y cc n ret) (hW : Ws G A s S H locs) {own E : String} {index : Nat} {cA : ClassId} (t : Nat) (ht : (gT G)[t]? = some (cA, .object E)) (hcl : Cond.classLink own index E ∈ lw_all) (ho : own = y.cls) (hao : Cond.arrayOver (.object E) ∈ lw_tbl) {N : Nat} (hN : N < 2 ^ 26) (hc : cells + 1 ≤ R.cells) (hs : slots + N ≤ R.slots) (d : decode cc pc = .ok (.anewarray index, 3))
    (kk : ∀ (q : Nat) (H : Heap), Ws G A s (S ++ [[(q, .inl (cA, N, .inr (.inr (.inr (.inr (fun _ => none))))))]]) H locs → W p l e R s m args below meth c H locs (cells + 1) (slots + N) Q (F0 m (pc + 3) ls (.ref q :: rest))) : W p l e R s m args below meth c H locs cells slots Q (F0 m pc ls (.int (nI N) :: rest)) := by
  obtain ⟨w1, w2, w3, w4, w5⟩ := hW
  subst ho
  refine va_newq (D := gD G) (own := y.cls) C.hx C.hb C.hown (C.hts _ hcl) (C.hX.2.2.2.1 E hao) C.hK w1 w2 w3 w4 (nI_pos (by omega)) (nI_clamp (by omega)) (by omega) hc hs d (fun q cA1 H g0 g1 g2 g3 => ?_)
  have e1 := (C.hK.2 t _ ht).2
  have e2 := (g0.2 (gT G).length _ (by rw [List.getElem?_append_right (Nat.le_refl _), Nat.sub_self]; rfl)).2
  have e3 : cA1 = cA := by
    obtain ⟨_, _, _, _, _, a1⟩ := e1
    obtain ⟨_, _, _, _, _, a2⟩ := e2
    exact Option.some.inj (a2.symm.trans a1)
  subst e3
  refine kk q H ⟨?_, ?_, g3, w4, w5⟩
  · rw [List.flatten_append]; exact g1
  · rw [List.flatten_append]; exact g2
theorem k_bast (C : Cx p s m args meth c G y cc n ret) (hW : Ws G A s S H locs) (i j : Nat) {seg : va_W} {a cA N k : Nat} {f : Nat → Int32} (hi : S[i]? = some seg) (hj : seg[j]? = some (a, .inl (cA, N, .inl f))) (ht : (gT G)[3]? = some (cA, .byte) := by rfl) (hk : k < N) (hN : N < 2 ^ 31) {x : Int32} (d : decode cc pc = .ok (.bastore, 1)) (hS : S.set i (seg.set j (a, .inl (cA, N, .inl (upd f k (vp_nar .byte x))))) = S')
    (kk : ∀ (H : Heap) (locs : List Loc), Ws G A s S' H locs → W p l e R s m args below meth c H locs cells slots Q (F0 m (pc + 1) ls rest)) : W p l e R s m args below meth c H locs cells slots Q (F0 m pc ls (.int x :: .int (nI k) :: .ref a :: rest)) := by
  obtain ⟨q0, e1, e2⟩ := seg_place hi hj
  obtain ⟨w1, w2, w3, w4, w5⟩ := hW
  refine va_bast (D := gD G) C.hx C.hb C.hK w1 w2 w3 q0 3 e1 ht (vp_in_nI hk hN) d (fun H locs g1 g2 g3 => kk H locs ?_)
  rw [nI_clamp (by omega)] at g1 g2
  rw [← e2, hS] at g1 g2
  exact ⟨g1, g2, g3, w4, w5⟩
theorem k_zast (C : Cx p s m args meth c G y cc n ret) (hW : Ws G A s S H locs) (i j : Nat) {seg : va_W} {a cA N k : Nat} {f : Nat → Int32} (hi : S[i]? = some seg) (hj : seg[j]? = some (a, .inl (cA, N, .inl f))) (ht : (gT G)[2]? = some (cA, .boolean) := by rfl) (hk : k < N) (hN : N < 2 ^ 31) {x : Int32} (d : decode cc pc = .ok (.bastore, 1)) (hS : S.set i (seg.set j (a, .inl (cA, N, .inl (upd f k (vp_nar .boolean x))))) = S')
    (kk : ∀ (H : Heap) (locs : List Loc), Ws G A s S' H locs → W p l e R s m args below meth c H locs cells slots Q (F0 m (pc + 1) ls rest)) : W p l e R s m args below meth c H locs cells slots Q (F0 m pc ls (.int x :: .int (nI k) :: .ref a :: rest)) := by
  obtain ⟨q0, e1, e2⟩ := seg_place hi hj
  obtain ⟨w1, w2, w3, w4, w5⟩ := hW
  refine va_zast (D := gD G) C.hx C.hb C.hK w1 w2 w3 q0 2 e1 ht (vp_in_nI hk hN) d (fun H locs g1 g2 g3 => kk H locs ?_)
  rw [nI_clamp (by omega)] at g1 g2
  rw [← e2, hS] at g1 g2
  exact ⟨g1, g2, g3, w4, w5⟩
theorem k_recv (C : Cx p s m args meth c G y cc n ret) {ci : Nat} {Cn : String} {T : u_T} {N : Nat} {ty : Nat → FieldType} (F : ClF ci Cn T N ty) {a : Nat} {fs : List Value} (hx : roAt G (a, .inr (ci, fs)) H) : ∃ cell : Cell, H[a]? = some cell ∧ cell.vm.isStatics = false ∧ s.vm.findClass Cn = some cell.cls := by
  obtain ⟨r, h1, cell, q1, q2, q3, q5, q4⟩ := hx
  obtain ⟨f1, -⟩ := F
  obtain ⟨hS, hfc, -⟩ := C.hK.1 ci _ f1
  exact ⟨cell, q1, q5, by rw [q2]; exact hfc⟩
theorem kObj : ∀ ci, ci < 24 → ∃ r : vw_C, kcl[ci]? = some r ∧ Cond.castable r.1 "java/lang/Object" ∈ lw_tbl := by
  intro ci h
  match ci, h with
  | 0, _ => exact ⟨_, rfl, q2681⟩
  | 1, _ => exact ⟨_, rfl, q2679⟩
  | 2, _ => exact ⟨_, rfl, q2680⟩
  | 3, _ => exact ⟨_, rfl, q2688⟩
  | 4, _ => exact ⟨_, rfl, q2695⟩
  | 5, _ => exact ⟨_, rfl, q2697⟩
  | 6, _ => exact ⟨_, rfl, q2706⟩
  | 7, _ => exact ⟨_, rfl, q2708⟩
  | 8, _ => exact ⟨_, rfl, q2710⟩
  | 9, _ => exact ⟨_, rfl, q2711⟩
  | 10, _ => exact ⟨_, rfl, q2682⟩
  | 11, _ => exact ⟨_, rfl, q2683⟩
  | 12, _ => exact ⟨_, rfl, q2684⟩
  | 13, _ => exact ⟨_, rfl, q2685⟩
  | 14, _ => exact ⟨_, rfl, q2686⟩
  | 15, _ => exact ⟨_, rfl, q2687⟩
  | 16, _ => exact ⟨_, rfl, q2691⟩
  | 17, _ => exact ⟨_, rfl, q2694⟩
  | 18, _ => exact ⟨_, rfl, q2693⟩
  | 19, _ => exact ⟨_, rfl, q2696⟩
  | 20, _ => exact ⟨_, rfl, q2699⟩
  | 21, _ => exact ⟨_, rfl, q2700⟩
  | 22, _ => exact ⟨_, rfl, q2703⟩
  | 23, _ => exact ⟨_, rfl, q2709⟩
  | n + 24, h => omega
theorem k_any (C : Cx p s m args meth c G y cc n ret) {a : Nat} (hx : roLv G a H) : va_Any "java/lang/Object" s H a := by
  obtain ⟨cell, ci, h1, h2, h3, h4⟩ := hx
  obtain ⟨r, e1, e2⟩ := kObj ci h3
  obtain ⟨hS, hfc, kC, hkC, -⟩ := C.hK.1 ci _ e1
  refine ⟨cell, h1, h2, ⟨kC, by rw [h4]; exact hkC⟩, fun comp h => ?_⟩
  rw [h4]
  exact vb_asgC (C.hX.nw e2 rfl) comp _ h hfc
theorem k_aast (C : Cx p s m args meth c G y cc n ret) (hW : Ws G A s S H locs) (i j : Nat) {seg : va_W} {a cA N k v : Nat} {f : Nat → Option Nat} (hi : S[i]? = some seg) (hj : seg[j]? = some (a, .inl (cA, N, .inr (.inr (.inr (.inr f)))))) (ht : (gT G)[4]? = some (cA, .object "java/lang/Object") := by rfl) (hv : roLv G v H) (hk : k < N) (hN : N < 2 ^ 31) (d : decode cc pc = .ok (.aastore, 1)) (hS : S.set i (seg.set j (a, .inl (cA, N, .inr (.inr (.inr (.inr (va_up f k (some v)))))))) = S')
    (kk : ∀ (H : Heap) (locs : List Loc), Ws G A s S' H locs → W p l e R s m args below meth c H locs cells slots Q (F0 m (pc + 1) ls rest)) : W p l e R s m args below meth c H locs cells slots Q (F0 m pc ls (.ref v :: .int (nI k) :: .ref a :: rest)) := by
  obtain ⟨q0, e1, e2⟩ := seg_place hi hj
  have hany := k_any C hv
  obtain ⟨w1, w2, w3, w4, w5⟩ := hW
  refine va_astqM (D := gD G) C.hx C.hb C.hK w1 w2 w3 q0 4 e1 ht hany (vp_in_nI hk hN) d (fun H locs g1 g2 g3 => kk H locs ?_)
  rw [nI_clamp (by omega)] at g1 g2
  rw [← e2, hS] at g1 g2
  exact ⟨g1, g2, g3, w4, w5⟩
theorem k_aastX (C : Cx p s m args meth c G y cc n ret) (hW : Ws G A s S H locs) {ci : Nat} {Cn : String} {T : u_T} {NF : Nat} {ty : Nat → FieldType} (F : ClF ci Cn T NF ty) (t i j : Nat) {seg : va_W} {a cA N k v : Nat} {fs : List Value} {f : Nat → Option Nat} (hi : S[i]? = some seg) (hj : seg[j]? = some (a, .inl (cA, N, .inr (.inr (.inr (.inr f)))))) (ht : (gT G)[t]? = some (cA, .object Cn)) (hv : roAt G (v, .inr (ci, fs)) H) (hk : k < N) (hN : N < 2 ^ 31) (d : decode cc pc = .ok (.aastore, 1)) (hS : S.set i (seg.set j (a, .inl (cA, N, .inr (.inr (.inr (.inr (va_up f k (some v)))))))) = S')
    (kk : ∀ (H : Heap) (locs : List Loc), Ws G A s S' H locs → W p l e R s m args below meth c H locs cells slots Q (F0 m (pc + 1) ls rest)) : W p l e R s m args below meth c H locs cells slots Q (F0 m pc ls (.ref v :: .int (nI k) :: .ref a :: rest)) := by
  obtain ⟨q0, e1, e2⟩ := seg_place hi hj
  have hany : va_Any Cn s H v := by
    obtain ⟨cell, h1, h2, h3⟩ := k_recv C F hv
    obtain ⟨kC, hkC, -⟩ := Vm.findClass_spec h3
    exact ⟨cell, h1, h2, ⟨kC, hkC⟩, fun comp h => vb_asgS comp _ h h3⟩
  obtain ⟨w1, w2, w3, w4, w5⟩ := hW
  refine va_astqM (D := gD G) C.hx C.hb C.hK w1 w2 w3 q0 t e1 ht hany (vp_in_nI hk hN) d (fun H locs g1 g2 g3 => kk H locs ?_)
  rw [nI_clamp (by omega)] at g1 g2
  rw [← e2, hS] at g1 g2
  exact ⟨g1, g2, g3, w4, w5⟩
theorem k_aastN (C : Cx p s m args meth c G y cc n ret) (hW : Ws G A s S H locs) (t i j : Nat) {seg : va_W} {a cA N k : Nat} {E : String} {f : Nat → Option Nat} (hi : S[i]? = some seg) (hj : seg[j]? = some (a, .inl (cA, N, .inr (.inr (.inr (.inr f)))))) (ht : (gT G)[t]? = some (cA, .object E)) (hk : k < N) (hN : N < 2 ^ 31) (d : decode cc pc = .ok (.aastore, 1)) (hS : S.set i (seg.set j (a, .inl (cA, N, .inr (.inr (.inr (.inr (va_up f k none))))))) = S')
    (kk : ∀ (H : Heap) (locs : List Loc), Ws G A s S' H locs → W p l e R s m args below meth c H locs cells slots Q (F0 m (pc + 1) ls rest)) : W p l e R s m args below meth c H locs cells slots Q (F0 m pc ls (.null :: .int (nI k) :: .ref a :: rest)) := by
  obtain ⟨q0, e1, e2⟩ := seg_place hi hj
  obtain ⟨w1, w2, w3, w4, w5⟩ := hW
  refine va_astqN (D := gD G) C.hx C.hb C.hK w1 w2 w3 q0 t e1 ht (vp_in_nI hk hN) d (fun H locs g1 g2 g3 => kk H locs ?_)
  rw [nI_clamp (by omega)] at g1 g2
  rw [← e2, hS] at g1 g2
  exact ⟨g1, g2, g3, w4, w5⟩
theorem k_castY (C : Cx p s m args meth c G y cc n ret) {ci : Nat} {Cn : String} {T : u_T} {N : Nat} {ty : Nat → FieldType} (F : ClF ci Cn T N ty) {a : Nat} {fs : List Value} (hx : roAt G (a, .inr (ci, fs)) H) {own nm : String} {index : Nat} (hl : Cond.classLink own index nm ∈ lw_all) (ho : own = y.cls) (hc : Cond.castable Cn nm ∈ lw_tbl) (d : decode cc pc = .ok (.checkcast index, 3))
    (kk : W p l e R s m args below meth c H locs cells slots Q (F0 m (pc + 3) ls (.ref a :: rest))) : W p l e R s m args below meth c H locs cells slots Q (F0 m pc ls (.ref a :: rest)) := by
  subst ho
  exact va_castY C.hx C.hb C.hown (C.hts _ hl) (C.hX.nw hc rfl) (k_recv C F hx) d kk
theorem k_castS (C : Cx p s m args meth c G y cc n ret) {ci : Nat} {Cn : String} {T : u_T} {N : Nat} {ty : Nat → FieldType} (F : ClF ci Cn T N ty) {a : Nat} {fs : List Value} (hx : roAt G (a, .inr (ci, fs)) H) {own : String} {index : Nat} (hl : Cond.classLink own index Cn ∈ lw_all) (ho : own = y.cls) (d : decode cc pc = .ok (.checkcast index, 3))
    (kk : W p l e R s m args below meth c H locs cells slots Q (F0 m (pc + 3) ls (.ref a :: rest))) : W p l e R s m args below meth c H locs cells slots Q (F0 m pc ls (.ref a :: rest)) := by
  subst ho
  exact va_castS C.hx C.hb C.hown (C.hts _ hl) (C.hK.1 ci _ F.1).2 (k_recv C F hx) d kk
theorem k_instY (C : Cx p s m args meth c G y cc n ret) {ci : Nat} {Cn : String} {T : u_T} {N : Nat} {ty : Nat → FieldType} (F : ClF ci Cn T N ty) {a : Nat} {fs : List Value} (hx : roAt G (a, .inr (ci, fs)) H) {own : String} {index : Nat} (hl : Cond.classLink own index Cn ∈ lw_all) (ho : own = y.cls) (d : decode cc pc = .ok (.instanceof index, 3))
    (kk : W p l e R s m args below meth c H locs cells slots Q (F0 m (pc + 3) ls (.int 1 :: rest))) : W p l e R s m args below meth c H locs cells slots Q (F0 m pc ls (.ref a :: rest)) := by
  subst ho
  exact va_instS C.hx C.hb C.hown (C.hts _ hl) (C.hK.1 ci _ F.1).2 (k_recv C F hx) d kk
theorem k_instN (C : Cx p s m args meth c G y cc n ret) {ci : Nat} {Cn nm : String} {T : u_T} {N : Nat} {ty : Nat → FieldType} (F : ClF ci Cn T N ty) {a : Nat} {fs : List Value} (hx : roAt G (a, .inr (ci, fs)) H) {own : String} {index : Nat} (hl : Cond.classLink own index nm ∈ lw_all) (ho : own = y.cls) (hq : (Cn, nm) ∈ kNcL) (d : decode cc pc = .ok (.instanceof index, 3))
    (kk : W p l e R s m args below meth c H locs cells slots Q (F0 m (pc + 3) ls (.int 0 :: rest))) : W p l e R s m args below meth c H locs cells slots Q (F0 m pc ls (.ref a :: rest)) := by
  subst ho
  exact va_instNo C.hx C.hb C.hown (C.hts _ hl) (C.hX.2.2.2.2.1 _ hq) (k_recv C F hx) d kk
theorem k_gets (C : Cx p s m args meth c G y cc n ret) (hW : Ws G A s S H locs) {own nm ds ref : String} {v : Value} {index : Nat} (hz : (ref, nm, ds, v) ∈ kZ G) (hl : Cond.fieldLink own index ref nm ds ∈ lw_all) (ho : own = y.cls) (d : decode cc pc = .ok (.getstatic index, 3))
    (kk : W p l e R s m args below meth c H locs cells slots Q (F0 m (pc + 3) ls (v :: rest))) : W p l e R s m args below meth c H locs cells slots Q (F0 m pc ls rest) := by
  subst ho
  obtain ⟨-, -, -, -, -, -, h7, -⟩ := C.hX
  exact va_gets C.hx C.hb ((h7 _ hz).narrow hW.2.2.2.2) hW.2.2.1 C.hown (C.hts _ hl) (fun _ h => h) d kk
theorem k_ldcS (C : Cx p s m args meth c G y cc n ret) {own tx : String} {index q : Nat} (hz : (own, index, tx, q) ∈ kS G) (ho : own = y.cls) (d : decode cc pc = .ok (.ldc index, 2))
    (kk : W p l e R s m args below meth c H locs cells slots Q (F0 m (pc + 2) ls (.ref q :: rest))) : W p l e R s m args below meth c H locs cells slots Q (F0 m pc ls rest) := by
  subst ho
  obtain ⟨-, -, -, -, -, -, -, h8, -⟩ := C.hX
  exact va_ldcS C.hx C.hb C.hown (h8 _ hz) d kk
/-! calls -/
variable {fr lo mc ms nm index : Nat} {av As : List Value} {Sc Sr : List va_W} {Rp : roI → Prop} {Qp : Option Value → List va_W → Prop} {y1 : MethodName} {b1 : ByteArray} {n1 : Nat} {ret1 : Option FieldType} {st0 : List Value} {own C1 : String}
theorem k_preU (C : Cx p s m args meth c G y cc n ret) (hW : Ws G A s S H locs) (hp : S.flatten.Perm (Sr ++ Sc).flatten) (hR : ∀ x, Rp x → (∃ z, x = .inl z ∧ z ∈ Sr.flatten) ∨ (∃ z, x = .inr z.1 ∧ z ∈ Sr.flatten ∧ roLv G z.1 H) ∨ Ro G A s x) : ∀ U : State, U.heap = H → s.WarmedH U.vm → cPre G av Sc Rp H.size av.toArray U := by
  intro U hU hWm
  have hW2 := hW.perm hp
  obtain ⟨w1, w2, w3, w4, w5⟩ := hW2
  rw [List.flatten_append] at w1 w2
  obtain ⟨d1, d2⟩ := va_D_pw.mp w2
  obtain ⟨e1, e2, e3⟩ := List.pairwise_append.mp d1
  have hB : gB G ≤ H.size := Nat.le_trans (w5 _ (w4 _ (Nat.le_refl _))) w3.1
  refine ⟨rfl, by rw [hU], va_P_mem.mpr fun q hq => by rw [hU]; exact va_P_mem.mp w1 q (List.mem_append_right _ hq), va_D_pw.mpr ⟨e2, fun q hq => w5 _ (d2 q (List.mem_append_right _ hq))⟩, fun x hx => ?_, C.hX.go hWm (fun q hq => ?_) (by rw [hU]; exact hB), hB⟩
  · rw [hU]
    rcases hR x hx with ⟨z, rfl, h⟩ | ⟨z, rfl, h, h'⟩ | h
    · exact ⟨roAt.of (va_P_mem.mp w1 z (List.mem_append_left _ h)), fun y hy e => e3 z h y hy e.symm⟩
    · exact ⟨h', fun y hy e => e3 z h y hy e.symm⟩
    · exact ⟨h.atI hW, fun y hy e => h.2 (by rw [← e]; exact d2 y (List.mem_append_right _ hy))⟩
  · rw [hU]
    have hb := w5 _ (w4 _ (Nat.le_refl _))
    exact w3.2.1 q (by omega) (fun h => absurd (w5 q h) (by omega))
theorem k_after (hW : Ws G A s S H locs) (hp : S.flatten.Perm (Sr ++ Sc).flatten) {H1 : Heap} {locs1 : List Loc} {S1 : List va_W} (hz : H.size ≤ H1.size) (hk : ∀ q : Nat, q < H.size → ¬ va_A Sc.flatten H.size q → H1[q]? = H[q]?) (hL : ∀ q ∈ locs1, va_A Sc.flatten H.size q.base) (hP1 : va_P (gD G) kcl S1.flatten H1) (hD1 : va_D (va_A Sc.flatten H.size) S1.flatten) : Ws G A s (Sr ++ S1) H1 (locs ++ locs1) := by
  obtain ⟨w1, w2, w3, w4, w5⟩ := hW.perm hp
  rw [List.flatten_append] at w1 w2
  obtain ⟨d1, d2⟩ := va_D_pw.mp w2
  obtain ⟨e1, e2, e3⟩ := List.pairwise_append.mp d1
  have hF : ∀ q, va_A Sc.flatten H.size q → A q := by
    intro q hq
    rcases hq with ⟨k, e', hk⟩ | hq
    · exact d2 _ (List.mem_append_right _ (List.mem_of_getElem? hk))
    · exact w4 q (Nat.le_trans w3.1 hq)
  have hr : ∀ q ∈ Sr.flatten, q.1 < H.size ∧ ¬ va_A Sc.flatten H.size q.1 := by
    intro q hq
    have hlt := (va_P_mem.mp w1 q (List.mem_append_left _ hq)).lt
    refine ⟨hlt, fun h => ?_⟩
    rcases h with ⟨k, e', hk⟩ | h
    · exact e3 q hq _ (List.mem_of_getElem? hk) rfl
    · omega
  obtain ⟨g1, g2⟩ := va_D_pw.mp hD1
  refine ⟨?_, ?_, ⟨Nat.le_trans w3.1 hz, fun q h1 h2 => ?_, fun q hq => ?_⟩, w4, w5⟩
  · rw [List.flatten_append]
    refine va_P_mem.mpr fun q hq => ?_
    rcases List.mem_append.mp hq with h | h
    · exact (va_P_mem.mp w1 q (List.mem_append_left _ h)).kept (hk _ (hr q h).1 (hr q h).2)
    · exact va_P_mem.mp hP1 q h
  · rw [List.flatten_append]
    refine va_D_pw.mpr ⟨List.pairwise_append.mpr ⟨e1, g1, fun x hx z hz e => ?_⟩, fun q hq => ?_⟩
    · exact (hr x hx).2 (by rw [show x.1 = z.1 from e]; exact g2 z hz)
    · rcases List.mem_append.mp hq with h | h
      · exact d2 q (List.mem_append_left _ h)
      · exact hF _ (g2 q h)
  · rw [hk q (Nat.lt_of_lt_of_le h1 w3.1) (fun h => h2 (hF q h))]
    exact w3.2.1 q h1 h2
  · rcases List.mem_append.mp hq with h | h
    · exact w3.2.2 q h
    · exact hF _ (hL q h)
theorem k_call {a : Array Value} (hr : va_Run p l e R s m args below meth c H locs cells slots mc ms (F0 m pc ls st0) rest (cQ G (va_A Sc.flatten H.size) Qp a) (va_A Sc.flatten H.size)) (hW : Ws G A s S H locs) (hp : S.flatten.Perm (Sr ++ Sc).flatten)
    (kk : ∀ (v : Option Value) (H1 : Heap) (locs1 : List Loc) (S1 : List va_W), Qp v S1 → H.size ≤ H1.size → Ws G A s (Sr ++ S1) H1 locs1 → W p l e R s m args below meth c H1 locs1 (cells + mc) (slots + ms) Q (F0 m (pc + 3) ls (v.toList ++ rest))) : W p l e R s m args below meth c H locs cells slots Q (F0 m pc ls st0) := by
  intro T hT X
  obtain ⟨v0, st₀, t, T', L, h0, X', hL, e1, e2, ⟨⟨v, S1, hv, hq, hP1, hD1⟩, hz, hk⟩, st⟩ := hr T hT X
  cases hv
  rw [h0] at hz hk
  have hW1 := k_after hW hp (H1 := T'.heap) (locs1 := L) (S1 := S1) (by rw [e1]; exact hz) (fun q h1 h2 => by rw [e1]; exact hk q h1 h2) hL (by rw [e1]; exact hP1) hD1
  obtain ⟨t2, a1, b1⟩ := kk v0 T'.heap (locs ++ L) S1 hq (by rw [e1]; exact hz) hW1 T' rfl X'
  exact ⟨t2, st t2 a1, b1⟩
theorem k_call5 {a : Array Value} (hr : va_Run5 p l e R s m args below meth c H locs cells slots mc ms (F0 m pc ls st0) rest (cQ G (va_A Sc.flatten H.size) Qp a) (va_A Sc.flatten H.size)) (hW : Ws G A s S H locs) (hp : S.flatten.Perm (Sr ++ Sc).flatten)
    (kk : ∀ (v : Option Value) (H1 : Heap) (locs1 : List Loc) (S1 : List va_W), Qp v S1 → H.size ≤ H1.size → Ws G A s (Sr ++ S1) H1 locs1 → W p l e R s m args below meth c H1 locs1 (cells + mc) (slots + ms) Q (F0 m (pc + 5) ls (v.toList ++ rest))) : W p l e R s m args below meth c H locs cells slots Q (F0 m pc ls st0) := by
  intro T hT X
  obtain ⟨v0, st₀, t, T', L, h0, X', hL, e1, e2, ⟨⟨v, S1, hv, hq, hP1, hD1⟩, hz, hk⟩, st⟩ := hr T hT X
  cases hv
  rw [h0] at hz hk
  have hW1 := k_after hW hp (H1 := T'.heap) (locs1 := L) (S1 := S1) (by rw [e1]; exact hz) (fun q h1 h2 => by rw [e1]; exact hk q h1 h2) hL (by rw [e1]; exact hP1) hD1
  obtain ⟨t2, a1, b1⟩ := kk v0 T'.heap (locs ++ L) S1 hq (by rw [e1]; exact hz) hW1 T' rfl X'
  exact ⟨t2, st t2 a1, b1⟩
theorem k_cat {rest : List Value} (h : rest.length ≤ 4) : (rest.map fun v => v.category).sum ≤ 8 := by
  have key : ∀ l : List Value, (l.map fun v => v.category).sum ≤ 2 * l.length := by
    intro l
    induction l with
    | nil => simp
    | cons a t ih =>
      have : a.category ≤ 2 := by cases a <;> simp [Value.category]
      simp only [List.map_cons, List.sum_cons, List.length_cons]
      omega
  have := key rest
  omega
abbrev notMH (y : MethodName) (k : Nat) : Prop := y.cls ≠ "java/lang/invoke/MethodHandle" ∧ y.cls ≠ "java/lang/invoke/VarHandle" ∧ (parseMethodDescriptor y.desc).map (fun d => d.parameters.length) = some k
/-- invokevirtual of a method that the receiver's class has itself -/
theorem k_callV {a ci N : Nat} {T : u_T} {ty : Nat → FieldType} {fs : List Value} (C : Cx p s m args meth c G y cc n ret) (hM : Ct l G y1 b1 n1 ret1 fr lo mc ms (.ref a :: As) Sc Rp Qp) (hW : Ws G A s S H locs) (F : ClF ci C1 T N ty) (hx : roAt G (a, .inr (ci, fs)) H) (h1 : Cond.methodLink own index y1 ∈ lw_all) (h2 : Cond.instanceMethod y1 ∈ lw_all) (h3 : Cond.selects C1 y1 y1 ∈ lw_all) (h4 : Cond.initialized C1 ∈ lw_all) (h5 : Cond.code y1 b1 n1 ret1 ∈ lw_all) (ho : own = y.cls) (hy : y1.cls = C1) (hd : notMH y1 As.length) (hfr : fr + 1 ≤ R.frames) (hlo : 8 + (n1 + 11) + lo ≤ R.locals) (hc : cells + mc ≤ R.cells) (hs : slots + ms ≤ R.slots) (hsz : ls.size = n) (hst : st0 = As.reverse ++ .ref a :: rest) (hrest : rest.length ≤ 4) (d : decode cc pc = .ok (.invokevirtual index, 3)) (hp : S.flatten.Perm (Sr ++ Sc).flatten) (hR : ∀ x, Rp x → (∃ z, x = .inl z ∧ z ∈ Sr.flatten) ∨ (∃ z, x = .inr z.1 ∧ z ∈ Sr.flatten ∧ roLv G z.1 H) ∨ Ro G A s x)
    (kk : ∀ (v : Option Value) (H1 : Heap) (locs1 : List Loc) (S1 : List va_W), Qp v S1 → H.size ≤ H1.size → Ws G A s (Sr ++ S1) H1 locs1 → W p l e R s m args below meth c H1 locs1 (cells + mc) (slots + ms) Q (F0 m (pc + 3) ls (v.toList ++ rest))) : W p l e R s m args below meth c H locs cells slots Q (F0 m pc ls st0) := by
  subst ho
  exact k_call (va_runV (own := y.cls) ⟨C.hx, C.hb, C.hml, C.hown, C.hts⟩ (hM H.size) (cwV As.length C.hts (lw_V h1 h2 h3 h4 h5) rfl rfl rfl ⟨hy, hd⟩ ⟨hfr, hlo⟩) ⟨cPre_blind, k_recv C F hx, k_preU C hW hp hR⟩ rfl rfl hsz hst (lv_room (k_cat hrest)) d ⟨hc, hs⟩) hW hp kk
theorem k_callS (C : Cx p s m args meth c G y cc n ret) (hM : Ct l G y1 b1 n1 ret1 fr lo mc ms As Sc Rp Qp) (hW : Ws G A s S H locs) (h1 : Cond.methodLink own index y1 ∈ lw_all) (h2 : Cond.static y1 ∈ lw_all) (h3 : Cond.initialized y1.cls ∈ lw_all) (h5 : Cond.code y1 b1 n1 ret1 ∈ lw_all) (ho : own = y.cls) (hd : notMH y1 As.length) (hfr : fr + 1 ≤ R.frames) (hlo : 8 + (n1 + 11) + lo ≤ R.locals) (hc : cells + mc ≤ R.cells) (hs : slots + ms ≤ R.slots) (hsz : ls.size = n) (hst : st0 = As.reverse ++ rest) (hrest : rest.length ≤ 4) (d : decode cc pc = .ok (.invokestatic index, 3)) (hp : S.flatten.Perm (Sr ++ Sc).flatten) (hR : ∀ x, Rp x → (∃ z, x = .inl z ∧ z ∈ Sr.flatten) ∨ (∃ z, x = .inr z.1 ∧ z ∈ Sr.flatten ∧ roLv G z.1 H) ∨ Ro G A s x)
    (kk : ∀ (v : Option Value) (H1 : Heap) (locs1 : List Loc) (S1 : List va_W), Qp v S1 → H.size ≤ H1.size → Ws G A s (Sr ++ S1) H1 locs1 → W p l e R s m args below meth c H1 locs1 (cells + mc) (slots + ms) Q (F0 m (pc + 3) ls (v.toList ++ rest))) : W p l e R s m args below meth c H locs cells slots Q (F0 m pc ls st0) := by
  subst ho
  exact k_call (va_runS (own := y.cls) ⟨C.hx, C.hb, C.hml, C.hown, C.hts⟩ (hM H.size) (va_cwS As.length C.hts (lw_S h1 h2 h3 h5) rfl rfl rfl hd ⟨hfr, hlo⟩) ⟨cPre_blind, k_preU C hW hp hR⟩ rfl rfl hsz hst (lv_room (k_cat hrest)) d ⟨hc, hs⟩) hW hp kk
theorem k_callI {a : Nat} (C : Cx p s m args meth c G y cc n ret) (hM : Ct l G y1 b1 n1 none fr lo mc ms (.ref a :: As) Sc Rp Qp) (hW : Ws G A s S H locs) (h1 : Cond.methodLink own index y1 ∈ lw_all) (h2 : Cond.instanceMethod y1 ∈ lw_all) (h3 : Cond.initialized y1.cls ∈ lw_all) (h5 : Cond.code y1 b1 n1 none ∈ lw_all) (hy : y1.name = "<init>") (ho : own = y.cls) (hd : notMH y1 As.length) (hfr : fr + 1 ≤ R.frames) (hlo : 8 + (n1 + 11) + lo ≤ R.locals) (hc : cells + mc ≤ R.cells) (hs : slots + ms ≤ R.slots) (hsz : ls.size = n) (hst : st0 = As.reverse ++ .ref a :: rest) (hrest : rest.length ≤ 4) (d : decode cc pc = .ok (.invokespecial index, 3)) (hp : S.flatten.Perm (Sr ++ Sc).flatten) (hR : ∀ x, Rp x → (∃ z, x = .inl z ∧ z ∈ Sr.flatten) ∨ (∃ z, x = .inr z.1 ∧ z ∈ Sr.flatten ∧ roLv G z.1 H) ∨ Ro G A s x)
    (kk : ∀ (v : Option Value) (H1 : Heap) (locs1 : List Loc) (S1 : List va_W), Qp v S1 → H.size ≤ H1.size → Ws G A s (Sr ++ S1) H1 locs1 → W p l e R s m args below meth c H1 locs1 (cells + mc) (slots + ms) Q (F0 m (pc + 3) ls (v.toList ++ rest))) : W p l e R s m args below meth c H locs cells slots Q (F0 m pc ls st0) := by
  subst ho
  exact k_call (va_runI (own := y.cls) ⟨C.hx, C.hb, C.hml, C.hown, C.hts⟩ (hM H.size) (cwI As.length C.hts (lw_meth h5) rfl rfl rfl (C.hts _ h3) (C.hts _ h1) (C.hts _ h2) hy hd ⟨hfr, hlo⟩) ⟨cPre_blind, k_preU C hW hp hR⟩ rfl rfl hsz hst (lv_room (k_cat hrest)) d ⟨hc, hs⟩) hW hp kk
/-- invokevirtual of an inherited method y1 by the name x1 -/
theorem k_callU {a ci N : Nat} {x1 : MethodName} {owner : String} {T : u_T} {ty : Nat → FieldType} {fs : List Value} (C : Cx p s m args meth c G y cc n ret) (hM : Ct l G y1 b1 n1 ret1 fr lo mc ms (.ref a :: As) Sc Rp Qp) (hW : Ws G A s S H locs) (F : ClF ci C1 T N ty) (hx : roAt G (a, .inr (ci, fs)) H) (h1 : Cond.methodLink own index x1 ∈ lw_all) (h6 : Cond.sameMethod x1.cls owner x1.name x1.desc ∈ lw_all) (h3 : Cond.selects C1 x1 y1 ∈ lw_all) (h2 : Cond.instanceMethod y1 ∈ lw_all) (h4 : Cond.initialized y1.cls ∈ lw_all) (h5 : Cond.code y1 b1 n1 ret1 ∈ lw_all) (ho : own = y.cls) (hyx : y1 = ⟨owner, x1.name, x1.desc⟩) (hd : owner ≠ "java/lang/invoke/MethodHandle" ∧ owner ≠ "java/lang/invoke/VarHandle" ∧ (parseMethodDescriptor x1.desc).map (fun d => d.parameters.length) = some As.length) (hfr : fr + 1 ≤ R.frames) (hlo : 8 + (n1 + 11) + lo ≤ R.locals) (hc : cells + mc ≤ R.cells) (hs : slots + ms ≤ R.slots) (hsz : ls.size = n) (hst : st0 = As.reverse ++ .ref a :: rest) (hrest : rest.length ≤ 4) (d : decode cc pc = .ok (.invokevirtual index, 3)) (hp : S.flatten.Perm (Sr ++ Sc).flatten) (hR : ∀ x, Rp x → (∃ z, x = .inl z ∧ z ∈ Sr.flatten) ∨ (∃ z, x = .inr z.1 ∧ z ∈ Sr.flatten ∧ roLv G z.1 H) ∨ Ro G A s x)
    (kk : ∀ (v : Option Value) (H1 : Heap) (locs1 : List Loc) (S1 : List va_W), Qp v S1 → H.size ≤ H1.size → Ws G A s (Sr ++ S1) H1 locs1 → W p l e R s m args below meth c H1 locs1 (cells + mc) (slots + ms) Q (F0 m (pc + 3) ls (v.toList ++ rest))) : W p l e R s m args below meth c H locs cells slots Q (F0 m pc ls st0) := by
  subst ho
  have hG : GoodIn lw_all (va_wsU y.cls index C1 owner x1 y1 (ws_ y1 b1 n1 ret1)) := by
    refine lw_app ?_ (lw_meth h5)
    intro w hw
    simp only [List.mem_cons, List.not_mem_nil, or_false] at hw
    rcases hw with e | e | e | e | e <;> rw [e] <;> assumption
  exact k_call (va_runU (own := y.cls) ⟨C.hx, C.hb, C.hml, C.hown, C.hts⟩ (hM H.size) (va_cwU As.length C.hts hG rfl rfl rfl hyx hd ⟨hfr, hlo⟩) ⟨cPre_blind, k_recv C F hx, k_preU C hW hp hR⟩ rfl rfl hsz hst (lv_room (k_cat hrest)) d ⟨hc, hs⟩) hW hp kk
/-- invokeinterface -/
theorem k_callF {a ci N count : Nat} {x1 : MethodName} {T : u_T} {ty : Nat → FieldType} {fs : List Value} (C : Cx p s m args meth c G y cc n ret) (hM : Ct l G y1 b1 n1 ret1 fr lo mc ms (.ref a :: As) Sc Rp Qp) (hW : Ws G A s S H locs) (F : ClF ci C1 T N ty) (hx : roAt G (a, .inr (ci, fs)) H) (h1 : Cond.methodLink own index x1 ∈ lw_all) (h3 : Cond.selects C1 x1 y1 ∈ lw_all) (h2 : Cond.instanceMethod y1 ∈ lw_all) (h4 : Cond.initialized y1.cls ∈ lw_all) (h5 : Cond.code y1 b1 n1 ret1 ∈ lw_all) (t1 : Cond.declares x1 ∈ lw_tbl) (t2 : Cond.interfaceMethod x1.cls x1.cls x1.name x1.desc ∈ lw_tbl) (t3 : Cond.publicMethod y1 ∈ lw_tbl) (t4 : Cond.unhidden C1 x1.name x1.desc ∈ lw_tbl) (t5 : Cond.castable C1 x1.cls ∈ lw_tbl) (ho : own = y.cls) (hd : notMH x1 As.length) (hfr : fr + 1 ≤ R.frames) (hlo : 8 + (n1 + 11) + lo ≤ R.locals) (hc : cells + mc ≤ R.cells) (hs : slots + ms ≤ R.slots) (hsz : ls.size = n) (hst : st0 = As.reverse ++ .ref a :: rest) (hrest : rest.length ≤ 4) (d : decode cc pc = .ok (.invokeinterface index count, 5)) (hp : S.flatten.Perm (Sr ++ Sc).flatten) (hR : ∀ x, Rp x → (∃ z, x = .inl z ∧ z ∈ Sr.flatten) ∨ (∃ z, x = .inr z.1 ∧ z ∈ Sr.flatten ∧ roLv G z.1 H) ∨ Ro G A s x)
    (kk : ∀ (v : Option Value) (H1 : Heap) (locs1 : List Loc) (S1 : List va_W), Qp v S1 → H.size ≤ H1.size → Ws G A s (Sr ++ S1) H1 locs1 → W p l e R s m args below meth c H1 locs1 (cells + mc) (slots + ms) Q (F0 m (pc + 5) ls (v.toList ++ rest))) : W p l e R s m args below meth c H locs cells slots Q (F0 m pc ls st0) := by
  subst ho
  have hG : GoodIn lw_all (va_wsF y.cls index C1 x1 y1 (ws_ y1 b1 n1 ret1)) := by
    refine lw_app ?_ (lw_meth h5)
    intro w hw
    simp only [List.mem_cons, List.not_mem_nil, or_false] at hw
    rcases hw with e | e | e | e <;> rw [e] <;> assumption
  exact k_call5 (va_runF (own := y.cls) (C.hK.1 ci _ F.1).2 ⟨C.hx, C.hb, C.hml, C.hown, C.hts⟩ (hM H.size) (va_cwF As.length C.hts hG rfl rfl rfl (C.hX.2.2.1 C1 x1 y1 ⟨hd.1, hd.2.1⟩ t1 t2 t3 t4 t5) hd ⟨hfr, hlo⟩) ⟨cPre_blind, k_recv C F hx, k_preU C hW hp hR⟩ rfl rfl hsz hst (lv_room (k_cat hrest)) d ⟨hc, hs⟩) hW hp kk
/-! ends -/
theorem k_end (hW : Ws G A s S' H locs) {v : Option Value} (hq : Qp v S') {a : Array Value} : ∀ t : State, t.heap = H → s.WarmedH t.vm → cQ G A Qp a s (.returned v) t := fun t ht hWm => ⟨⟨v, S', rfl, hq, by rw [ht]; exact hW.1, hW.2.1⟩, hW.2.2.1.F ht⟩
theorem k_iret (C : Cx p s m args meth c G y cc n ret) (hW : Ws G A s S' H locs) (hret : ret = some .int) {v : Int32} (hq : Qp (some (.int v)) S') (hc : cells ≤ mc) (hs : slots ≤ ms) (d : decode cc pc = .ok (.ireturn, 1)) : W p l e R s m args below meth c H locs cells slots (MQ below (cQ G A Qp) args s mc ms A) (F0 m pc ls [.int v]) := by
  refine W.widen hc hs ?_
  exact W.iret C.hx C.hb (by rw [C.hr, hret]) (k_end hW hq) hW.2.2.1.2.2 d C.hlocks
theorem k_zret (C : Cx p s m args meth c G y cc n ret) (hW : Ws G A s S' H locs) {ty : FieldType} (hret : ret = some ty) {v : Int32} (hn : narrow ty (.int v) = .int v) (hq : Qp (some (.int v)) S') (hc : cells ≤ mc) (hs : slots ≤ ms) (d : decode cc pc = .ok (.ireturn, 1)) : W p l e R s m args below meth c H locs cells slots (MQ below (cQ G A Qp) args s mc ms A) (F0 m pc ls [.int v]) := by
  refine W.widen hc hs ?_
  exact W.zret C.hx C.hb (by rw [C.hr, hret]) hn (k_end hW hq) hW.2.2.1.2.2 d C.hlocks
theorem k_lret (C : Cx p s m args meth c G y cc n ret) (hW : Ws G A s S' H locs) (hret : ret = some .long) {v : Int64} (hq : Qp (some (.long v)) S') (hc : cells ≤ mc) (hs : slots ≤ ms) (d : decode cc pc = .ok (.lreturn, 1)) : W p l e R s m args below meth c H locs cells slots (MQ below (cQ G A Qp) args s mc ms A) (F0 m pc ls [.long v]) := by
  refine W.widen hc hs ?_
  exact W.lret C.hx C.hb (by rw [C.hr, hret]) (k_end hW hq) hW.2.2.1.2.2 d C.hlocks
theorem k_fret (C : Cx p s m args meth c G y cc n ret) (hW : Ws G A s S' H locs) (hret : ret = some .float) {v : UInt32} (hq : Qp (some (.float v)) S') (hc : cells ≤ mc) (hs : slots ≤ ms) (d : decode cc pc = .ok (.freturn, 1)) : W p l e R s m args below meth c H locs cells slots (MQ below (cQ G A Qp) args s mc ms A) (F0 m pc ls [.float v]) := by
  refine W.widen hc hs ?_
  exact W.fret C.hx C.hb (by rw [C.hr, hret]) (k_end hW hq) hW.2.2.1.2.2 d C.hlocks
theorem k_dret (C : Cx p s m args meth c G y cc n ret) (hW : Ws G A s S' H locs) (hret : ret = some .double) {v : UInt64} (hq : Qp (some (.double v)) S') (hc : cells ≤ mc) (hs : slots ≤ ms) (d : decode cc pc = .ok (.dreturn, 1)) : W p l e R s m args below meth c H locs cells slots (MQ below (cQ G A Qp) args s mc ms A) (F0 m pc ls [.double v]) := by
  refine W.widen hc hs ?_
  exact W.dret C.hx C.hb (by rw [C.hr, hret]) (k_end hW hq) hW.2.2.1.2.2 d C.hlocks
theorem k_vret (C : Cx p s m args meth c G y cc n ret) (hW : Ws G A s S' H locs) (hret : ret = none) (hq : Qp none S') (hc : cells ≤ mc) (hs : slots ≤ ms) (d : decode cc pc = .ok (.return_, 1)) : W p l e R s m args below meth c H locs cells slots (MQ below (cQ G A Qp) args s mc ms A) (F0 m pc ls []) := by
  refine W.widen hc hs ?_
  exact W.vret C.hx C.hb (by rw [C.hr, hret]) (k_end hW hq) hW.2.2.1.2.2 d C.hlocks
theorem k_aret (C : Cx p s m args meth c G y cc n ret) (hW : Ws G A s S' H locs) {ty : FieldType} (hret : ret = some ty) (hty : (∃ n, ty = .object n) ∨ ∃ t, ty = .array t) {v : Value} (hv : v = .null ∨ ∃ a, v = .ref a) (hq : Qp (some v) S') (hc : cells ≤ mc) (hs : slots ≤ ms) (d : decode cc pc = .ok (.areturn, 1)) : W p l e R s m args below meth c H locs cells slots (MQ below (cQ G A Qp) args s mc ms A) (F0 m pc ls [v]) := by
  refine W.widen hc hs ?_
  exact W.aret C.hx C.hb (by rw [C.hr, hret]) hty hv (k_end hW hq) hW.2.2.1.2.2 d C.hlocks
/-! nest mates -/
theorem k_getN (C : Cx p s m args meth c G y cc n ret) {ci : Nat} {Cn : String} {T : u_T} {N : Nat} {ty : Nat → FieldType} (F : ClF ci Cn T N ty) {a : Nat} {fs : List Value} (hx : roAt G (a, .inr (ci, fs)) H) {own dc nm ds host : String} {fin : Bool} {index : Nat} (k : Nat) (hk : k < N) (hT : T k = (dc, nm, ds, fin)) (hl : Cond.fieldLinkNest own index dc nm ds host ∈ lw_tbl) (ho : own = y.cls) {v : Value} (hv : fs[k]? = some v) (d : decode cc pc = .ok (.getfield index, 3))
    (kk : W p l e R s m args below meth c H locs cells slots Q (F0 m (pc + 3) ls (v :: rest))) : W p l e R s m args below meth c H locs cells slots Q (F0 m pc ls (.ref a :: rest)) := by
  obtain ⟨r, h1, cell, q1, q2, q3, -, q4⟩ := hx
  obtain ⟨f1, f2, f3, f4⟩ := F
  have hr : r = (Cn, T, N) := Option.some.inj (h1.symm.trans f1)
  subst hr
  subst ho
  obtain ⟨hS, hfc, kC, hkC, hkind⟩ := C.hK.1 ci _ f1
  obtain ⟨cf, kf, fi, f, hi, hsl⟩ := hS k hk
  have hst := (u_facts hfc hkC (u_lays C.hts f2 hk) hi).1
  have e1 : (T k).1 = dc := by rw [hT]
  have e2 : (T k).2.1 = nm := by rw [hT]
  have e3 : (T k).2.2.1 = ds := by rw [hT]
  simp only [e1, e2, e3] at hi
  refine va_Wgetf C.hx C.hb C.hown (va_Nw.use rfl (C.hX.nw hl rfl)) hi hst q1 q3 (v := v) ?_ rfl rfl d kk
  rw [hsl, q4 k hk]
  simp [vp_V, hv]
theorem k_putN (C : Cx p s m args meth c G y cc n ret) {ci : Nat} {Cn : String} {T : u_T} {N : Nat} {ty : Nat → FieldType} (F : ClF ci Cn T N ty) (hW : Ws G A s S H locs) (i j : Nat) {seg : va_W} {a : Nat} {fs : List Value} (hi : S[i]? = some seg) (hj : seg[j]? = some (a, .inr (ci, fs))) {own dc nm ds host : String} {fin : Bool} {index : Nat} (k : Nat) (hk : k < N) (hT : T k = (dc, nm, ds, fin)) (hl : Cond.fieldLinkNest own index dc nm ds host ∈ lw_tbl) (ho : own = y.cls) (hfin : fin = false) {fty : FieldType} {v : Value} (hd : parseFieldDescriptor ds = some fty) (hn : narrow fty v = v) (hfit : fits fty v = true) (hlen : k < fs.length) (d : decode cc pc = .ok (.putfield index, 3)) (hS : S.set i (seg.set j (a, .inr (ci, fs.set k v))) = S')
    (kk : ∀ (H : Heap) (locs : List Loc), Ws G A s S' H locs → W p l e R s m args below meth c H locs cells slots Q (F0 m (pc + 3) ls rest)) : W p l e R s m args below meth c H locs cells slots Q (F0 m pc ls (v :: .ref a :: rest)) := by
  obtain ⟨q0, e1, e2⟩ := seg_place hi hj
  obtain ⟨f1, f2, f3, f4⟩ := F
  obtain ⟨w1, w2, w3, w4, w5⟩ := hW
  subst ho
  have t1 : (T k).1 = dc := by rw [hT]
  have t2 : (T k).2.1 = nm := by rw [hT]
  have t3 : (T k).2.2.1 = ds := by rw [hT]
  have t4 : (T k).2.2.2 = fin := by rw [hT]
  refine va_putN (D := gD G) (ci := ci) (v := v) (ty := fty) (C := Cn) (T := T) (N := N) (own := y.cls) (ref := dc) (host := host) C.hx C.hb C.hts f2 ty f3 f4 C.hown C.hK w1 w2 w3 q0 e1 f1 k hk (by rw [t2, t3]; exact va_Nw.use rfl (C.hX.nw hl rfl)) (by rw [t1, t2, t3]; exact fun _ h => h) (by rw [t4]; exact hfin) (by rw [t3]; exact hd) hn hfit hlen d (fun H locs g1 g2 g3 => kk H locs ?_)
  rw [← e2, hS] at g1 g2
  exact ⟨g1, g2, g3, w4, w5⟩
theorem k_callIN {a : Nat} {host : String} (C : Cx p s m args meth c G y cc n ret) (hM : Ct l G y1 b1 n1 none fr lo mc ms (.ref a :: As) Sc Rp Qp) (hW : Ws G A s S H locs) (h1 : Cond.methodLinkNest own index y1 host ∈ lw_tbl) (h2 : Cond.instanceMethod y1 ∈ lw_all) (h3 : Cond.initialized y1.cls ∈ lw_all) (h5 : Cond.code y1 b1 n1 none ∈ lw_all) (hy : y1.name = "<init>") (ho : own = y.cls) (hd : notMH y1 As.length) (hfr : fr + 1 ≤ R.frames) (hlo : 8 + (n1 + 11) + lo ≤ R.locals) (hc : cells + mc ≤ R.cells) (hs : slots + ms ≤ R.slots) (hsz : ls.size = n) (hst : st0 = As.reverse ++ .ref a :: rest) (hrest : rest.length ≤ 4) (d : decode cc pc = .ok (.invokespecial index, 3)) (hp : S.flatten.Perm (Sr ++ Sc).flatten) (hR : ∀ x, Rp x → (∃ z, x = .inl z ∧ z ∈ Sr.flatten) ∨ (∃ z, x = .inr z.1 ∧ z ∈ Sr.flatten ∧ roLv G z.1 H) ∨ Ro G A s x)
    (kk : ∀ (v : Option Value) (H1 : Heap) (locs1 : List Loc) (S1 : List va_W), Qp v S1 → H.size ≤ H1.size → Ws G A s (Sr ++ S1) H1 locs1 → W p l e R s m args below meth c H1 locs1 (cells + mc) (slots + ms) Q (F0 m (pc + 3) ls (v.toList ++ rest))) : W p l e R s m args below meth c H locs cells slots Q (F0 m pc ls st0) := by
  subst ho
  exact k_call (va_runIN (own := y.cls) (host := host) ⟨C.hx, C.hb, C.hml, C.hown, C.hts⟩ (hM H.size) ⟨va_cnB As.length C.hts (lw_meth h5) rfl rfl rfl (C.hX.nw h1 rfl) (C.hts _ h3) hd ⟨hfr, hlo⟩, hy, C.hts _ h2⟩ ⟨cPre_blind, k_preU C hW hp hR⟩ rfl rfl hsz hst (lv_room (k_cat hrest)) d ⟨hc, hs⟩) hW hp kk
/-- an abstract method x1, carried out by y1 -/
theorem k_callA {a ci N : Nat} {x1 : MethodName} {owner : String} {T : u_T} {ty : Nat → FieldType} {fs : List Value} (C : Cx p s m args meth c G y cc n ret) (hM : Ct l G y1 b1 n1 ret1 fr lo mc ms (.ref a :: As) Sc Rp Qp) (hW : Ws G A s S H locs) (F : ClF ci C1 T N ty) (hx : roAt G (a, .inr (ci, fs)) H) (h1 : Cond.methodLink own index x1 ∈ lw_all) (h6 : Cond.sameMethod x1.cls owner x1.name x1.desc ∈ lw_all) (h3 : Cond.selects C1 x1 y1 ∈ lw_all) (h2 : Cond.instanceMethod y1 ∈ lw_all) (h4 : Cond.initialized y1.cls ∈ lw_all) (h5 : Cond.code y1 b1 n1 ret1 ∈ lw_all) (h7 : Cond.declares ⟨owner, x1.name, x1.desc⟩ ∈ lw_tbl) (ho : own = y.cls) (hd : owner ≠ "java/lang/invoke/MethodHandle" ∧ owner ≠ "java/lang/invoke/VarHandle" ∧ (parseMethodDescriptor x1.desc).map (fun d => d.parameters.length) = some As.length) (hfr : fr + 1 ≤ R.frames) (hlo : 8 + (n1 + 11) + lo ≤ R.locals) (hc : cells + mc ≤ R.cells) (hs : slots + ms ≤ R.slots) (hsz : ls.size = n) (hst : st0 = As.reverse ++ .ref a :: rest) (hrest : rest.length ≤ 4) (d : decode cc pc = .ok (.invokevirtual index, 3)) (hp : S.flatten.Perm (Sr ++ Sc).flatten) (hR : ∀ x, Rp x → (∃ z, x = .inl z ∧ z ∈ Sr.flatten) ∨ (∃ z, x = .inr z.1 ∧ z ∈ Sr.flatten ∧ roLv G z.1 H) ∨ Ro G A s x)
    (kk : ∀ (v : Option Value) (H1 : Heap) (locs1 : List Loc) (S1 : List va_W), Qp v S1 → H.size ≤ H1.size → Ws G A s (Sr ++ S1) H1 locs1 → W p l e R s m args below meth c H1 locs1 (cells + mc) (slots + ms) Q (F0 m (pc + 3) ls (v.toList ++ rest))) : W p l e R s m args below meth c H locs cells slots Q (F0 m pc ls st0) := by
  subst ho
  have hG : GoodIn lw_all (va_wsU y.cls index C1 owner x1 y1 (ws_ y1 b1 n1 ret1)) := by
    refine lw_app ?_ (lw_meth h5)
    intro w hw
    simp only [List.mem_cons, List.not_mem_nil, or_false] at hw
    rcases hw with e | e | e | e | e <;> rw [e] <;> assumption
  exact k_call (va_runU (own := y.cls) ⟨C.hx, C.hb, C.hml, C.hown, C.hts⟩ (hM H.size) (va_cwA As.length C.hts hG rfl rfl rfl (C.hX.nw h7 rfl) hd ⟨hfr, hlo⟩) ⟨cPre_blind, k_recv C F hx, k_preU C hW hp hR⟩ rfl rfl hsz hst (lv_room (k_cat hrest)) d ⟨hc, hs⟩) hW hp kk
/-- a method x1 with code, overridden by y1 -/
theorem k_callO {a ci N m0 : Nat} {b0 : ByteArray} {r0 : Option FieldType} {x1 : MethodName} {owner : String} {T : u_T} {ty : Nat → FieldType} {fs : List Value} (C : Cx p s m args meth c G y cc n ret) (hM : Ct l G y1 b1 n1 ret1 fr lo mc ms (.ref a :: As) Sc Rp Qp) (hW : Ws G A s S H locs) (F : ClF ci C1 T N ty) (hx : roAt G (a, .inr (ci, fs)) H) (h1 : Cond.methodLink own index x1 ∈ lw_all) (h6 : Cond.sameMethod x1.cls owner x1.name x1.desc ∈ lw_all) (h3 : Cond.selects C1 x1 y1 ∈ lw_all) (h2 : Cond.instanceMethod y1 ∈ lw_all) (h4 : Cond.initialized y1.cls ∈ lw_all) (h5 : Cond.code y1 b1 n1 ret1 ∈ lw_all) (h7 : Cond.instanceMethod ⟨owner, x1.name, x1.desc⟩ ∈ lw_all) (h8 : Cond.code ⟨owner, x1.name, x1.desc⟩ b0 m0 r0 ∈ lw_all) (ho : own = y.cls) (hd : owner ≠ "java/lang/invoke/MethodHandle" ∧ owner ≠ "java/lang/invoke/VarHandle" ∧ (parseMethodDescriptor x1.desc).map (fun d => d.parameters.length) = some As.length) (hfr : fr + 1 ≤ R.frames) (hlo : 8 + (n1 + 11) + lo ≤ R.locals) (hc : cells + mc ≤ R.cells) (hs : slots + ms ≤ R.slots) (hsz : ls.size = n) (hst : st0 = As.reverse ++ .ref a :: rest) (hrest : rest.length ≤ 4) (d : decode cc pc = .ok (.invokevirtual index, 3)) (hp : S.flatten.Perm (Sr ++ Sc).flatten) (hR : ∀ x, Rp x → (∃ z, x = .inl z ∧ z ∈ Sr.flatten) ∨ (∃ z, x = .inr z.1 ∧ z ∈ Sr.flatten ∧ roLv G z.1 H) ∨ Ro G A s x)
    (kk : ∀ (v : Option Value) (H1 : Heap) (locs1 : List Loc) (S1 : List va_W), Qp v S1 → H.size ≤ H1.size → Ws G A s (Sr ++ S1) H1 locs1 → W p l e R s m args below meth c H1 locs1 (cells + mc) (slots + ms) Q (F0 m (pc + 3) ls (v.toList ++ rest))) : W p l e R s m args below meth c H locs cells slots Q (F0 m pc ls st0) := by
  subst ho
  have hG : GoodIn lw_all (va_wsO y.cls index C1 owner x1 y1 (ws_ y1 b1 n1 ret1)) := by
    refine lw_app ?_ (lw_meth h5)
    intro w hw
    simp only [List.mem_cons, List.not_mem_nil, or_false] at hw
    rcases hw with e | e | e | e | e | e <;> rw [e] <;> assumption
  exact k_call (va_runU (own := y.cls) ⟨C.hx, C.hb, C.hml, C.hown, C.hts⟩ (hM H.size) (va_cwO As.length C.hts hG rfl rfl rfl h8 hd ⟨hfr, hlo⟩) ⟨cPre_blind, k_recv C F hx, k_preU C hW hp hR⟩ rfl rfl hsz hst (lv_room (k_cat hrest)) d ⟨hc, hs⟩) hW hp kk
end KB
