/-! ===== JDK 1: LinkedList ===== -/
abbrev vr (o : Option Nat) : Value := va_rf o
/-- a chain of nodes (node, item): what stands ahead, what comes behind -/
def hdo (t : List (Nat × Nat)) (nx : Option Nat) : Option Nat := match t with
  | [] => nx
  | (m, _) :: _ => some m
def lst : List (Nat × Nat) → Option Nat → Option Nat
  | [], p => p
  | (n, _) :: t, _ => lst t (some n)
def llG : Option Nat → List (Nat × Nat) → Option Nat → va_W
  | _, [], _ => []
  | p, (n, x) :: t, nx => (n, .inr (19, [.ref x, vr (hdo t nx), vr p])) :: llG (some n) t nx
def llH (a : Nat) (md : Int32) (ns : List (Nat × Nat)) : Nat × va_E := (a, .inr (14, [.int md, .int (nI ns.length), vr (hdo ns none), vr (lst ns none)]))
def llS (a : Nat) (md : Int32) (ns : List (Nat × Nat)) : va_W := llH a md ns :: llG none ns none
theorem hdo_app (i j : List (Nat × Nat)) (nx : Option Nat) : hdo (i ++ j) nx = hdo i (hdo j nx) := by cases i <;> rfl
theorem lst_app (i j : List (Nat × Nat)) (p : Option Nat) : lst (i ++ j) p = lst j (lst i p) := by
  induction i generalizing p with
  | nil => rfl
  | cons a t ih => exact ih _
theorem llG_app (i j : List (Nat × Nat)) (p nx : Option Nat) : llG p (i ++ j) nx = llG p i (hdo j nx) ++ llG (lst i p) j nx := by
  induction i generalizing p with
  | nil => rfl
  | cons a t ih =>
    obtain ⟨n, x⟩ := a
    simp only [List.cons_append, llG, lst, hdo_app, ih]
theorem Ws.eqv {G : GT} {A : Nat → Prop} {s : State} {S S' : List va_W} {H : Heap} {locs : List Loc} (h : Ws G A s S H locs) (e : S.flatten = S'.flatten) : Ws G A s S' H locs := h.perm (by rw [e])
theorem va_A_perm {w1 w2 : va_W} {sz q : Nat} (h : ∀ x ∈ w1, x ∈ w2) (hq : va_A w1 sz q) : va_A w2 sz q := by
  rcases hq with ⟨k, e, hk⟩ | hq
  · obtain ⟨j, hj⟩ := List.getElem?_of_mem (h _ (List.mem_of_getElem? hk))
    exact Or.inl ⟨j, e, hj⟩
  · exact Or.inr hq
/-- consequence and frame in one: over more cells, with other words for them -/
theorem Ct.fr {l : Launch} {G : GT} {y : MethodName} {b : ByteArray} {n : Nat} {ret : Option FieldType} {fr lo mc ms : Nat} {av : List Value} {S S' Sr : List va_W} {Rp Rp' : roI → Prop} {Qp Qp' : Option Value → List va_W → Prop} (h : Ct l G y b n ret fr lo mc ms av S Rp Qp) (hp : S'.flatten.Perm (Sr ++ S).flatten) (hR : ∀ x, Rp x → Rp' x ∨ ∃ z, x = .inl z ∧ z ∈ Sr.flatten) (hQ : ∀ v S1, Qp v S1 → ∃ S2, Qp' v S2 ∧ (Sr ++ S1).flatten.Perm S2.flatten) : Ct l G y b n ret fr lo mc ms av S' Rp' Qp' := by
  intro sz p e ha hc hk s m args below hf happ hP hK
  obtain ⟨q0, q1, q2, q3, q4, q5, q6⟩ := hP
  have g2 := va_P_perm hp q2
  have g3 := va_D_perm hp q3
  rw [List.flatten_append] at g2 g3
  obtain ⟨d1, d2⟩ := va_D_pw.mp g3
  obtain ⟨e1, e2, e3⟩ := List.pairwise_append.mp d1
  have hsub : ∀ x ∈ S.flatten, x ∈ S'.flatten := fun x hx => hp.mem_iff.mpr (by rw [List.flatten_append]; exact List.mem_append_right _ hx)
  have hpre : cPre G av S Rp sz args s := ⟨q0, q1, va_P_mem.mpr fun x hx => va_P_mem.mp g2 x (List.mem_append_right _ hx), va_D_pw.mpr ⟨e2, fun x hx => d2 x (List.mem_append_right _ hx)⟩, fun x hx => by
    rcases hR x hx with h1 | ⟨z, rfl, hz⟩
    · exact ⟨(q4 x h1).1, fun y hy => (q4 x h1).2 y (hsub y hy)⟩
    · exact ⟨roAt.of (va_P_mem.mp g2 z (List.mem_append_left _ hz)), fun y hy e => e3 z hz y hy e.symm⟩, q5, q6⟩
  obtain ⟨k, o, h1, h2, h3, ⟨⟨⟨v, S1, hv, hq, hP1, hD1⟩, hz1, hk1⟩, L, hL1, hL2⟩⟩ := h sz p e ha hc hk s m args below hf happ hpre hK
  obtain ⟨S2, hq2, hp2⟩ := hQ v S1 hq
  obtain ⟨i1, i2⟩ := va_D_pw.mp hD1
  have hr : ∀ x ∈ Sr.flatten, x.1 < sz ∧ ¬ va_A S.flatten sz x.1 := by
    intro x hx
    have hlt := (va_P_mem.mp g2 x (List.mem_append_left _ hx)).lt
    rw [q1] at hlt
    refine ⟨hlt, fun hh => ?_⟩
    rcases hh with ⟨j, e', hj⟩ | hh
    · exact e3 x hx _ (List.mem_of_getElem? hj) rfl
    · omega
  refine ⟨k, o, h1, h2, h3, ⟨⟨⟨v, S2, hv, hq2, va_P_perm hp2 ?_, va_D_perm hp2 ?_⟩, hz1, fun q hq1 hq3 => hk1 q hq1 (fun hh => hq3 (va_A_perm hsub hh))⟩, L, hL1, fun q hq => va_A_perm hsub (hL2 q hq)⟩⟩
  · rw [List.flatten_append]
    refine va_P_mem.mpr fun x hx => ?_
    rcases List.mem_append.mp hx with hh | hh
    · exact (va_P_mem.mp g2 x (List.mem_append_left _ hh)).kept (hk1 _ (by rw [q1]; exact (hr x hh).1) (hr x hh).2)
    · exact va_P_mem.mp hP1 x hh
  · rw [List.flatten_append]
    refine va_D_pw.mpr ⟨List.pairwise_append.mpr ⟨e1, i1, fun x hx z hz e => ?_⟩, fun x hx => ?_⟩
    · exact (hr x hx).2 (by rw [show x.1 = z.1 from e]; exact i2 z hz)
    · rcases List.mem_append.mp hx with hh | hh
      · refine Or.inl ?_
        obtain ⟨j, hj⟩ := List.getElem?_of_mem (hp.mem_iff.mpr (show x ∈ (Sr ++ S).flatten by rw [List.flatten_append]; exact List.mem_append_left _ hh))
        exact ⟨j, x.2, hj⟩
      · exact va_A_perm hsub (i2 x hh)
theorem vr_cat (o : Option Nat) : (vr o).category = 1 := by cases o <;> rfl
theorem ref_cat (a : Nat) : (Value.ref a).category = 1 := rfl
theorem null_cat : (Value.null).category = 1 := rfl
theorem int_cat (a : Int32) : (Value.int a).category = 1 := rfl
theorem long_cat (a : Int64) : (Value.long a).category = 2 := rfl
theorem vr_nar (o : Option Nat) (C : String) : narrow (.object C) (vr o) = vr o := by cases o <;> rfl
theorem vr_fit (o : Option Nat) (C : String) : fits (.object C) (vr o) = true := by cases o <;> rfl
theorem vr_ref (o : Option Nat) : vr o = .null ∨ ∃ a, vr o = .ref a := by cases o with
  | none => exact Or.inl rfl
  | some a => exact Or.inr ⟨a, rfl⟩
section KQ
variable {p : Program} {l : Launch} {e : Env} {R : Room} {s : State} {m : MethodId} {args : Array Value} {below : List Frame} {meth : Method} {c : Code} {H : Heap} {locs : List Loc} {cells slots : Nat} {Q : State → Prop}
variable {cc : ByteArray} {rest : List Value} {pc : Nat} {ls : Array Slot}
theorem lv_aload_nq (hx : p.tables.exec = Jvm.exec) (hb : c.code = cc) {k : Fin 4} {i : Nat} {o : Option Nat} (hdg : decode cc pc = .ok (.aload_n k, 1)) (hi : (k : Nat) = i) (hl : ls[i]? = some (.val (vr o))) (kk : W p l e R s m args below meth c H locs cells slots Q (F0 m (pc + 1) ls (vr o :: rest))) : W p l e R s m args below meth c H locs cells slots Q (F0 m pc ls rest) := by
  cases o with
  | none => exact lv_aload_nN hx hb hdg hi hl kk
  | some a => exact lv_aload_n hx hb hdg hi hl kk
theorem lv_aloadq (hx : p.tables.exec = Jvm.exec) (hb : c.code = cc) {i : Nat} {o : Option Nat} (hdg : decode cc pc = .ok (.aload i, 2)) (hl : ls[i]? = some (.val (vr o))) (kk : W p l e R s m args below meth c H locs cells slots Q (F0 m (pc + 2) ls (vr o :: rest))) : W p l e R s m args below meth c H locs cells slots Q (F0 m pc ls rest) := by
  cases o with
  | none => exact lv_aloadN hx hb hdg hl kk
  | some a => exact lv_aload hx hb hdg hl kk
theorem lv_astore_nq (hx : p.tables.exec = Jvm.exec) (hb : c.code = cc) {k : Fin 4} {i nL : Nat} {o : Option Nat} {lv lv' : List (Nat × Value)} (hdg : decode cc pc = .ok (.astore_n k, 1)) (hi : (k : Nat) = i) (h : lv_has ls nL lv) (hn : i < nL) (hl : (i, vr o) :: lv.filter (fun q => !(q.1 == i) && !(q.1 + 1 == i && q.2.category == 2)) = lv') (kk : ∀ ls' : Array Slot, lv_has ls' nL lv' → W p l e R s m args below meth c H locs cells slots Q (F0 m (pc + 1) ls' rest)) : W p l e R s m args below meth c H locs cells slots Q (F0 m pc ls (vr o :: rest)) := by
  cases o with
  | none => exact lv_astore_nN hx hb hdg hi h hn hl kk
  | some a => exact lv_astore_n hx hb hdg hi h hn hl kk
theorem lv_astoreq (hx : p.tables.exec = Jvm.exec) (hb : c.code = cc) {i nL : Nat} {o : Option Nat} {lv lv' : List (Nat × Value)} (hdg : decode cc pc = .ok (.astore i, 2)) (h : lv_has ls nL lv) (hn : i < nL) (hl : (i, vr o) :: lv.filter (fun q => !(q.1 == i) && !(q.1 + 1 == i && q.2.category == 2)) = lv') (kk : ∀ ls' : Array Slot, lv_has ls' nL lv' → W p l e R s m args below meth c H locs cells slots Q (F0 m (pc + 2) ls' rest)) : W p l e R s m args below meth c H locs cells slots Q (F0 m pc ls (vr o :: rest)) := by
  cases o with
  | none => exact lv_astoreN hx hb hdg h hn hl kk
  | some a => exact lv_astore hx hb hdg h hn hl kk
end KQ
theorem wperm {w1 w2 : va_W} (h : ∀ (_ : DecidableEq (Nat × va_E)) (x : Nat × va_E), List.count x w1 = List.count x w2) : w1.Perm w2 := by
  have d : DecidableEq (Nat × va_E) := fun a b => Classical.propDecidable (a = b)
  exact List.perm_iff_count.mpr (h d)
theorem llG_mem (i t : List (Nat × Nat)) (n x : Nat) (p nx : Option Nat) : (n, .inr (19, [.ref x, vr (hdo t nx), vr (lst i p)])) ∈ llG p (i ++ (n, x) :: t) nx := by
  rw [llG_app]
  exact List.mem_append_right _ List.mem_cons_self
theorem seg_memP {S : List va_W} {i : Nat} {seg : va_W} {x : Nat × va_E} (hi : S[i]? = some seg) (hx : x ∈ seg) : x ∈ S.flatten := List.mem_flatten.mpr ⟨seg, List.mem_of_getElem? hi, hx⟩
theorem app_same {α : Type} {i i1 t t1 : List α} {a b : α} (h : i ++ a :: t = i1 ++ b :: t1) (hl : i1.length = i.length) : i1 = i ∧ b = a ∧ t1 = t := by
  obtain ⟨h1, h2⟩ := List.append_inj h hl.symm
  cases h2
  exact ⟨h1.symm, rfl, rfl⟩
theorem app_in {α : Type} {i i1 t t1 : List α} {a b : α} (h : i ++ a :: t = i1 ++ b :: t1) (hl : i1.length < i.length) : b ∈ i := by
  have h1 : (i ++ a :: t)[i1.length]? = some b := by rw [h]; simp
  rw [List.getElem?_append_left hl] at h1
  exact List.mem_of_getElem? h1
theorem hdo_nil (nx : Option Nat) : hdo [] nx = nx := rfl
theorem hdo_cons (n x : Nat) (t : List (Nat × Nat)) (nx : Option Nat) : hdo ((n, x) :: t) nx = some n := rfl
theorem lst_nil (p : Option Nat) : lst [] p = p := rfl
theorem lst_cons (n x : Nat) (t : List (Nat × Nat)) (p : Option Nat) : lst ((n, x) :: t) p = lst t (some n) := rfl
theorem llG_nil (p nx : Option Nat) : llG p [] nx = [] := rfl
theorem llG_cons (p nx : Option Nat) (n x : Nat) (t : List (Nat × Nat)) : llG p ((n, x) :: t) nx = (n, .inr (19, [.ref x, vr (hdo t nx), vr p])) :: llG (some n) t nx := rfl
theorem vr_n : vr none = .null := rfl
theorem vr_s (a : Nat) : vr (some a) = .ref a := rfl
theorem nil_snoc {α : Type} (l : List α) : l = [] ∨ ∃ (i : List α) (a : α), l = i ++ [a] := by
  rcases List.eq_nil_or_concat l with h | ⟨i, a, h⟩
  · exact Or.inl h
  · exact Or.inr ⟨i, a, by rw [h]; simp⟩
/-- the list's cells, its size said apart -/
def llK (a : Nat) (md : Int32) (k : Nat) (ns : List (Nat × Nat)) : va_W := (a, .inr (14, [.int md, .int (nI k), vr (hdo ns none), vr (lst ns none)])) :: llG none ns none
theorem llK_S (a : Nat) (md : Int32) (ns : List (Nat × Nat)) : llK a md ns.length ns = llS a md ns := rfl
