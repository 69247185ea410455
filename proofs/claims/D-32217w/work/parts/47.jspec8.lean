/-! ===== JDK 8: methods that throw ===== -/
theorem mvW_on {w : Cond} (h : mvW w = true) : w.onTables = true := by
  unfold mvW at h
  split at h <;> first | rfl | cases h
theorem lw_inT (ws : List Cond) (ps : List Nat) (hp : ws = ps.filterMap (fun i => lw_tbl[i]?)) : ∀ w ∈ ws, w ∈ lw_tbl := by
  intro w h
  rw [hp] at h
  obtain ⟨i, -, hi⟩ := List.mem_filterMap.mp h
  exact List.mem_of_getElem? hi
/-- all that a 'new E()' asks of the tables -/
def xOk (own : String) (ik ic : Nat) (E : String) (names : List String) : Prop := (∀ w ∈ vx_at0 own ic E names, w ∈ lw_all ∨ (mvW w = true ∧ w ∈ lw_tbl)) ∧ Cond.classLink own ik E ∈ lw_all ∧ Cond.initialized E ∈ lw_all ∧ Bundle.fit E = true ∧ (∀ n ∈ names, Bundle.fit n = true) ∧ (∀ w ∈ Cond.classLink own ik E :: Cond.initialized E :: vx_at0 own ic E names, vx_ot w = true) ∧ names.length = 2
def xC (E : String) (A : Nat → Prop) : String → State → State → Prop := fun E' st t => E' = E ∧ va_F A st t
/-- a call that always throws an E; it writes nothing that was there -/
def CtX (l : Launch) (G : GT) (y : MethodName) (b : ByteArray) (n : Nat) (ret : Option FieldType) (fr lo mc ms : Nat) (av : List Value) (Rp : roI → Prop) (E : String) : Prop :=
  ∀ sz : Nat, vx_Met l y (ws_ y b n ret) { frames := fr, cells := mc, slots := ms, locals := lo } (cPre G av [] Rp sz) (fun _ _ _ _ => False) (xC E (va_A ([] : List va_W).flatten sz)) mc ms (va_A ([] : List va_W).flatten sz)
section KX
variable {p : Program} {l : Launch} {e : Env} {R : Room} {s : State} {m : MethodId} {args : Array Value} {below : List Frame} {meth : Method} {c : Code} {H : Heap} {locs : List Loc} {cells slots : Nat} {Q : State → Prop}
variable {G : GT} {y : MethodName} {cc : ByteArray} {n : Nat} {ret : Option FieldType} {A : Nat → Prop} {S S' : List va_W} {rest : List Value} {pc : Nat} {ls : Array Slot}
theorem CtX.of {y : MethodName} {fr lo mc ms : Nat} {av : List Value} {Rp : roI → Prop} {E : String} (hy : plainName y.cls = true) (hn : (lg_sl av).length ≤ n)
    (body : ∀ (p : Program) (e : Env) (s : State) (m : MethodId) (below : List Frame) (meth : Method) (c : Code) (A : Nat → Prop) (ls : Array Slot), Cx p s m av.toArray meth c G y cc n ret → (∀ x ∈ c.exceptionTable.toList, False) → Ws G A s [] s.heap [] → (∀ x, Rp x → Ro G A s x) → lv_has ls n (lv_args 0 av) →
      W p l e { frames := fr, cells := mc, slots := ms, locals := lo } s m av.toArray below meth c s.heap [] 0 0 (vx_MQ below (fun _ _ _ _ => False) (xC E A) av.toArray s mc ms A) (F0 m 0 ls [])) :
    CtX l G y cc n ret fr lo mc ms av Rp E := by
  intro sz
  refine vx_ofW (cc := cc) (maxL := n) (ret := ret) hy rfl ?_
  intro p e s m args below meth c s₁ B hml hnx hv
  obtain ⟨rfl, hsz, hP, hD0, hRp, hX, hB⟩ := hv
  have hts := atoms_spec (ws := ws_ y cc n ret) B.pre
  have hts : ∀ w ∈ lw_all, w.before _ s = true := fun w h => hts w (List.mem_cons_of_mem _ h)
  subst hsz
  have hD := hD0.self (sz := s.heap.size)
  have hAB : ∀ q, va_A ([] : List va_W).flatten s.heap.size q → gB G ≤ q := by
    intro q hq
    rcases hq with ⟨k, e', hk⟩ | hq
    · exact hD0.2 k _ hk
    · exact Nat.le_trans hB hq
  have hro : ∀ x, Rp x → Ro G (va_A ([] : List va_W).flatten s.heap.size) s x := by
    intro x hx
    obtain ⟨h1, h2⟩ := hRp x hx
    refine ⟨h1, fun h => ?_⟩
    rcases h with ⟨k, e', hk⟩ | h
    · exact h2 _ (List.mem_of_getElem? hk) rfl
    · have := h1.lt; omega
  have hl := lv_entry av (n := n) hn
  rw [lg_entry_eq]
  exact body p e s m below meth c _ _ ⟨B.exec, B.bytes, B.returns, B.notSynchronized, hml, findClass_of_methodNamed B.named, hts, hX, (name_of_methodNamed B.named B.method).1⟩ hnx ⟨hP, hD, va_S.rf, fun q h => Or.inr h, hAB⟩ hro hl
theorem k_zq (C : Cx p s m args meth c G y cc n ret) (hW : Ws G A s S H locs) {z : String × String × String} (hz : z ∈ kQ) : vx_Zq z.1 z.2.1 z.2.2 A s s.heap := by
  obtain ⟨-, -, -, -, -, -, -, -, h9, -⟩ := C.hX
  exact (h9 z hz).narrow hW.2.2.2.2
/-- new E(), thrown out of this method -/
theorem k_throw (C : Cx p s m args meth c G y cc n ret) (hl : l.stackTraces = false) (hnx : ∀ x ∈ c.exceptionTable.toList, False) (hW : Ws G A s S H locs) {own E : String} {ik ic mc ms : Nat} {names : List String} {Qc : Array Value → State → Outcome → State → Prop} (hE : xOk own ik ic E names) (ho : own = y.cls) (hsz : ls.size = n)
    (d0 : decode cc pc = .ok (.new ik, 3)) (d3 : decode cc (pc + 3) = .ok (.dup, 1)) (d4 : decode cc (pc + 4) = .ok (.invokespecial ic, 3)) (d7 : decode cc (pc + 7) = .ok (.athrow, 1)) (hfr : 6 ≤ R.frames) (hlo : 100 ≤ R.locals) (hc : cells + 1 ≤ R.cells) (hs : slots + 6 ≤ R.slots) (hc2 : cells + 1 ≤ mc) (hs2 : slots + 6 ≤ ms) (hrest : rest.length ≤ 4) :
    W p l e R s m args below meth c H locs cells slots (vx_MQ below Qc (xC E A) args s mc ms A) (F0 m pc ls rest) := by
  subst ho
  obtain ⟨h1, h2, h3, h4, h5, h6, h7⟩ := hE
  have hk := k_cat hrest
  exact vx_throw0 (names := names) C.hx C.hb hl C.hown h4 h5 (C.hts _ h2) (C.hts _ h3) (fun w hw => (h1 w hw).elim (C.hts w) (fun h => va_Nw.use (mvW_on h.1) (C.hX.nw h.2 h.1))) h6 (k_zq C hW (List.mem_of_getElem? (i := 0) rfl)) (k_zq C hW (List.mem_of_getElem? (i := 1) rfl)) hW.2.2.1 (hsz.trans C.hml.symm) d0 d3 d4 d7 (fun x hx => (hnx x hx).elim) (by omega) (by rw [h7]; omega) hc hs C.hlocks
    (fun t _ ht1 ht2 => ⟨rfl, Nat.le_trans hW.2.2.1.1 ht1, fun q q1 q2 => (ht2 q (Nat.lt_of_lt_of_le q1 hW.2.2.1.1)).trans (hW.2.2.1.2.1 q q1 q2)⟩) hW.2.2.1.2.2 hc2 hs2
variable {fr lo mc ms nm index : Nat} {av As : List Value} {Rp : roI → Prop} {y1 : MethodName} {b1 : ByteArray} {n1 : Nat} {ret1 : Option FieldType} {st0 : List Value} {own C1 E : String}
theorem k_perm0 (S : List va_W) : S.flatten.Perm (S ++ ([] : List va_W)).flatten := by rw [List.append_nil]
theorem k_thr {a : Array Value} (hr : vx_Run p l e R s m args below meth c H locs cells slots mc ms (F0 m pc ls st0) rest (fun _ _ _ => False) (xC E (va_A ([] : List va_W).flatten H.size)) (va_A ([] : List va_W).flatten H.size)) (hW : Ws G A s S H locs)
    (kx : ∀ (q : Nat) (ce : Cell) (H1 : Heap) (locs1 : List Loc), H.size ≤ H1.size → Ws G A s S H1 locs1 → H1[q]? = some ce → ce.vm = .none → s.vm.findClass E = some ce.cls → vx_W p l e R s m args below meth c H1 locs1 (cells + mc) (slots + ms) Q (F0 m pc ls rest) q) : W p l e R s m args below meth c H locs cells slots Q (F0 m pc ls st0) := by
  intro T hT X
  rcases hr T hT X with ⟨_, _, _, _, _, _, _, _, _, _, h, _⟩ | ⟨q, st₀, t, T', L, E', ce, h0, X', hL, e1, e2, ⟨rfl, hz, hk⟩, hce, hcv, hcl, st⟩
  · exact h.elim
  rw [h0] at hz hk
  have hW1 := k_after hW (k_perm0 S) (H1 := T'.heap) (locs1 := L) (S1 := []) (by rw [e1]; exact hz) (fun q h1 h2 => by rw [e1]; exact hk q h1 h2) hL (fun k q h => by cases h) ⟨fun i j p q h => (by cases h), fun k q h => by cases h⟩
  rw [List.append_nil] at hW1
  obtain ⟨t2, a1, b1⟩ := kx q ce T'.heap (locs ++ L) (by rw [e1]; exact hz) hW1 (by rw [e1]; exact hce) hcv hcl T' rfl X'
  exact ⟨t2, st.trans a1, b1⟩
theorem k_preX (C : Cx p s m args meth c G y cc n ret) (hW : Ws G A s S H locs) (hR : ∀ x, Rp x → (∃ z, x = .inl z ∧ z ∈ S.flatten) ∨ (∃ z, x = .inr z.1 ∧ z ∈ S.flatten ∧ roLv G z.1 H) ∨ Ro G A s x) : ∀ U : State, U.heap = H → s.WarmedH U.vm → cPre G av [] Rp H.size av.toArray U := k_preU C hW (k_perm0 S) hR
theorem k_thrS (C : Cx p s m args meth c G y cc n ret) (hM : CtX l G y1 b1 n1 ret1 fr lo mc ms As Rp E) (hW : Ws G A s S H locs) (h1 : Cond.methodLink own index y1 ∈ lw_all) (h2 : Cond.static y1 ∈ lw_all) (h3 : Cond.initialized y1.cls ∈ lw_all) (h5 : Cond.code y1 b1 n1 ret1 ∈ lw_all) (ho : own = y.cls) (hd : notMH y1 As.length) (hfr : fr + 1 ≤ R.frames) (hlo : 8 + (n1 + 11) + lo ≤ R.locals) (hc : cells + mc ≤ R.cells) (hs : slots + ms ≤ R.slots) (hsz : ls.size = n) (hst : st0 = As.reverse ++ rest) (hrest : rest.length ≤ 4) (d : decode cc pc = .ok (.invokestatic index, 3)) (hR : ∀ x, Rp x → (∃ z, x = .inl z ∧ z ∈ S.flatten) ∨ (∃ z, x = .inr z.1 ∧ z ∈ S.flatten ∧ roLv G z.1 H) ∨ Ro G A s x)
    (kx : ∀ (q : Nat) (ce : Cell) (H1 : Heap) (locs1 : List Loc), H.size ≤ H1.size → Ws G A s S H1 locs1 → H1[q]? = some ce → ce.vm = .none → s.vm.findClass E = some ce.cls → vx_W p l e R s m args below meth c H1 locs1 (cells + mc) (slots + ms) Q (F0 m pc ls rest) q) : W p l e R s m args below meth c H locs cells slots Q (F0 m pc ls st0) := by
  subst ho
  exact k_thr (a := args) (vx_runS (own := y.cls) ⟨C.hx, C.hb, C.hml, C.hown, C.hts⟩ (hM H.size) (va_cwS As.length C.hts (lw_S h1 h2 h3 h5) rfl rfl rfl hd ⟨hfr, hlo⟩) ⟨cPre_blind, k_preX C hW hR⟩ rfl rfl hsz hst (lv_room (k_cat hrest)) d ⟨hc, hs⟩) hW kx
theorem k_thrV {a ci N : Nat} {T : u_T} {ty : Nat → FieldType} {fs : List Value} (C : Cx p s m args meth c G y cc n ret) (hM : CtX l G y1 b1 n1 ret1 fr lo mc ms (.ref a :: As) Rp E) (hW : Ws G A s S H locs) (F : ClF ci C1 T N ty) (hx : roAt G (a, .inr (ci, fs)) H) (h1 : Cond.methodLink own index y1 ∈ lw_all) (h2 : Cond.instanceMethod y1 ∈ lw_all) (h3 : Cond.selects C1 y1 y1 ∈ lw_all) (h4 : Cond.initialized C1 ∈ lw_all) (h5 : Cond.code y1 b1 n1 ret1 ∈ lw_all) (ho : own = y.cls) (hy : y1.cls = C1) (hd : notMH y1 As.length) (hfr : fr + 1 ≤ R.frames) (hlo : 8 + (n1 + 11) + lo ≤ R.locals) (hc : cells + mc ≤ R.cells) (hs : slots + ms ≤ R.slots) (hsz : ls.size = n) (hst : st0 = As.reverse ++ .ref a :: rest) (hrest : rest.length ≤ 4) (d : decode cc pc = .ok (.invokevirtual index, 3)) (hR : ∀ x, Rp x → (∃ z, x = .inl z ∧ z ∈ S.flatten) ∨ (∃ z, x = .inr z.1 ∧ z ∈ S.flatten ∧ roLv G z.1 H) ∨ Ro G A s x)
    (kx : ∀ (q : Nat) (ce : Cell) (H1 : Heap) (locs1 : List Loc), H.size ≤ H1.size → Ws G A s S H1 locs1 → H1[q]? = some ce → ce.vm = .none → s.vm.findClass E = some ce.cls → vx_W p l e R s m args below meth c H1 locs1 (cells + mc) (slots + ms) Q (F0 m pc ls rest) q) : W p l e R s m args below meth c H locs cells slots Q (F0 m pc ls st0) := by
  subst ho
  exact k_thr (a := args) (vx_runV (own := y.cls) ⟨C.hx, C.hb, C.hml, C.hown, C.hts⟩ (hM H.size) (cwV As.length C.hts (lw_V h1 h2 h3 h4 h5) rfl rfl rfl ⟨hy, hd⟩ ⟨hfr, hlo⟩) ⟨cPre_blind, k_recv C F hx, k_preX C hW hR⟩ rfl rfl hsz hst (lv_room (k_cat hrest)) d ⟨hc, hs⟩) hW kx
/-- on to the caller -/
theorem k_prop (C : Cx p s m args meth c G y cc n ret) (hnx : ∀ x ∈ c.exceptionTable.toList, False) (hW : Ws G A s S H locs) {q : Nat} {ce : Cell} {Qc : Array Value → State → Outcome → State → Prop} (hq : H[q]? = some ce) (hv : ce.vm = .none) (hcl : s.vm.findClass E = some ce.cls) (hc : cells ≤ mc) (hs : slots ≤ ms) :
    vx_W p l e R s m args below meth c H locs cells slots (vx_MQ below Qc (xC E A) args s mc ms A) (F0 m pc ls rest) q :=
  vx_outP C.hown C.hlocks (fun z hz => (hnx z hz).elim) hq hv hcl (fun t ht _ => ⟨rfl, hW.2.2.1.F ht⟩) hW.2.2.1.2.2 hc hs
end KX
theorem xIAE : xOk "Bogsign" 7 9 "java/lang/IllegalArgumentException" ["java/lang/RuntimeException", "java/lang/Exception"] := by
  refine ⟨fun w hw => ?_, q1261, q89, by decide +kernel, by decide +kernel, by decide +kernel, rfl⟩
  by_cases g : goodWord w = true
  · exact Or.inl (lw_in ((vx_at0 "Bogsign" 9 "java/lang/IllegalArgumentException" ["java/lang/RuntimeException", "java/lang/Exception"]).filter goodWord) [86, 444, 453, 459, 462, 464, 445, 446, 133, 134, 447, 452, 460, 713, 434, 714, 436, 715, 438, 448, 450, 440, 1263, 1264, 1265, 1005, 1005, 1006, 1007, 1008, 1008, 1009, 1010, 445, 1262, 685, 687, 456, 688, 689, 690, 691, 711, 442, 692] (by decide +kernel) (by decide +kernel) w (List.mem_filter.mpr ⟨hw, g⟩))
  · have hb : w ∈ (vx_at0 "Bogsign" 9 "java/lang/IllegalArgumentException" ["java/lang/RuntimeException", "java/lang/Exception"]).filter (fun w => !goodWord w) := List.mem_filter.mpr ⟨hw, by simpa using g⟩
    exact Or.inr ⟨List.all_eq_true.mp (show ((vx_at0 "Bogsign" 9 "java/lang/IllegalArgumentException" ["java/lang/RuntimeException", "java/lang/Exception"]).filter (fun w => !goodWord w)).all mvW = true by decide +kernel) w hb, lw_inT _ [425, 427, 429, 686] (by decide +kernel) w hb⟩
theorem xISE : xOk "Bogsign" 10 12 "java/lang/IllegalStateException" ["java/lang/RuntimeException", "java/lang/Exception"] := by
  refine ⟨fun w hw => ?_, q1269, q90, by decide +kernel, by decide +kernel, by decide +kernel, rfl⟩
  by_cases g : goodWord w = true
  · exact Or.inl (lw_in ((vx_at0 "Bogsign" 12 "java/lang/IllegalStateException" ["java/lang/RuntimeException", "java/lang/Exception"]).filter goodWord) [86, 444, 453, 459, 462, 464, 445, 446, 133, 134, 447, 452, 460, 713, 434, 714, 436, 715, 438, 448, 450, 440, 1279, 1280, 1281, 1005, 1005, 1006, 1007, 1008, 1008, 1009, 1010, 445, 1278, 1270, 1272, 457, 1273, 1274, 1275, 1276, 711, 442, 1277] (by decide +kernel) (by decide +kernel) w (List.mem_filter.mpr ⟨hw, g⟩))
  · have hb : w ∈ (vx_at0 "Bogsign" 12 "java/lang/IllegalStateException" ["java/lang/RuntimeException", "java/lang/Exception"]).filter (fun w => !goodWord w) := List.mem_filter.mpr ⟨hw, by simpa using g⟩
    exact Or.inr ⟨List.all_eq_true.mp (show ((vx_at0 "Bogsign" 12 "java/lang/IllegalStateException" ["java/lang/RuntimeException", "java/lang/Exception"]).filter (fun w => !goodWord w)).all mvW = true by decide +kernel) w hb, lw_inT _ [425, 427, 429, 1271] (by decide +kernel) w hb⟩
theorem xIOB : xOk "Bogsign" 1 3 "java/lang/IndexOutOfBoundsException" ["java/lang/RuntimeException", "java/lang/Exception"] := by
  refine ⟨fun w hw => ?_, q2070, q104, by decide +kernel, by decide +kernel, by decide +kernel, rfl⟩
  by_cases g : goodWord w = true
  · exact Or.inl (lw_in ((vx_at0 "Bogsign" 3 "java/lang/IndexOutOfBoundsException" ["java/lang/RuntimeException", "java/lang/Exception"]).filter goodWord) [86, 444, 453, 459, 462, 464, 445, 446, 133, 134, 447, 452, 460, 713, 434, 714, 436, 715, 438, 448, 450, 440, 2072, 2073, 2074, 1005, 1005, 1006, 1007, 1008, 1008, 1009, 1010, 445, 2071, 423, 431, 432, 433, 435, 437, 439, 711, 442, 441] (by decide +kernel) (by decide +kernel) w (List.mem_filter.mpr ⟨hw, g⟩))
  · have hb : w ∈ (vx_at0 "Bogsign" 3 "java/lang/IndexOutOfBoundsException" ["java/lang/RuntimeException", "java/lang/Exception"]).filter (fun w => !goodWord w) := List.mem_filter.mpr ⟨hw, by simpa using g⟩
    exact Or.inr ⟨List.all_eq_true.mp (show ((vx_at0 "Bogsign" 3 "java/lang/IndexOutOfBoundsException" ["java/lang/RuntimeException", "java/lang/Exception"]).filter (fun w => !goodWord w)).all mvW = true by decide +kernel) w hb, lw_inT _ [425, 427, 429, 424] (by decide +kernel) w hb⟩
theorem xNSE : xOk "Bogsign" 339 341 "java/util/NoSuchElementException" ["java/lang/RuntimeException", "java/lang/Exception"] := by
  refine ⟨fun w hw => ?_, q2166, q119, by decide +kernel, by decide +kernel, by decide +kernel, rfl⟩
  by_cases g : goodWord w = true
  · exact Or.inl (lw_in ((vx_at0 "Bogsign" 341 "java/util/NoSuchElementException" ["java/lang/RuntimeException", "java/lang/Exception"]).filter goodWord) [86, 444, 453, 459, 462, 464, 445, 446, 133, 134, 447, 452, 460, 713, 434, 714, 436, 715, 438, 448, 450, 440, 1002, 1003, 1004, 1005, 1005, 1006, 1007, 1008, 1008, 1009, 1010, 445, 2167, 904, 906, 458, 907, 908, 909, 910, 711, 442, 911] (by decide +kernel) (by decide +kernel) w (List.mem_filter.mpr ⟨hw, g⟩))
  · have hb : w ∈ (vx_at0 "Bogsign" 341 "java/util/NoSuchElementException" ["java/lang/RuntimeException", "java/lang/Exception"]).filter (fun w => !goodWord w) := List.mem_filter.mpr ⟨hw, by simpa using g⟩
    exact Or.inr ⟨List.all_eq_true.mp (show ((vx_at0 "Bogsign" 341 "java/util/NoSuchElementException" ["java/lang/RuntimeException", "java/lang/Exception"]).filter (fun w => !goodWord w)).all mvW = true by decide +kernel) w hb, lw_inT _ [425, 427, 429, 905] (by decide +kernel) w hb⟩
