/-! ===== JDK 7: texts: rows for bytes, a superclass's method ===== -/
section KT
variable {p : Program} {l : Launch} {e : Env} {R : Room} {s : State} {m : MethodId} {args : Array Value} {below : List Frame} {meth : Method} {c : Code} {H : Heap} {locs : List Loc} {cells slots : Nat} {Q : State → Prop}
variable {cc : ByteArray} {rest : List Value} {pc : Nat} {ls : Array Slot} {G : GT} {y : MethodName} {n : Nat} {ret : Option FieldType} {A : Nat → Prop} {S S' : List va_W}
theorem va_copyb {cc : ByteArray} (hexec : p.tables.exec = Jvm.exec) (hb : c.code = cc) (hml : c.maxLocals = ls.size) {own : String} {index : Nat} (hown : s.vm.findClass own = some m.cls) (hlink : (Cond.methodLink own index arraycopyName).before args s = true) (hnat : (Cond.native arraycopyName).before args s = true) (hstat : (Cond.static arraycopyName).before args s = true) (hini : (Cond.initialized "java/lang/System").before args s = true)
    {D : va_G} {cl : List vw_C} {tys : List (ClassId × FieldType)} {ws : va_W} {a : Nat} (hK : va_K D cl tys s) (hP : va_P D cl ws H) (hD : va_D A ws) (hS : va_S A s.heap H locs) {b0 n0 : Nat} {f : Nat → Int32} {scr : Cell} (hc0 : H[b0]? = some scr) (hs6 : scr.vm ≠ .unknown) (hof : s.isArrayOf scr .byte) (hs4 : n0 ≤ scr.slots.size) (hs5 : ∀ j, j < n0 → scr.slots[j]? = some (.int (f j))) (hfit : ∀ j, j < n0 → fits .byte (.int (f j)) = true) (q1 t1 : Nat) {c1 : ClassId} {n1 : Nat} {g : Nat → Int32} (ha1 : ws[q1]? = some (a, .inl (c1, n1, .inl g))) (ht1 : tys[t1]? = some (c1, .byte))
    {sp dp n : Int32} (h1 : ¬ sp < 0) (h2 : ¬ dp < 0) (h3 : ¬ n < 0) (h4 : sp.toNatClampNeg + n.toNatClampNeg ≤ n0) (h5 : dp.toNatClampNeg + n.toNatClampNeg ≤ n1)
    (hframes : 1 ≤ R.frames) (hlocals : (rest.map fun v => v.category).sum + (nativeFrameWords "java/lang/System" "arraycopy" 5 + 11) ≤ R.locals) (hdg : decode cc pc = .ok (.invokestatic index, 3))
    (kk : ∀ (H1 : Heap) (locs1 : List Loc), va_P D cl (ws.set q1 (a, .inl (c1, n1, .inl (va_cpy f g sp.toNatClampNeg dp.toNatClampNeg n.toNatClampNeg)))) H1 → va_D A (ws.set q1 (a, .inl (c1, n1, .inl (va_cpy f g sp.toNatClampNeg dp.toNatClampNeg n.toNatClampNeg)))) → va_S A s.heap H1 locs1 → W p l e R s m args below meth c H1 locs1 cells slots Q (F0 m (pc + 3) ls rest)) : W p l e R s m args below meth c H locs cells slots Q (F0 m pc ls (.int n :: .int dp :: .ref a :: .int sp :: .ref b0 :: rest)) := by
  have nn : ∀ z : Int32, ¬ z < 0 → z.toInt = (z.toNatClampNeg : Int) := by
    intro z hz
    have hz0 : (0 : Int) ≤ z.toInt := by
      have := Int32.not_lt.mp hz
      simpa using Int32.le_iff_toInt_le.mp this
    show z.toInt = ((z.toInt.toNat : Nat) : Int)
    omega
  intro T hT X
  have hc1 : H[a]? = some (vp_cell c1 (n1, .inl g)) := hP q1 _ ha1
  obtain ⟨hs9, k0, hk0, cm0, hkk0⟩ := hof
  obtain ⟨-, k1, hk1, cm1, hkk1⟩ := (hK.2 t1 _ ht1).1 n1 (fun j => .int (g j))
  obtain ⟨vm', X', step⟩ := X.arraycopy hexec hown hlink hnat hstat hini (src := b0) (dst := a) (cs := scr) (cd := vp_cell c1 (n1, .inl g)) (srcPos := sp) (destPos := dp) (n := n) (by rw [hT]; exact hc0) (by rw [hT]; exact hc1)
    hs9 (fun _ h => by cases h) hs6 (fun h => by cases h) hk0 hk1 hkk0 hkk1 (by simp [refKind]) h1 h2 h3
    (by rw [nn sp h1, nn n h3]; omega)
    (by rw [nn dp h2, nn n h3]; show ¬ _ > ((arrV c1 n1 (fun j => .int (g j))).slots.size : Int); rw [arrV_size]; omega)
    (fun vm₁ _ i hi => by
      have e : scr.slots.getD (sp.toNatClampNeg + i) .null = .int (f (sp.toNatClampNeg + i)) := by
        rw [Array.getD_eq_getD_getElem?, hs5 _ (by omega)]
        rfl
      refine ⟨?_, ?_⟩
      · rw [e]
        exact hfit _ (by omega)
      · rw [e]
        exact trivial)
    (g := F0 m pc ls (.int n :: .int dp :: .ref a :: .int sp :: .ref b0 :: rest)) rfl (by rw [hml]) (rest := rest) rfl (by rw [hb]; exact hdg) hframes (by show 2 * 0 + _ + _ ≤ _; omega)
  have e1 : copied scr (vp_cell c1 (n1, .inl g)) sp dp n = vp_cell c1 (n1, .inl (va_cpy f g sp.toNatClampNeg dp.toNatClampNeg n.toNatClampNeg)) := va_copiedX (fun z => .int z) scr c1 f g hs5 h4
  rw [e1] at X' step
  have hl : a < H.size := (Array.getElem?_eq_some_iff.mp hc1).1
  have hheap : ((T.setVm vm').setCell a (vp_cell c1 (n1, .inl (va_cpy f g sp.toNatClampNeg dp.toNatClampNeg n.toNatClampNeg)))).heap = H.setIfInBounds a (vp_cell c1 (n1, .inl (va_cpy f g sp.toNatClampNeg dp.toNatClampNeg n.toNatClampNeg))) := by rw [← hT]; rfl
  have oq : ∀ q : Nat, q ≠ a → (H.setIfInBounds a (vp_cell c1 (n1, .inl (va_cpy f g sp.toNatClampNeg dp.toNatClampNeg n.toNatClampNeg))))[q]? = H[q]? := fun q hq => by simp [Array.getElem?_setIfInBounds, Ne.symm hq]
  obtain ⟨t, a1, b1⟩ := kk _ _ (hP.set hD ha1 (show (H.setIfInBounds a _)[a]? = some _ by simp [Array.getElem?_setIfInBounds, hl]) oq) (hD.set ha1) ⟨by simp; exact hS.1, fun q g1 g2 => by
      rw [oq q (fun e => g2 (by rw [e]; exact hD.2 q1 _ ha1))]
      exact hS.2.1 q g1 g2, fun q hq => by
      rcases List.mem_append.mp hq with h | h
      · exact hS.2.2 q h
      · obtain ⟨z, -, hz⟩ := List.mem_map.mp h
        rw [← hz]
        exact hD.2 q1 _ ha1⟩ _ hheap X'
  exact ⟨t, step t a1, b1⟩
/-- System.arraycopy of bytes -/
theorem k_copyB (C : Cx p s m args meth c G y cc n ret) (hW : Ws G A s S H locs) (i1 j1 : Nat) {seg1 : va_W} {a0 a1 N0 N1 k sp dp : Nat} {f g : Nat → Int32} (hx : roAt G (a0, .inl (G.2.2.1 3, N0, .inl f)) H) (hfit : ∀ j, j < N0 → fits .byte (.int (f j)) = true) (hi1 : S[i1]? = some seg1) (hj1 : seg1[j1]? = some (a1, .inl (G.2.2.1 3, N1, .inl g))) {own : String} {index : Nat} (hl : Cond.methodLink own index arraycopyName ∈ lw_all) (ho : own = y.cls) (h0 : sp + k ≤ N0) (h1 : dp + k ≤ N1) (hk : N0 < 2 ^ 31) (hk1 : N1 < 2 ^ 31) (hfr : 1 ≤ R.frames) (hlo : 29 ≤ R.locals) (hsz : ls.size = n) (hrest : rest.length ≤ 4) (d : decode cc pc = .ok (.invokestatic index, 3)) (hS : S.set i1 (seg1.set j1 (a1, .inl (G.2.2.1 3, N1, .inl (va_cpy f g sp dp k)))) = S')
    (kk : ∀ (H : Heap) (locs : List Loc), Ws G A s S' H locs → W p l e R s m args below meth c H locs cells slots Q (F0 m (pc + 3) ls rest)) : W p l e R s m args below meth c H locs cells slots Q (F0 m pc ls (.int (nI k) :: .int (nI dp) :: .ref a1 :: .int (nI sp) :: .ref a0 :: rest)) := by
  subst ho
  obtain ⟨p1, e1, e2⟩ := seg_place hi1 hj1
  obtain ⟨cell, x1, x2, x3, x4, x5, x6⟩ := ro_arr hx C.hK 3 rfl
  obtain ⟨w1, w2, w3, w4, w5⟩ := hW
  have zs : (nI sp).toNatClampNeg = sp := nI_clamp (by omega)
  have zd : (nI dp).toNatClampNeg = dp := nI_clamp (by omega)
  have zk : (nI k).toNatClampNeg = k := nI_clamp (by omega)
  refine va_copyb (D := gD G) (own := y.cls) C.hx C.hb (C.hml.trans hsz.symm) C.hown (C.hts _ hl) (C.hts _ q547) (C.hts _ q546) (C.hts _ q108) C.hK w1 w2 w3 x1 x3 x2 x4 x6 hfit p1 3 e1 rfl (nI_pos (by omega)) (nI_pos (by omega)) (nI_pos (by omega)) (by rw [zs, zk]; omega) (by rw [zd, zk]; omega) hfr (by have := k_cat hrest; have hw : nativeFrameWords "java/lang/System" "arraycopy" 5 ≤ 10 := (by decide); omega) d (fun H locs g1 g2 g3 => kk H locs ?_)
  rw [zs, zd, zk] at g1 g2
  rw [← e2, hS] at g1 g2
  exact ⟨g1, g2, g3, w4, w5⟩
variable {fr lo mc ms nm index : Nat} {av As : List Value} {Sc Sr : List va_W} {Rp : roI → Prop} {Qp : Option Value → List va_W → Prop} {y1 : MethodName} {b1 : ByteArray} {n1 : Nat} {ret1 : Option FieldType} {st0 : List Value} {own C1 : String}
/-- super.m(..): the superclass's own method, on this -/
theorem k_callSU {a ci N : Nat} {T : u_T} {ty : Nat → FieldType} {fs : List Value} (C : Cx p s m args meth c G y cc n ret) (hM : Ct l G y1 b1 n1 ret1 fr lo mc ms (.ref a :: As) Sc Rp Qp) (hW : Ws G A s S H locs) (F : ClF ci C1 T N ty) (hx : roAt G (a, .inr (ci, fs)) H) (h1 : Cond.methodLink own index y1 ∈ lw_all) (h6 : Cond.sameMethod y1.cls y1.cls y1.name y1.desc ∈ lw_all) (h3 : Cond.superclass own y1.cls ∈ lw_all) (h2 : Cond.instanceMethod y1 ∈ lw_all) (h4 : Cond.initialized y1.cls ∈ lw_all) (h5 : Cond.code y1 b1 n1 ret1 ∈ lw_all) (ho : own = y.cls) (hd : y1.name ≠ "<init>" ∧ (parseMethodDescriptor y1.desc).map (fun d => d.parameters.length) = some As.length) (hfr : fr + 1 ≤ R.frames) (hlo : 8 + (n1 + 11) + lo ≤ R.locals) (hc : cells + mc ≤ R.cells) (hs : slots + ms ≤ R.slots) (hsz : ls.size = n) (hst : st0 = As.reverse ++ .ref a :: rest) (hrest : rest.length ≤ 4) (d : decode cc pc = .ok (.invokespecial index, 3)) (hp : S.flatten.Perm (Sr ++ Sc).flatten) (hR : ∀ x, Rp x → (∃ z, x = .inl z ∧ z ∈ Sr.flatten) ∨ (∃ z, x = .inr z.1 ∧ z ∈ Sr.flatten ∧ roLv G z.1 H) ∨ Ro G A s x)
    (kk : ∀ (v : Option Value) (H1 : Heap) (locs1 : List Loc) (S1 : List va_W), Qp v S1 → H.size ≤ H1.size → Ws G A s (Sr ++ S1) H1 locs1 → W p l e R s m args below meth c H1 locs1 (cells + mc) (slots + ms) Q (F0 m (pc + 3) ls (v.toList ++ rest))) : W p l e R s m args below meth c H locs cells slots Q (F0 m pc ls st0) := by
  subst ho
  have hG : GoodIn lw_all (va_wsSU y.cls index y1 (ws_ y1 b1 n1 ret1)) := by
    refine lw_app ?_ (lw_meth h5)
    intro w hw
    simp only [List.mem_cons, List.not_mem_nil, or_false] at hw
    rcases hw with e | e | e | e | e <;> rw [e] <;> assumption
  exact k_call (va_runSU (own := y.cls) (C := C1) (C.hK.1 ci _ F.1).2 ⟨C.hx, C.hb, C.hml, C.hown, C.hts⟩ (hM H.size) (va_cwSU As.length C.hts hG rfl rfl rfl hd ⟨hfr, hlo⟩) ⟨cPre_blind, k_recv C F hx, k_preU C hW hp hR⟩ rfl rfl hsz hst (lv_room (k_cat hrest)) d ⟨hc, hs⟩) hW hp kk
theorem k_callUP {a ci N : Nat} {x1 : MethodName} {owner : String} {T : u_T} {ty : Nat → FieldType} {fs : List Value} (C : Cx p s m args meth c G y cc n ret) (hM : Ct l G y1 b1 n1 ret1 fr lo mc ms (.ref a :: As) Sc Rp Qp) (hW : Ws G A s S H locs) (F : ClF ci C1 T N ty) (hx : roAt G (a, .inr (ci, fs)) H) (h1 : Cond.methodLink own index x1 ∈ lw_all) (h6 : Cond.sameMethod x1.cls owner x1.name x1.desc ∈ lw_all) (h3 : Cond.selects C1 x1 y1 ∈ kXt) (h2 : Cond.instanceMethod y1 ∈ lw_all) (h4 : Cond.initialized y1.cls ∈ lw_all) (h5 : Cond.code y1 b1 n1 ret1 ∈ lw_all) (ho : own = y.cls) (hyx : y1 = ⟨owner, x1.name, x1.desc⟩) (hd : owner ≠ "java/lang/invoke/MethodHandle" ∧ owner ≠ "java/lang/invoke/VarHandle" ∧ (parseMethodDescriptor x1.desc).map (fun d => d.parameters.length) = some As.length) (hfr : fr + 1 ≤ R.frames) (hlo : 8 + (n1 + 11) + lo ≤ R.locals) (hc : cells + mc ≤ R.cells) (hs : slots + ms ≤ R.slots) (hsz : ls.size = n) (hst : st0 = As.reverse ++ .ref a :: rest) (hrest : rest.length ≤ 4) (d : decode cc pc = .ok (.invokevirtual index, 3)) (hp : S.flatten.Perm (Sr ++ Sc).flatten) (hR : ∀ x, Rp x → (∃ z, x = .inl z ∧ z ∈ Sr.flatten) ∨ (∃ z, x = .inr z.1 ∧ z ∈ Sr.flatten ∧ roLv G z.1 H) ∨ Ro G A s x)
    (kk : ∀ (v : Option Value) (H1 : Heap) (locs1 : List Loc) (S1 : List va_W), Qp v S1 → H.size ≤ H1.size → Ws G A s (Sr ++ S1) H1 locs1 → W p l e R s m args below meth c H1 locs1 (cells + mc) (slots + ms) Q (F0 m (pc + 3) ls (v.toList ++ rest))) : W p l e R s m args below meth c H locs cells slots Q (F0 m pc ls st0) := by
  subst ho
  have hT : ∀ w ∈ kXt ++ lw_all, w.before args s = true := fun w hw => (List.mem_append.mp hw).elim (fun h => va_Nw.use ((Bool.and_eq_true_iff.mp (kXt_good w h)).1) (C.hX.2.1.2 w h)) (C.hts w)
  have up : ∀ {ws : List Cond}, GoodIn lw_all ws → GoodIn (kXt ++ lw_all) ws := fun h w hw => ⟨List.mem_append_right _ (h w hw).1, (h w hw).2⟩
  have hG0 : GoodIn lw_all [.methodLink y.cls index x1, .sameMethod x1.cls owner x1.name x1.desc, .instanceMethod y1, .initialized y1.cls] := by
    refine lw_good (fun w hw => ?_)
    simp only [List.mem_cons, List.not_mem_nil, or_false] at hw
    rcases hw with e | e | e | e <;> rw [e] <;> assumption
  have hG : GoodIn (kXt ++ lw_all) (va_wsU y.cls index C1 owner x1 y1 (ws_ y1 b1 n1 ret1)) := by
    intro w hw
    rcases List.mem_append.mp (show w ∈ _ ++ ws_ y1 b1 n1 ret1 from hw) with h | h
    · simp only [List.mem_cons, List.not_mem_nil, or_false] at h
      rcases h with e | e | e | e | e
      · exact up hG0 w (by rw [e]; simp)
      · exact up hG0 w (by rw [e]; simp)
      · rw [e]; exact ⟨List.mem_append_left _ h3, Or.inl (kXt_good _ h3)⟩
      · exact up hG0 w (by rw [e]; simp)
      · exact up hG0 w (by rw [e]; simp)
    · exact up (lw_meth h5) w h
  exact k_call (va_runU (own := y.cls) ⟨C.hx, C.hb, C.hml, C.hown, hT⟩ (hM H.size) (va_cwU As.length hT hG rfl rfl rfl hyx hd ⟨hfr, hlo⟩) ⟨cPre_blind, k_recv C F hx, k_preU C hW hp hR⟩ rfl rfl hsz hst (lv_room (k_cat hrest)) d ⟨hc, hs⟩) hW hp kk
end KT
section KT2
variable {p : Program} {l : Launch} {e : Env} {R : Room} {s : State} {m : MethodId} {args : Array Value} {below : List Frame} {meth : Method} {c : Code} {H : Heap} {locs : List Loc} {cells slots : Nat} {Q : State → Prop}
variable {cc : ByteArray} {rest : List Value} {pc : Nat} {ls : Array Slot} {G : GT} {y : MethodName} {n : Nat} {ret : Option FieldType} {a : Nat}
theorem kn_ishr0 (C : Cx p s m args meth c G y cc n ret) (d : decode cc pc = .ok (.ishr, 1)) (kk : W p l e R s m args below meth c H locs cells slots Q (F0 m (pc + 1) ls (.int (nI a) :: rest))) : W p l e R s m args below meth c H locs cells slots Q (F0 m pc ls (.int (nI 0) :: .int (nI a) :: rest)) := lv_ishr C.hx C.hb d (by
  have e : nI a >>> ((nI 0) &&& 31) = nI a := by
    rw [show (nI 0) &&& 31 = (0 : Int32) by decide]
    exact Int32.shiftRight_zero ..
  rw [e]; exact kk)
theorem kn_ishl0 (C : Cx p s m args meth c G y cc n ret) (d : decode cc pc = .ok (.ishl, 1)) (kk : W p l e R s m args below meth c H locs cells slots Q (F0 m (pc + 1) ls (.int (nI a) :: rest))) : W p l e R s m args below meth c H locs cells slots Q (F0 m pc ls (.int (nI 0) :: .int (nI a) :: rest)) := lv_ishl C.hx C.hb d (by
  have e : nI a <<< ((nI 0) &&& 31) = nI a := by
    rw [show (nI 0) &&& 31 = (0 : Int32) by decide]
    exact Int32.shiftLeft_zero ..
  rw [e]; exact kk)
end KT2
/-- a text's letters behind a copy -/
def cpN (t u : Nat → Nat) (sp dp k : Nat) : Nat → Nat := fun j => if dp ≤ j ∧ j < dp + k then t (sp + (j - dp)) else u j
theorem cpN_eq (t u : Nat → Nat) (sp dp k : Nat) : va_cpy (fun j => nI (t j)) (fun j => nI (u j)) sp dp k = fun j => nI (cpN t u sp dp k j) := by
  funext j
  unfold va_cpy cpN
  split <;> rfl
def ptN (u : Nat → Nat) (k c : Nat) : Nat → Nat := fun j => if j = k then c else u j
theorem nar_b : ∀ t : Nat, t < 128 → narrow .byte (.int (nI t)) = .int (nI t) := by decide +kernel
theorem fit_b : ∀ t : Nat, t < 128 → fits .byte (.int (nI t)) = true := by decide +kernel
theorem i2b_b : ∀ t : Nat, t < 128 → (nI t).toInt8.toInt32 = nI t := by decide +kernel
theorem i2c_b : ∀ t : Nat, t < 128 → ((nI (t &&& 255)).toUInt32 % 65536).toInt32 = nI t := by decide +kernel
theorem nar_c : ∀ t : Nat, t < 128 → narrow .char (.int (nI t)) = .int (nI t) := by decide +kernel
theorem vpn_b : ∀ t : Nat, t < 128 → vp_nar .byte (nI t) = nI t := by decide +kernel
theorem ptN_eq (u : Nat → Nat) (k c : Nat) (hc : c < 128) : upd (fun j => nI (u j)) k (vp_nar .byte (nI c)) = fun j => nI (ptN u k c j) := by
  funext j
  rw [vpn_b c hc]
  unfold upd ptN
  split <;> rfl
theorem and255 : ∀ t : Nat, t < 128 → t &&& 255 = t := by decide +kernel
section KT3
variable {p : Program} {l : Launch} {e : Env} {R : Room} {s : State} {m : MethodId} {args : Array Value} {below : List Frame} {meth : Method} {c : Code} {H : Heap} {locs : List Loc} {cells slots : Nat} {Q : State → Prop}
variable {cc : ByteArray} {rest : List Value} {pc : Nat} {ls : Array Slot} {G : GT} {y : MethodName} {n : Nat} {ret : Option FieldType}
theorem k_castB (C : Cx p s m args meth c G y cc n ret) {a N : Nat} {f : Nat → Int32} (hx : roAt G (a, .inl (G.2.2.1 3, N, .inl f)) H) {own : String} {index : Nat} (hl : Cond.classLink own index "[B" ∈ lw_all) (ho : own = y.cls) (d : decode cc pc = .ok (.checkcast index, 3))
    (kk : W p l e R s m args below meth c H locs cells slots Q (F0 m (pc + 3) ls (.ref a :: rest))) : W p l e R s m args below meth c H locs cells slots Q (F0 m pc ls (.ref a :: rest)) := by
  subst ho
  obtain ⟨cell, h1, h2, h3, h4, h5, h6⟩ := hx
  have hv : cell.vm.isStatics = false := by
    cases hv : cell.vm <;> first | rfl | exact absurd hv (h4 _)
  have e1 : s.vm.findClass "[B" = some (G.2.2.1 3) := (C.hK.2 3 _ rfl).2
  intro T hT X
  obtain ⟨vm', X', st⟩ := X.checkcastYes C.hx C.hown (C.hts _ hl) (by rw [hT]; exact h1) hv e1 (by rw [h2]; exact va_asg _ _) (g := F0 m pc ls (.ref a :: rest)) rfl rfl (by rw [C.hb]; exact d)
  obtain ⟨t, a1, b1⟩ := kk (T.setVm vm') hT X'
  exact ⟨t, st t a1, b1⟩
end KT3
/-- the literals' letters -/
def txN (i j : Nat) : Nat := ((kTx i).getD j 0).toInt.toNat
theorem kTx_lt : ∀ i j, txN i j < 128 := by
  intro i j
  have key : ∀ (L : List Int32), L.all (fun x => x.toInt.toNat < 128) = true → ∀ j, (L.getD j 0).toInt.toNat < 128 := by
    intro L h j
    rw [List.getD_eq_getElem?_getD]
    cases e : L[j]? with
    | none => decide
    | some x => simpa using List.all_eq_true.mp h x (List.mem_of_getElem? e)
  unfold txN
  match i with
  | 0 => exact key _ (by decide) j
  | 1 => exact key _ (by decide) j
  | 2 => exact key _ (by decide) j
  | 3 => exact key _ (by decide) j
  | 4 => exact key _ (by decide) j
  | i + 5 => exact key [] (by decide) j
theorem txN_eq (i : Nat) : (fun j => (kTx i).getD j 0) = fun j => nI (txN i j) := by
  funext j
  have key : ∀ (L : List Int32), L.all (fun x => x = nI x.toInt.toNat) = true → (L.getD j 0) = nI (L.getD j 0).toInt.toNat := by
    intro L h
    rw [List.getD_eq_getElem?_getD]
    cases e : L[j]? with
    | none => decide
    | some x => simpa using List.all_eq_true.mp h x (List.mem_of_getElem? e)
  unfold txN
  match i with
  | 0 => exact key _ (by decide)
  | 1 => exact key _ (by decide)
  | 2 => exact key _ (by decide)
  | 3 => exact key _ (by decide)
  | 4 => exact key _ (by decide)
  | i + 5 => exact key [] (by decide)
theorem Ro_str {G : GT} {A : Nat → Prop} {s : State} (hX : Kx G s) (hA : ∀ q, A q → gB G ≤ q) : ∀ i, i < 6 → Ro G A s (.inl (G.2.2.2 (10 + i), .inr (17, [.ref (G.2.2.2 (20 + i)), .int (nI 0), .int (kHs i), .int (kHz i)])))
  | 0, _ => Ro.const hX hA (List.mem_of_getElem? (i := 4) rfl)
  | 1, _ => Ro.const hX hA (List.mem_of_getElem? (i := 6) rfl)
  | 2, _ => Ro.const hX hA (List.mem_of_getElem? (i := 8) rfl)
  | 3, _ => Ro.const hX hA (List.mem_of_getElem? (i := 10) rfl)
  | 4, _ => Ro.const hX hA (List.mem_of_getElem? (i := 12) rfl)
  | 5, _ => Ro.const hX hA (List.mem_of_getElem? (i := 14) rfl)
  | n + 6, h => by omega
theorem Ro_txt {G : GT} {A : Nat → Prop} {s : State} (hX : Kx G s) (hA : ∀ q, A q → gB G ≤ q) (i : Nat) (h : i < 6) : Ro G A s (.inl (G.2.2.2 (20 + i), .inl (G.2.2.1 3, (kTx i).length, .inl (fun j => nI (txN i j))))) := by
  rw [← txN_eq]
  match i, h with
  | 0, _ => exact Ro.const hX hA (List.mem_of_getElem? (i := 5) rfl)
  | 1, _ => exact Ro.const hX hA (List.mem_of_getElem? (i := 7) rfl)
  | 2, _ => exact Ro.const hX hA (List.mem_of_getElem? (i := 9) rfl)
  | 3, _ => exact Ro.const hX hA (List.mem_of_getElem? (i := 11) rfl)
  | 4, _ => exact Ro.const hX hA (List.mem_of_getElem? (i := 13) rfl)
  | 5, _ => exact Ro.const hX hA (List.mem_of_getElem? (i := 15) rfl)
  | n + 6, h => omega
theorem Ro_ones {G : GT} {A : Nat → Prop} {s : State} (hX : Kx G s) (hA : ∀ q, A q → gB G ≤ q) : Ro G A s (.inl (G.2.2.2 5, .inl (G.2.2.1 3, 100, .inl (fun j => nI (48 + j % 10))))) := Ro.const hX hA (List.mem_of_getElem? (i := 2) rfl)
theorem Ro_tens {G : GT} {A : Nat → Prop} {s : State} (hX : Kx G s) (hA : ∀ q, A q → gB G ≤ q) : Ro G A s (.inl (G.2.2.2 6, .inl (G.2.2.1 3, 100, .inl (fun j => nI (48 + j / 10))))) := Ro.const hX hA (List.mem_of_getElem? (i := 3) rfl)
def hsN (t : Nat → Nat) : Nat := 31 * (31 * (31 * (31 * 0 + (t 0 &&& 255)) + (t 1 &&& 255)) + (t 2 &&& 255)) + (t 3 &&& 255)
theorem sub_le0 {k : Nat} (h : k ≤ 16) : nI k - nI 16 ≤ 0 := by
  rw [Int32.le_iff_toInt_le, pk_sub_toInt (by omega) (by decide), Int32.toInt_zero]
  omega
theorem ng_le1 : ∀ i : Nat, i < 10 → ¬ (-nI i ≤ (-10)) := by decide
theorem ng_le2 : ∀ i : Nat, i < 12 → 10 ≤ i → (-nI i ≤ (-10)) := by decide
theorem ng_le3 : ∀ i : Nat, i < 12 → ¬ (-nI i ≤ nI 10 * (-10)) := by decide
theorem ng_100 : ∀ i : Nat, i < 12 → (-100) < -nI i := by decide
theorem ng_9a : ∀ i : Nat, i < 10 → (-9) ≤ -nI i := by decide
theorem ng_9b : ∀ i : Nat, i < 12 → 10 ≤ i → ¬ (-9) ≤ -nI i := by decide
theorem ng_ng (i : Nat) : -(-nI i) = nI i := Int32.neg_neg ..
/-- the letters of a message's line -/
def lineN (dg w s r p : Nat) : Nat :=
  if p < 4 then txN 0 (5 * w + p)
  else if p = 4 ∨ p = 5 + dg ∨ p = 8 + dg then 32
  else if p < 5 + dg then 48 + (if p = 5 ∧ dg = 2 then s / 10 else s % 10)
  else if p = 6 + dg then 98
  else if p = 7 + dg then 121
  else 48 + r
theorem cpN_lt {t u : Nat → Nat} (ht : ∀ j, t j < 128) (hu : ∀ j, u j < 128) (sp dp k : Nat) : ∀ j, cpN t u sp dp k j < 128 := by
  intro j
  unfold cpN
  split
  · exact ht _
  · exact hu _
theorem ptN_lt {u : Nat → Nat} {k c : Nat} (hc : c < 128) (hu : ∀ j, u j < 128) : ∀ j, ptN u k c j < 128 := by
  intro j
  unfold ptN
  split
  · exact hc
  · exact hu _
theorem z_lt : ∀ j : Nat, (fun _ => 0 : Nat → Nat) j < 128 := fun _ => (show 0 < 128 by decide)
theorem tx10 : txN 1 0 = 32 := by decide
theorem tx11 : txN 1 1 = 98 := by decide
theorem tx12 : txN 1 2 = 121 := by decide
theorem tx13 : txN 1 3 = 32 := by decide
