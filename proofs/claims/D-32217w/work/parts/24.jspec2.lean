/-! ===== JDK 2: rows for arrays of objects, ArrayList ===== -/
section KM
variable {p : Program} {l : Launch} {e : Env} {R : Room} {s : State} {m : MethodId} {args : Array Value} {below : List Frame} {meth : Method} {c : Code} {H : Heap} {locs : List Loc} {cells slots : Nat} {Q : State → Prop}
variable {cc : ByteArray} {rest : List Value} {pc : Nat} {ls : Array Slot} {G : GT} {y : MethodName} {n : Nat} {ret : Option FieldType} {A : Nat → Prop} {S S' : List va_W}
theorem k_copyM (C : Cx p s m args meth c G y cc n ret) (hW : Ws G A s S H locs) (i0 j0 i1 j1 : Nat) {seg0 seg1 : va_W} {a0 a1 N0 N1 k : Nat} {f g : Nat → Option Nat} (hi0 : S[i0]? = some seg0) (hj0 : seg0[j0]? = some (a0, .inl (G.2.2.1 4, N0, .inr (.inr (.inr (.inr f)))))) (hi1 : S[i1]? = some seg1) (hj1 : seg1[j1]? = some (a1, .inl (G.2.2.1 4, N1, .inr (.inr (.inr (.inr g)))))) {own : String} {index : Nat} (hl : Cond.methodLink own index arraycopyName ∈ lw_all) (ho : own = y.cls) (h0 : k ≤ N0) (h1 : k ≤ N1) (hk : k < 2 ^ 31) (hel : ∀ i, i < k → ∀ z, f i = some z → roLv G z H) (hfr : 1 ≤ R.frames) (hlo : 29 ≤ R.locals) (hsz : ls.size = n) (hrest : rest.length ≤ 4) (d : decode cc pc = .ok (.invokestatic index, 3)) (hS : S.set i1 (seg1.set j1 (a1, .inl (G.2.2.1 4, N1, .inr (.inr (.inr (.inr (va_cpy f g 0 0 k))))))) = S')
    (kk : ∀ (H : Heap) (locs : List Loc), Ws G A s S' H locs → W p l e R s m args below meth c H locs cells slots Q (F0 m (pc + 3) ls rest)) : W p l e R s m args below meth c H locs cells slots Q (F0 m pc ls (.int (nI k) :: .int (nI 0) :: .ref a1 :: .int (nI 0) :: .ref a0 :: rest)) := by
  subst ho
  obtain ⟨p0, e0, -⟩ := seg_place hi0 hj0
  obtain ⟨p1, e1, e2⟩ := seg_place hi1 hj1
  have hany : ∀ i, i < k → ∀ z, f i = some z → va_Any "java/lang/Object" s H z := fun i hi z hz => k_any C (hel i hi z hz)
  obtain ⟨w1, w2, w3, w4, w5⟩ := hW
  have z0 : (nI 0).toNatClampNeg = 0 := nI_clamp (by omega)
  have zk : (nI k).toNatClampNeg = k := nI_clamp hk
  refine va_copyM (D := gD G) (own := y.cls) C.hx C.hb (C.hml.trans hsz.symm) C.hown (C.hts _ hl) (C.hts _ q547) (C.hts _ q546) (C.hts _ q108) C.hK w1 w2 w3 p0 p1 4 4 e0 e1 rfl rfl (nI_pos (by omega)) (nI_pos (by omega)) (nI_pos hk) (by rw [z0, zk]; omega) (by rw [z0, zk]; omega) (by rw [z0, zk]; intro i hi z hz; rw [Nat.zero_add] at hz; exact hany i hi z hz) hfr (by have := k_cat hrest; have hw : nativeFrameWords "java/lang/System" "arraycopy" 5 ≤ 10 := (by decide); omega) d (fun H locs g1 g2 g3 => kk H locs ?_)
  rw [z0, zk] at g1 g2
  rw [← e2, hS] at g1 g2
  exact ⟨g1, g2, g3, w4, w5⟩
theorem k_getCo (C : Cx p s m args meth c G y cc n ret) {a N : Nat} {f : Nat → Option Nat} (hx : roAt G (a, .inl (G.2.2.1 4, N, .inr (.inr (.inr (.inr f))))) H) {own : String} {index : Nat} (hl : Cond.methodLink own index ⟨"java/lang/Object", "getClass", "()Ljava/lang/Class;"⟩ ∈ lw_all) (ho : own = y.cls) (hfr : 1 ≤ R.frames) (hlo : 29 ≤ R.locals) (hsz : ls.size = n) (hrest : rest.length ≤ 4) (d : decode cc pc = .ok (.invokevirtual index, 3))
    (kk : W p l e R s m args below meth c H locs cells slots Q (F0 m (pc + 3) ls (.ref (G.2.2.2 4) :: rest))) : W p l e R s m args below meth c H locs cells slots Q (F0 m pc ls (.ref a :: rest)) := by
  subst ho
  obtain ⟨cell, h1, h2, h3, h4, h5, h6⟩ := hx
  have hM := C.hX.2.2.2.2.2.2.2.2.2.2.1
  refine va_getC (own := y.cls) (C := "[Ljava/lang/Object;") C.hx C.hb (C.hml.trans hsz.symm) C.hown (C.hts _ hl) hM.2.use (C.hts _ q2714) (C.hts _ q934) (C.hts _ q969) hM.1 ⟨cell, h1, ?_, ?_⟩ hfr (by have := k_cat hrest; omega) d kk
  · cases hv : cell.vm <;> first | rfl | exact absurd hv (h4 _)
  · rw [h2]
    exact va_nmO (C.hK.2 4 _ rfl).2 (by decide)
theorem k_ldcM (C : Cx p s m args meth c G y cc n ret) {own : String} {index : Nat} (hl : Cond.classLink own index "[Ljava/lang/Object;" ∈ lw_all) (ho : own = y.cls) (d : decode cc pc = .ok (.ldc index, 2))
    (kk : W p l e R s m args below meth c H locs cells slots Q (F0 m (pc + 2) ls (.ref (G.2.2.2 4) :: rest))) : W p l e R s m args below meth c H locs cells slots Q (F0 m pc ls rest) := by
  subst ho
  have hM := C.hX.2.2.2.2.2.2.2.2.2.2.1
  exact va_ldcM C.hx C.hb C.hown (C.hts _ hl) hM.1 d kk
end KM
theorem cpy_get (xs : List Nat) (k : Nat) (hk : xs.length = k) : va_cpy (fun i => xs[i]?) (fun _ => none) 0 0 k = (fun i => xs[i]?) := by
  funext i
  unfold va_cpy
  split
  · simp
  · next h => simp at h; exact (List.getElem?_eq_none (by omega)).symm
theorem up_app (xs : List Nat) (x k : Nat) (hk : xs.length = k) : va_up (fun i => xs[i]?) k (some x) = (fun i => (xs ++ [x])[i]?) := by
  subst hk
  funext i
  unfold va_up
  rcases Nat.lt_trichotomy i xs.length with h | h | h
  · rw [if_neg (by omega), List.getElem?_append_left h]
  · rw [if_pos h, h]; simp
  · rw [if_neg (by omega), List.getElem?_eq_none (l := xs ++ [x]) (by simp; omega)]
    exact List.getElem?_eq_none (by omega)
/-- the list a of the elements xs, in the array q of cap places -/
def alA (G : GT) (q cap : Nat) (xs : List Nat) : Nat × va_E := (q, .inl (G.2.2.1 4, cap, .inr (.inr (.inr (.inr (fun i => xs[i]?))))))
def alH (a q : Nat) (md : Int32) (n : Nat) : Nat × va_E := (a, .inr (10, [.int md, .ref q, .int (nI n)]))
/-! ===== Integer ===== -/
theorem nI_m128 {i : Nat} (h : i < 2 ^ 31) : ¬ nI i < -128 := by
  intro h1
  have h2 := nI_pos h
  rw [Int32.lt_iff_toInt_lt] at h1 h2
  have e1 : (-128 : Int32).toInt = -128 := by decide
  have e2 : (0 : Int32).toInt = 0 := by decide
  omega
theorem vb_nI {i : Nat} (_h : i ≤ 127) : vb_c (i + 128) = nI i := by
  show Int32.ofNat (i + 128) - 128 = Int32.ofNat i
  rw [Int32.ofNat_add]
  have e : Int32.ofNat 128 = 128 := rfl
  rw [e, Int32.add_sub_cancel]
theorem Ro.cacheI {G : GT} {A : Nat → Prop} {s : State} {i : Nat} (hX : Kx G s) (hA : ∀ q, A q → gB G ≤ q) (hi : i ≤ 127) : Ro G A s (.inl (G.2.2.2 (1000 + (i + 128)), .inr (16, [.int (nI i)]))) := by
  have hk : i + 128 < 256 := by omega
  have hB := hX.2.2.2.2.2.2.2.2.2.1.1
  obtain ⟨cell, h1, h2, h3, h4⟩ := hB.1 _ hk
  obtain ⟨cf, kf, fi, f, cell', g1, g2, g3, g4, g5, -⟩ := hB.2 _ hk
  have hc : cell' = cell := Option.some.inj (g3.symm.trans h1)
  subst hc
  obtain ⟨hS, hfc, kC, hkC, hkind⟩ := hX.1.1 16 _ rfl
  obtain ⟨cf', kf', fi', f', hi', hsl⟩ := hS 0 (by decide)
  refine ⟨⟨_, rfl, cell', h1, Option.some.inj (h3.symm.trans hfc), g4, h2, fun k hk => ?_⟩, fun h => h4 (hA _ h)⟩
  have hk0 : k = 0 := by
    have : k < 1 := hk
    omega
  subst hk0
  have e := Option.some.inj (g1.symm.trans hi')
  have e2 : f = f' := by
    have := congrArg (fun z => z.2.2.2) e
    exact this
  have hsl' : f'.slot = G.2.1 16 0 := hsl
  show cell'.slots[G.2.1 16 0]? = some (.int (nI i))
  rw [← hsl', ← e2, g5]
  show some (Value.int (vb_c (i + 128))) = _
  rw [vb_nI hi]
section KI
variable {p : Program} {l : Launch} {e : Env} {R : Room} {s : State} {m : MethodId} {args : Array Value} {below : List Frame} {meth : Method} {c : Code} {H : Heap} {locs : List Loc} {cells slots : Nat} {Q : State → Prop}
variable {cc : ByteArray} {rest : List Value} {pc : Nat} {ls : Array Slot} {G : GT} {y : MethodName} {n : Nat} {ret : Option FieldType} {A : Nat → Prop} {S S' : List va_W}
theorem k_cacheI (C : Cx p s m args meth c G y cc n ret) (hW : Ws G A s S H locs) {k : Nat} (hk : k < 256) (d : decode cc pc = .ok (.aaload, 1))
    (kk : W p l e R s m args below meth c H locs cells slots Q (F0 m (pc + 1) ls (.ref (G.2.2.2 (1000 + k)) :: rest))) : W p l e R s m args below meth c H locs cells slots Q (F0 m pc ls (.int (nI k) :: .ref (G.2.2.2 3) :: rest)) := by
  have hT := C.hX.2.2.2.2.2.2.2.2.2.1.2
  refine vb_tq C.hx C.hb (hT.narrow hW.2.2.2.2) hW.2.2.1 (vp_in_nI hk (by decide)) (v := .ref (G.2.2.2 (1000 + k))) (by rw [nI_clamp (by omega)]) d kk
end KI
