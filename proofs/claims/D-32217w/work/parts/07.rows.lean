section KN
variable {p : Program} {l : Launch} {e : Env} {R : Room} {s : State} {m : MethodId} {args : Array Value} {below : List Frame} {meth : Method} {c : Code} {H : Heap} {locs : List Loc} {cells slots : Nat} {Q : State → Prop}
variable {G : GT} {y : MethodName} {cc : ByteArray} {n : Nat} {ret : Option FieldType} {A : Nat → Prop} {S S' : List va_W} {rest : List Value} {pc : Nat} {ls : Array Slot} {a b : Nat} {off : Int} {tgt : Nat}

theorem kn_iadd (C : Cx p s m args meth c G y cc n ret) (d : decode cc pc = .ok (.iadd, 1)) (kk : W p l e R s m args below meth c H locs cells slots Q (F0 m (pc + 1) ls (.int (nI (a + b)) :: rest))) : W p l e R s m args below meth c H locs cells slots Q (F0 m pc ls (.int (nI b) :: .int (nI a) :: rest)) := lv_iadd C.hx C.hb d (by rw [nI_add]; exact kk)
theorem kn_isub (C : Cx p s m args meth c G y cc n ret) (h : b ≤ a) (d : decode cc pc = .ok (.isub, 1)) (kk : W p l e R s m args below meth c H locs cells slots Q (F0 m (pc + 1) ls (.int (nI (a - b)) :: rest))) : W p l e R s m args below meth c H locs cells slots Q (F0 m pc ls (.int (nI b) :: .int (nI a) :: rest)) := lv_isub C.hx C.hb d (by rw [pk_sub h]; exact kk)
theorem kn_imul (C : Cx p s m args meth c G y cc n ret) (d : decode cc pc = .ok (.imul, 1)) (kk : W p l e R s m args below meth c H locs cells slots Q (F0 m (pc + 1) ls (.int (nI (a * b)) :: rest))) : W p l e R s m args below meth c H locs cells slots Q (F0 m pc ls (.int (nI b) :: .int (nI a) :: rest)) := lv_imul C.hx C.hb d (by rw [pk_mul]; exact kk)
theorem kn_idiv (C : Cx p s m args meth c G y cc n ret) (ha : a < 2 ^ 31) (h0 : 0 < b) (hb : b < 2 ^ 31) (d : decode cc pc = .ok (.idiv, 1)) (kk : W p l e R s m args below meth c H locs cells slots Q (F0 m (pc + 1) ls (.int (nI (a / b)) :: rest))) : W p l e R s m args below meth c H locs cells slots Q (F0 m pc ls (.int (nI b) :: .int (nI a) :: rest)) := lv_idiv C.hx C.hb d (nI_ne0 h0 hb) (by rw [pk_div ha h0 hb]; exact kk)
theorem kn_irem (C : Cx p s m args meth c G y cc n ret) (ha : a < 2 ^ 31) (h0 : 0 < b) (hb : b < 2 ^ 31) (d : decode cc pc = .ok (.irem, 1)) (kk : W p l e R s m args below meth c H locs cells slots Q (F0 m (pc + 1) ls (.int (nI (a % b)) :: rest))) : W p l e R s m args below meth c H locs cells slots Q (F0 m pc ls (.int (nI b) :: .int (nI a) :: rest)) := lv_irem C.hx C.hb d (nI_ne0 h0 hb) (by rw [pk_rem ha h0 hb]; exact kk)
theorem kn_ladd (C : Cx p s m args meth c G y cc n ret) (d : decode cc pc = .ok (.ladd, 1)) (kk : W p l e R s m args below meth c H locs cells slots Q (F0 m (pc + 1) ls (.long (lN (a + b)) :: rest))) : W p l e R s m args below meth c H locs cells slots Q (F0 m pc ls (.long (lN b) :: .long (lN a) :: rest)) := lv_ladd C.hx C.hb d (by rw [lN_add]; exact kk)
theorem kn_lsub (C : Cx p s m args meth c G y cc n ret) (h : b ≤ a) (d : decode cc pc = .ok (.lsub, 1)) (kk : W p l e R s m args below meth c H locs cells slots Q (F0 m (pc + 1) ls (.long (lN (a - b)) :: rest))) : W p l e R s m args below meth c H locs cells slots Q (F0 m pc ls (.long (lN b) :: .long (lN a) :: rest)) := lv_lsub C.hx C.hb d (by rw [lN_sub h]; exact kk)
theorem kn_lmul (C : Cx p s m args meth c G y cc n ret) (d : decode cc pc = .ok (.lmul, 1)) (kk : W p l e R s m args below meth c H locs cells slots Q (F0 m (pc + 1) ls (.long (lN (a * b)) :: rest))) : W p l e R s m args below meth c H locs cells slots Q (F0 m pc ls (.long (lN b) :: .long (lN a) :: rest)) := lv_lmul C.hx C.hb d (by rw [lN_mul]; exact kk)
theorem kn_ldiv (C : Cx p s m args meth c G y cc n ret) (ha : a < 2 ^ 63) (h0 : 0 < b) (hb : b < 2 ^ 63) (d : decode cc pc = .ok (.ldiv, 1)) (kk : W p l e R s m args below meth c H locs cells slots Q (F0 m (pc + 1) ls (.long (lN (a / b)) :: rest))) : W p l e R s m args below meth c H locs cells slots Q (F0 m pc ls (.long (lN b) :: .long (lN a) :: rest)) := lv_ldiv C.hx C.hb d (fun h => absurd ((pk_lEQ hb (by omega)).mp (h.trans (show (0 : Int64) = lN 0 from rfl))) (by omega)) (by rw [pk_lDiv ha h0 hb]; exact kk)
theorem kn_i2l (C : Cx p s m args meth c G y cc n ret) (ha : a < 2 ^ 31) (d : decode cc pc = .ok (.i2l, 1)) (kk : W p l e R s m args below meth c H locs cells slots Q (F0 m (pc + 1) ls (.long (lN a) :: rest))) : W p l e R s m args below meth c H locs cells slots Q (F0 m pc ls (.int (nI a) :: rest)) := lv_i2l C.hx C.hb d (nI_l ha) kk
theorem kn_l2i (C : Cx p s m args meth c G y cc n ret) (d : decode cc pc = .ok (.l2i, 1)) (kk : W p l e R s m args below meth c H locs cells slots Q (F0 m (pc + 1) ls (.int (nI a) :: rest))) : W p l e R s m args below meth c H locs cells slots Q (F0 m pc ls (.long (lN a) :: rest)) := lv_l2i C.hx C.hb d (lN_i a) kk
theorem kn_ishr1 (C : Cx p s m args meth c G y cc n ret) (ha : a < 2 ^ 31) (d : decode cc pc = .ok (.ishr, 1)) (kk : W p l e R s m args below meth c H locs cells slots Q (F0 m (pc + 1) ls (.int (nI (a / 2)) :: rest))) : W p l e R s m args below meth c H locs cells slots Q (F0 m pc ls (.int (nI 1) :: .int (nI a) :: rest)) := lv_ishr C.hx C.hb d (by have e := pk_shrN ha ((1 : Int32) &&& 31) 1 (by decide); rw [Nat.pow_one] at e; exact e ▸ kk)
theorem kn_iconst (C : Cx p s m args meth c G y cc n ret) {k : Int} (hk : Int32.ofInt k = nI a) (d : decode cc pc = .ok (.iconst k, 1)) (kk : W p l e R s m args below meth c H locs cells slots Q (F0 m (pc + 1) ls (.int (nI a) :: rest))) : W p l e R s m args below meth c H locs cells slots Q (F0 m pc ls (rest)) := lv_iconst C.hx C.hb d hk kk
theorem kn_lconst (C : Cx p s m args meth c G y cc n ret) {k : Fin 2} (hk : Int64.ofNat (k : Nat) = lN a) (d : decode cc pc = .ok (.lconst k, 1)) (kk : W p l e R s m args below meth c H locs cells slots Q (F0 m (pc + 1) ls (.long (lN a) :: rest))) : W p l e R s m args below meth c H locs cells slots Q (F0 m pc ls (rest)) := lv_lconst C.hx C.hb d hk kk
theorem kn_bipush (C : Cx p s m args meth c G y cc n ret) {k : Int} (hk : (Int8.ofInt k).toInt32 = nI a) (d : decode cc pc = .ok (.bipush k, 2)) (kk : W p l e R s m args below meth c H locs cells slots Q (F0 m (pc + 2) ls (.int (nI a) :: rest))) : W p l e R s m args below meth c H locs cells slots Q (F0 m pc ls rest) := lv_bipush C.hx C.hb d hk kk
theorem kn_sipush (C : Cx p s m args meth c G y cc n ret) {k : Int} (hk : (Int16.ofInt k).toInt32 = nI a) (d : decode cc pc = .ok (.sipush k, 3)) (kk : W p l e R s m args below meth c H locs cells slots Q (F0 m (pc + 3) ls (.int (nI a) :: rest))) : W p l e R s m args below meth c H locs cells slots Q (F0 m pc ls rest) := lv_sipush C.hx C.hb d hk kk
theorem kn_iinc (C : Cx p s m args meth c G y cc n ret) {i k : Nat} {lv lv' : List (Nat × Value)} (d : decode cc pc = .ok (.iinc i 1, 3)) (h : lv_has ls n lv) (hk : lv[k]? = some (i, .int (nI a))) (hn : i < n) (hl : (i, Value.int (nI (a + 1))) :: lv.filter (fun q => !(q.1 == i) && !(q.1 + 1 == i && q.2.category == 2)) = lv') (kk : ∀ ls' : Array Slot, lv_has ls' n lv' → W p l e R s m args below meth c H locs cells slots Q (F0 m (pc + 3) ls' rest)) : W p l e R s m args below meth c H locs cells slots Q (F0 m pc ls rest) := lv_iinc C.hx C.hb d h hk (nI_1 a) hn hl kk
theorem kn_idec (C : Cx p s m args meth c G y cc n ret) {i k : Nat} {lv lv' : List (Nat × Value)} (h0 : 0 < a) (d : decode cc pc = .ok (.iinc i (-1), 3)) (h : lv_has ls n lv) (hk : lv[k]? = some (i, .int (nI a))) (hn : i < n) (hl : (i, Value.int (nI (a - 1))) :: lv.filter (fun q => !(q.1 == i) && !(q.1 + 1 == i && q.2.category == 2)) = lv') (kk : ∀ ls' : Array Slot, lv_has ls' n lv' → W p l e R s m args below meth c H locs cells slots Q (F0 m (pc + 3) ls' rest)) : W p l e R s m args below meth c H locs cells slots Q (F0 m pc ls rest) := lv_iinc C.hx C.hb d h hk (by have e := pk_m1 (a - 1); rw [show a - 1 + 1 = a by omega] at e; exact e) hn hl kk
theorem kn_icmp_eq (C : Cx p s m args meth c G y cc n ret) (ha : a < 2 ^ 31) (hb : b < 2 ^ 31) (d : decode cc pc = .ok (.if_icmp .eq off, 3)) (ht : (pc : Int) + off = (tgt : Int)) (kt : a = b → W p l e R s m args below meth c H locs cells slots Q (F0 m tgt ls rest)) (kf : ¬ (a = b) → W p l e R s m args below meth c H locs cells slots Q (F0 m (pc + 3) ls rest)) : W p l e R s m args below meth c H locs cells slots Q (F0 m pc ls (.int (nI b) :: .int (nI a) :: rest)) := lv_icmp_eq C.hx C.hb d ht (fun h => kt ((nI_eq ha hb).mp h)) (fun h => kf (fun q => h ((nI_eq ha hb).mpr q)))
theorem kn_icmp_ne (C : Cx p s m args meth c G y cc n ret) (ha : a < 2 ^ 31) (hb : b < 2 ^ 31) (d : decode cc pc = .ok (.if_icmp .ne off, 3)) (ht : (pc : Int) + off = (tgt : Int)) (kt : a ≠ b → W p l e R s m args below meth c H locs cells slots Q (F0 m tgt ls rest)) (kf : a = b → W p l e R s m args below meth c H locs cells slots Q (F0 m (pc + 3) ls rest)) : W p l e R s m args below meth c H locs cells slots Q (F0 m pc ls (.int (nI b) :: .int (nI a) :: rest)) := lv_icmp_ne C.hx C.hb d ht (fun h => kt ((not_congr (nI_eq ha hb)).mp h)) (fun h => kf ((nI_eq ha hb).mp h))
theorem kn_icmp_lt (C : Cx p s m args meth c G y cc n ret) (ha : a < 2 ^ 31) (hb : b < 2 ^ 31) (d : decode cc pc = .ok (.if_icmp .lt off, 3)) (ht : (pc : Int) + off = (tgt : Int)) (kt : a < b → W p l e R s m args below meth c H locs cells slots Q (F0 m tgt ls rest)) (kf : ¬ (a < b) → W p l e R s m args below meth c H locs cells slots Q (F0 m (pc + 3) ls rest)) : W p l e R s m args below meth c H locs cells slots Q (F0 m pc ls (.int (nI b) :: .int (nI a) :: rest)) := lv_icmp_lt C.hx C.hb d ht (fun h => kt ((nI_ltI ha hb).mp h)) (fun h => kf (fun q => h ((nI_ltI ha hb).mpr q)))
theorem kn_icmp_ge (C : Cx p s m args meth c G y cc n ret) (ha : a < 2 ^ 31) (hb : b < 2 ^ 31) (d : decode cc pc = .ok (.if_icmp .ge off, 3)) (ht : (pc : Int) + off = (tgt : Int)) (kt : b ≤ a → W p l e R s m args below meth c H locs cells slots Q (F0 m tgt ls rest)) (kf : ¬ (b ≤ a) → W p l e R s m args below meth c H locs cells slots Q (F0 m (pc + 3) ls rest)) : W p l e R s m args below meth c H locs cells slots Q (F0 m pc ls (.int (nI b) :: .int (nI a) :: rest)) := lv_icmp_ge C.hx C.hb d ht (fun h => kt ((nI_leI hb ha).mp h)) (fun h => kf (fun q => h ((nI_leI hb ha).mpr q)))
theorem kn_icmp_gt (C : Cx p s m args meth c G y cc n ret) (ha : a < 2 ^ 31) (hb : b < 2 ^ 31) (d : decode cc pc = .ok (.if_icmp .gt off, 3)) (ht : (pc : Int) + off = (tgt : Int)) (kt : b < a → W p l e R s m args below meth c H locs cells slots Q (F0 m tgt ls rest)) (kf : ¬ (b < a) → W p l e R s m args below meth c H locs cells slots Q (F0 m (pc + 3) ls rest)) : W p l e R s m args below meth c H locs cells slots Q (F0 m pc ls (.int (nI b) :: .int (nI a) :: rest)) := lv_icmp_gt C.hx C.hb d ht (fun h => kt ((nI_ltI hb ha).mp h)) (fun h => kf (fun q => h ((nI_ltI hb ha).mpr q)))
theorem kn_icmp_le (C : Cx p s m args meth c G y cc n ret) (ha : a < 2 ^ 31) (hb : b < 2 ^ 31) (d : decode cc pc = .ok (.if_icmp .le off, 3)) (ht : (pc : Int) + off = (tgt : Int)) (kt : a ≤ b → W p l e R s m args below meth c H locs cells slots Q (F0 m tgt ls rest)) (kf : ¬ (a ≤ b) → W p l e R s m args below meth c H locs cells slots Q (F0 m (pc + 3) ls rest)) : W p l e R s m args below meth c H locs cells slots Q (F0 m pc ls (.int (nI b) :: .int (nI a) :: rest)) := lv_icmp_le C.hx C.hb d ht (fun h => kt ((nI_leI ha hb).mp h)) (fun h => kf (fun q => h ((nI_leI ha hb).mpr q)))
theorem nI_eq32 {a b : Nat} (ha : a < 2 ^ 32) (hb : b < 2 ^ 32) : nI a = nI b ↔ a = b := by
  constructor
  · intro h
    have h1 := pk_tn ha
    rw [h, pk_tn hb] at h1
    exact h1.symm
  · intro h; rw [h]
theorem kw_icmp_eq (C : Cx p s m args meth c G y cc n ret) (ha : a < 2 ^ 32) (hb : b < 2 ^ 32) (d : decode cc pc = .ok (.if_icmp .eq off, 3)) (ht : (pc : Int) + off = (tgt : Int)) (kt : a = b → W p l e R s m args below meth c H locs cells slots Q (F0 m tgt ls rest)) (kf : ¬ a = b → W p l e R s m args below meth c H locs cells slots Q (F0 m (pc + 3) ls rest)) : W p l e R s m args below meth c H locs cells slots Q (F0 m pc ls (.int (nI b) :: .int (nI a) :: rest)) := lv_icmp_eq C.hx C.hb d ht (fun h => kt ((nI_eq32 ha hb).mp h)) (fun h => kf (fun q => h ((nI_eq32 ha hb).mpr q)))
theorem kw_icmp_ne (C : Cx p s m args meth c G y cc n ret) (ha : a < 2 ^ 32) (hb : b < 2 ^ 32) (d : decode cc pc = .ok (.if_icmp .ne off, 3)) (ht : (pc : Int) + off = (tgt : Int)) (kt : a ≠ b → W p l e R s m args below meth c H locs cells slots Q (F0 m tgt ls rest)) (kf : a = b → W p l e R s m args below meth c H locs cells slots Q (F0 m (pc + 3) ls rest)) : W p l e R s m args below meth c H locs cells slots Q (F0 m pc ls (.int (nI b) :: .int (nI a) :: rest)) := lv_icmp_ne C.hx C.hb d ht (fun h => kt (fun q => h ((nI_eq32 ha hb).mpr q))) (fun h => kf ((nI_eq32 ha hb).mp h))
theorem kn_if_eq (C : Cx p s m args meth c G y cc n ret) (ha : a < 2 ^ 31) (d : decode cc pc = .ok (.ifCond .eq off, 3)) (ht : (pc : Int) + off = (tgt : Int)) (kt : a = 0 → W p l e R s m args below meth c H locs cells slots Q (F0 m tgt ls rest)) (kf : ¬ a = 0 → W p l e R s m args below meth c H locs cells slots Q (F0 m (pc + 3) ls rest)) : W p l e R s m args below meth c H locs cells slots Q (F0 m pc ls (.int (nI a) :: rest)) := lv_if_eq C.hx C.hb d ht (fun h => kt ((nI_eq (b := 0) ha (by omega)).mp h)) (fun h => kf (fun q => h ((nI_eq (b := 0) ha (by omega)).mpr q)))
theorem kn_if_ne (C : Cx p s m args meth c G y cc n ret) (ha : a < 2 ^ 31) (d : decode cc pc = .ok (.ifCond .ne off, 3)) (ht : (pc : Int) + off = (tgt : Int)) (kt : ¬ a = 0 → W p l e R s m args below meth c H locs cells slots Q (F0 m tgt ls rest)) (kf : a = 0 → W p l e R s m args below meth c H locs cells slots Q (F0 m (pc + 3) ls rest)) : W p l e R s m args below meth c H locs cells slots Q (F0 m pc ls (.int (nI a) :: rest)) := lv_if_ne C.hx C.hb d ht (fun h => kt (fun q => h ((nI_eq (b := 0) ha (by omega)).mpr q))) (fun h => kf ((nI_eq (b := 0) ha (by omega)).mp h))
theorem kn_if_lt (C : Cx p s m args meth c G y cc n ret) (ha : a < 2 ^ 31) (d : decode cc pc = .ok (.ifCond .lt off, 3)) (ht : (pc : Int) + off = (tgt : Int)) (kf : W p l e R s m args below meth c H locs cells slots Q (F0 m (pc + 3) ls rest)) : W p l e R s m args below meth c H locs cells slots Q (F0 m pc ls (.int (nI a) :: rest)) := lv_if_lt C.hx C.hb d ht (fun h => absurd h (nI_pos ha)) (fun _ => kf)
theorem kn_if_ge (C : Cx p s m args meth c G y cc n ret) (ha : a < 2 ^ 31) (d : decode cc pc = .ok (.ifCond .ge off, 3)) (ht : (pc : Int) + off = (tgt : Int)) (kt : W p l e R s m args below meth c H locs cells slots Q (F0 m tgt ls rest)) : W p l e R s m args below meth c H locs cells slots Q (F0 m pc ls (.int (nI a) :: rest)) := lv_if_ge C.hx C.hb d ht (fun _ => kt) (fun h => absurd (nI_pos' ha) h)
theorem kn_if_gt (C : Cx p s m args meth c G y cc n ret) (ha : a < 2 ^ 31) (d : decode cc pc = .ok (.ifCond .gt off, 3)) (ht : (pc : Int) + off = (tgt : Int)) (kt : 0 < a → W p l e R s m args below meth c H locs cells slots Q (F0 m tgt ls rest)) (kf : a = 0 → W p l e R s m args below meth c H locs cells slots Q (F0 m (pc + 3) ls rest)) : W p l e R s m args below meth c H locs cells slots Q (F0 m pc ls (.int (nI a) :: rest)) := lv_if_gt C.hx C.hb d ht (fun h => kt ((nI_ltI (a := 0) (by omega) ha).mp h)) (fun h => kf (by rcases Nat.eq_zero_or_pos a with q | q; exact q; exact absurd ((nI_ltI (a := 0) (by omega) ha).mpr q) h))
theorem kn_if_le (C : Cx p s m args meth c G y cc n ret) (ha : a < 2 ^ 31) (d : decode cc pc = .ok (.ifCond .le off, 3)) (ht : (pc : Int) + off = (tgt : Int)) (kt : a = 0 → W p l e R s m args below meth c H locs cells slots Q (F0 m tgt ls rest)) (kf : 0 < a → W p l e R s m args below meth c H locs cells slots Q (F0 m (pc + 3) ls rest)) : W p l e R s m args below meth c H locs cells slots Q (F0 m pc ls (.int (nI a) :: rest)) := lv_if_le C.hx C.hb d ht (fun h => kt (by have := (nI_leI (b := 0) ha (by omega)).mp h; omega)) (fun h => kf (by rcases Nat.eq_zero_or_pos a with q | q; exact absurd ((nI_leI (b := 0) ha (by omega)).mpr (by omega)) h; exact q))
def b01 (P : Prop) [Decidable P] : Int32 := if P then 1 else 0
theorem b01_t {P : Prop} [Decidable P] (h : P) : b01 P = 1 := if_pos h
theorem b01_f {P : Prop} [Decidable P] (h : ¬ P) : b01 P = 0 := if_neg h
theorem b01_nar (P : Prop) [Decidable P] : narrow .boolean (.int (b01 P)) = .int (b01 P) := by
  by_cases h : P
  · rw [b01_t h]; decide
  · rw [b01_f h]; decide
theorem b01_fit (P : Prop) [Decidable P] : fits .boolean (.int (b01 P)) = true := by
  by_cases h : P
  · rw [b01_t h]; decide
  · rw [b01_f h]; decide
theorem b01_cg {P P' : Prop} [Decidable P] [Decidable P'] (h : P ↔ P') : b01 P = b01 P' := by
  by_cases q : P
  · rw [b01_t q, b01_t (h.mp q)]
  · rw [b01_f q, b01_f (fun z => q (h.mpr z))]
theorem kb_if_eq (C : Cx p s m args meth c G y cc n ret) {P : Prop} [Decidable P] (d : decode cc pc = .ok (.ifCond .eq off, 3)) (ht : (pc : Int) + off = (tgt : Int)) (kt : ¬ P → W p l e R s m args below meth c H locs cells slots Q (F0 m tgt ls rest)) (kf : P → W p l e R s m args below meth c H locs cells slots Q (F0 m (pc + 3) ls rest)) : W p l e R s m args below meth c H locs cells slots Q (F0 m pc ls (.int (b01 P) :: rest)) := lv_if_eq C.hx C.hb d ht (fun h => kt (fun q => absurd h (by rw [b01_t q]; decide))) (fun h => kf (by by_cases q : P; exact q; exact absurd (b01_f q) h))
theorem kb_if_ne (C : Cx p s m args meth c G y cc n ret) {P : Prop} [Decidable P] (d : decode cc pc = .ok (.ifCond .ne off, 3)) (ht : (pc : Int) + off = (tgt : Int)) (kt : P → W p l e R s m args below meth c H locs cells slots Q (F0 m tgt ls rest)) (kf : ¬ P → W p l e R s m args below meth c H locs cells slots Q (F0 m (pc + 3) ls rest)) : W p l e R s m args below meth c H locs cells slots Q (F0 m pc ls (.int (b01 P) :: rest)) := lv_if_ne C.hx C.hb d ht (fun h => kt (by by_cases q : P; exact q; exact absurd (b01_f q) h)) (fun h => kf (fun q => absurd h (by rw [b01_t q]; decide)))
theorem lgN {a b : Nat} (ha : a < 2 ^ 63) (hb : b < 2 ^ 63) : lg_cmp (lN a) (lN b) = if b < a then 1 else if a = b then 0 else -1 := by
  unfold lg_cmp
  have h2 := pk_lEQ ha hb
  have h3 := pk_lLT hb ha
  simp only [GT.gt, gt_iff_lt, h2, h3]
theorem kl_eq (C : Cx p s m args meth c G y cc n ret) (ha : a < 2 ^ 63) (hb : b < 2 ^ 63) (d1 : decode cc pc = .ok (.lcmp, 1)) (d2 : decode cc (pc + 1) = .ok (.ifCond .eq off, 3)) (ht : ((pc + 1 : Nat) : Int) + off = (tgt : Int)) (kt : a = b → W p l e R s m args below meth c H locs cells slots Q (F0 m tgt ls rest)) (kf : ¬ (a = b) → W p l e R s m args below meth c H locs cells slots Q (F0 m (pc + 4) ls rest)) : W p l e R s m args below meth c H locs cells slots Q (F0 m pc ls (.long (lN b) :: .long (lN a) :: rest)) := by
  refine W.lcmp C.hx C.hb d1 ?_
  rw [lgN ha hb]
  rcases Nat.lt_trichotomy a b with q | q | q
  · rw [if_neg (show ¬ b < a by omega), if_neg (show ¬ a = b by omega)]
    exact lv_if_eq C.hx C.hb d2 ht (fun h => by first | exact kt (by omega) | exact absurd h (by decide)) (fun h => by first | exact kf (by omega) | exact absurd h (by decide) | exact absurd (by decide) h)
  · rw [if_neg (show ¬ b < a by omega), if_pos q]
    exact lv_if_eq C.hx C.hb d2 ht (fun h => by first | exact kt (by omega) | exact absurd h (by decide)) (fun h => by first | exact kf (by omega) | exact absurd h (by decide) | exact absurd (by decide) h)
  · rw [if_pos q]
    exact lv_if_eq C.hx C.hb d2 ht (fun h => by first | exact kt (by omega) | exact absurd h (by decide)) (fun h => by first | exact kf (by omega) | exact absurd h (by decide) | exact absurd (by decide) h)
theorem kl_ne (C : Cx p s m args meth c G y cc n ret) (ha : a < 2 ^ 63) (hb : b < 2 ^ 63) (d1 : decode cc pc = .ok (.lcmp, 1)) (d2 : decode cc (pc + 1) = .ok (.ifCond .ne off, 3)) (ht : ((pc + 1 : Nat) : Int) + off = (tgt : Int)) (kt : a ≠ b → W p l e R s m args below meth c H locs cells slots Q (F0 m tgt ls rest)) (kf : a = b → W p l e R s m args below meth c H locs cells slots Q (F0 m (pc + 4) ls rest)) : W p l e R s m args below meth c H locs cells slots Q (F0 m pc ls (.long (lN b) :: .long (lN a) :: rest)) := by
  refine W.lcmp C.hx C.hb d1 ?_
  rw [lgN ha hb]
  rcases Nat.lt_trichotomy a b with q | q | q
  · rw [if_neg (show ¬ b < a by omega), if_neg (show ¬ a = b by omega)]
    exact lv_if_ne C.hx C.hb d2 ht (fun h => by first | exact kt (by omega) | exact absurd h (by decide)) (fun h => by first | exact kf (by omega) | exact absurd h (by decide) | exact absurd (by decide) h)
  · rw [if_neg (show ¬ b < a by omega), if_pos q]
    exact lv_if_ne C.hx C.hb d2 ht (fun h => by first | exact kt (by omega) | exact absurd h (by decide)) (fun h => by first | exact kf (by omega) | exact absurd h (by decide) | exact absurd (by decide) h)
  · rw [if_pos q]
    exact lv_if_ne C.hx C.hb d2 ht (fun h => by first | exact kt (by omega) | exact absurd h (by decide)) (fun h => by first | exact kf (by omega) | exact absurd h (by decide) | exact absurd (by decide) h)
theorem kl_lt (C : Cx p s m args meth c G y cc n ret) (ha : a < 2 ^ 63) (hb : b < 2 ^ 63) (d1 : decode cc pc = .ok (.lcmp, 1)) (d2 : decode cc (pc + 1) = .ok (.ifCond .lt off, 3)) (ht : ((pc + 1 : Nat) : Int) + off = (tgt : Int)) (kt : a < b → W p l e R s m args below meth c H locs cells slots Q (F0 m tgt ls rest)) (kf : ¬ (a < b) → W p l e R s m args below meth c H locs cells slots Q (F0 m (pc + 4) ls rest)) : W p l e R s m args below meth c H locs cells slots Q (F0 m pc ls (.long (lN b) :: .long (lN a) :: rest)) := by
  refine W.lcmp C.hx C.hb d1 ?_
  rw [lgN ha hb]
  rcases Nat.lt_trichotomy a b with q | q | q
  · rw [if_neg (show ¬ b < a by omega), if_neg (show ¬ a = b by omega)]
    exact lv_if_lt C.hx C.hb d2 ht (fun h => by first | exact kt (by omega) | exact absurd h (by decide)) (fun h => by first | exact kf (by omega) | exact absurd h (by decide) | exact absurd (by decide) h)
  · rw [if_neg (show ¬ b < a by omega), if_pos q]
    exact lv_if_lt C.hx C.hb d2 ht (fun h => by first | exact kt (by omega) | exact absurd h (by decide)) (fun h => by first | exact kf (by omega) | exact absurd h (by decide) | exact absurd (by decide) h)
  · rw [if_pos q]
    exact lv_if_lt C.hx C.hb d2 ht (fun h => by first | exact kt (by omega) | exact absurd h (by decide)) (fun h => by first | exact kf (by omega) | exact absurd h (by decide) | exact absurd (by decide) h)
theorem kl_ge (C : Cx p s m args meth c G y cc n ret) (ha : a < 2 ^ 63) (hb : b < 2 ^ 63) (d1 : decode cc pc = .ok (.lcmp, 1)) (d2 : decode cc (pc + 1) = .ok (.ifCond .ge off, 3)) (ht : ((pc + 1 : Nat) : Int) + off = (tgt : Int)) (kt : b ≤ a → W p l e R s m args below meth c H locs cells slots Q (F0 m tgt ls rest)) (kf : ¬ (b ≤ a) → W p l e R s m args below meth c H locs cells slots Q (F0 m (pc + 4) ls rest)) : W p l e R s m args below meth c H locs cells slots Q (F0 m pc ls (.long (lN b) :: .long (lN a) :: rest)) := by
  refine W.lcmp C.hx C.hb d1 ?_
  rw [lgN ha hb]
  rcases Nat.lt_trichotomy a b with q | q | q
  · rw [if_neg (show ¬ b < a by omega), if_neg (show ¬ a = b by omega)]
    exact lv_if_ge C.hx C.hb d2 ht (fun h => by first | exact kt (by omega) | exact absurd h (by decide)) (fun h => by first | exact kf (by omega) | exact absurd h (by decide) | exact absurd (by decide) h)
  · rw [if_neg (show ¬ b < a by omega), if_pos q]
    exact lv_if_ge C.hx C.hb d2 ht (fun h => by first | exact kt (by omega) | exact absurd h (by decide)) (fun h => by first | exact kf (by omega) | exact absurd h (by decide) | exact absurd (by decide) h)
  · rw [if_pos q]
    exact lv_if_ge C.hx C.hb d2 ht (fun h => by first | exact kt (by omega) | exact absurd h (by decide)) (fun h => by first | exact kf (by omega) | exact absurd h (by decide) | exact absurd (by decide) h)
theorem kl_gt (C : Cx p s m args meth c G y cc n ret) (ha : a < 2 ^ 63) (hb : b < 2 ^ 63) (d1 : decode cc pc = .ok (.lcmp, 1)) (d2 : decode cc (pc + 1) = .ok (.ifCond .gt off, 3)) (ht : ((pc + 1 : Nat) : Int) + off = (tgt : Int)) (kt : b < a → W p l e R s m args below meth c H locs cells slots Q (F0 m tgt ls rest)) (kf : ¬ (b < a) → W p l e R s m args below meth c H locs cells slots Q (F0 m (pc + 4) ls rest)) : W p l e R s m args below meth c H locs cells slots Q (F0 m pc ls (.long (lN b) :: .long (lN a) :: rest)) := by
  refine W.lcmp C.hx C.hb d1 ?_
  rw [lgN ha hb]
  rcases Nat.lt_trichotomy a b with q | q | q
  · rw [if_neg (show ¬ b < a by omega), if_neg (show ¬ a = b by omega)]
    exact lv_if_gt C.hx C.hb d2 ht (fun h => by first | exact kt (by omega) | exact absurd h (by decide)) (fun h => by first | exact kf (by omega) | exact absurd h (by decide) | exact absurd (by decide) h)
  · rw [if_neg (show ¬ b < a by omega), if_pos q]
    exact lv_if_gt C.hx C.hb d2 ht (fun h => by first | exact kt (by omega) | exact absurd h (by decide)) (fun h => by first | exact kf (by omega) | exact absurd h (by decide) | exact absurd (by decide) h)
  · rw [if_pos q]
    exact lv_if_gt C.hx C.hb d2 ht (fun h => by first | exact kt (by omega) | exact absurd h (by decide)) (fun h => by first | exact kf (by omega) | exact absurd h (by decide) | exact absurd (by decide) h)
theorem kl_le (C : Cx p s m args meth c G y cc n ret) (ha : a < 2 ^ 63) (hb : b < 2 ^ 63) (d1 : decode cc pc = .ok (.lcmp, 1)) (d2 : decode cc (pc + 1) = .ok (.ifCond .le off, 3)) (ht : ((pc + 1 : Nat) : Int) + off = (tgt : Int)) (kt : a ≤ b → W p l e R s m args below meth c H locs cells slots Q (F0 m tgt ls rest)) (kf : ¬ (a ≤ b) → W p l e R s m args below meth c H locs cells slots Q (F0 m (pc + 4) ls rest)) : W p l e R s m args below meth c H locs cells slots Q (F0 m pc ls (.long (lN b) :: .long (lN a) :: rest)) := by
  refine W.lcmp C.hx C.hb d1 ?_
  rw [lgN ha hb]
  rcases Nat.lt_trichotomy a b with q | q | q
  · rw [if_neg (show ¬ b < a by omega), if_neg (show ¬ a = b by omega)]
    exact lv_if_le C.hx C.hb d2 ht (fun h => by first | exact kt (by omega) | exact absurd h (by decide)) (fun h => by first | exact kf (by omega) | exact absurd h (by decide) | exact absurd (by decide) h)
  · rw [if_neg (show ¬ b < a by omega), if_pos q]
    exact lv_if_le C.hx C.hb d2 ht (fun h => by first | exact kt (by omega) | exact absurd h (by decide)) (fun h => by first | exact kf (by omega) | exact absurd h (by decide) | exact absurd (by decide) h)
  · rw [if_pos q]
    exact lv_if_le C.hx C.hb d2 ht (fun h => by first | exact kt (by omega) | exact absurd h (by decide)) (fun h => by first | exact kf (by omega) | exact absurd h (by decide) | exact absurd (by decide) h)
theorem k_aaldS (C : Cx p s m args meth c G y cc n ret) {v cA N k : Nat} {f : Nat → Option Nat} (t : Nat) {E : String} (ht : (gT G)[t]? = some (cA, .object E)) (hx : roAt G (a, .inl (cA, N, .inr (.inr (.inr (.inr f))))) H) (hk : k < N) (hN : N < 2 ^ 31) (hf : f k = some v) (d : decode cc pc = .ok (.aaload, 1)) (kk : W p l e R s m args below meth c H locs cells slots Q (F0 m (pc + 1) ls (.ref v :: rest))) : W p l e R s m args below meth c H locs cells slots Q (F0 m pc ls (.int (nI k) :: .ref a :: rest)) := k_aald C t ht hx hk hN d (by rw [hf]; exact kk)
theorem k_aaldN (C : Cx p s m args meth c G y cc n ret) {cA N k : Nat} {f : Nat → Option Nat} (t : Nat) {E : String} (ht : (gT G)[t]? = some (cA, .object E)) (hx : roAt G (a, .inl (cA, N, .inr (.inr (.inr (.inr f))))) H) (hk : k < N) (hN : N < 2 ^ 31) (hf : f k = none) (d : decode cc pc = .ok (.aaload, 1)) (kk : W p l e R s m args below meth c H locs cells slots Q (F0 m (pc + 1) ls (.null :: rest))) : W p l e R s m args below meth c H locs cells slots Q (F0 m pc ls (.int (nI k) :: .ref a :: rest)) := k_aald C t ht hx hk hN d (by rw [hf]; exact kk)
theorem kr_acmp_eq (C : Cx p s m args meth c G y cc n ret) (d : decode cc pc = .ok (.if_acmp .eq off, 3)) (ht : (pc : Int) + off = (tgt : Int)) (kt : a = b → W p l e R s m args below meth c H locs cells slots Q (F0 m tgt ls rest)) (kf : ¬ a = b → W p l e R s m args below meth c H locs cells slots Q (F0 m (pc + 3) ls rest)) : W p l e R s m args below meth c H locs cells slots Q (F0 m pc ls (.ref b :: .ref a :: rest)) := lv_acmp_eq (rx := some a) (ry := some b) C.hx C.hb d ht (fun h => kt (Option.some.inj h)) (fun h => kf (fun q => h (by rw [q])))
theorem kr_acmp_ne (C : Cx p s m args meth c G y cc n ret) (d : decode cc pc = .ok (.if_acmp .ne off, 3)) (ht : (pc : Int) + off = (tgt : Int)) (kt : a ≠ b → W p l e R s m args below meth c H locs cells slots Q (F0 m tgt ls rest)) (kf : a = b → W p l e R s m args below meth c H locs cells slots Q (F0 m (pc + 3) ls rest)) : W p l e R s m args below meth c H locs cells slots Q (F0 m pc ls (.ref b :: .ref a :: rest)) := lv_acmp_ne (rx := some a) (ry := some b) C.hx C.hb d ht (fun h => kt (fun q => h (by rw [q]))) (fun h => kf (Option.some.inj h))
theorem k_op {x : Value} {y : Value} (h : x = y) (kk : W p l e R s m args below meth c H locs cells slots Q (F0 m pc ls (y :: rest))) : W p l e R s m args below meth c H locs cells slots Q (F0 m pc ls (x :: rest)) := by rw [h]; exact kk
theorem lg_lt0 {x y : Int64} : lg_cmp x y < 0 ↔ x < y := by
  unfold lg_cmp
  rcases (show x < y ∨ x = y ∨ y < x by rw [Int64.lt_iff_toInt_lt, Int64.lt_iff_toInt_lt, ← Int64.toInt_inj]; omega) with h | h | h
  · have h1 : ¬ y < x := by rw [Int64.lt_iff_toInt_lt] at h ⊢; omega
    have h2 : ¬ x = y := fun q => by rw [q, Int64.lt_iff_toInt_lt] at h; omega
    rw [if_neg h1, if_neg h2]; exact ⟨fun _ => h, fun _ => by decide⟩
  · have h1 : ¬ y < x := by rw [Int64.lt_iff_toInt_lt, h]; omega
    rw [if_neg h1, if_pos h]; exact ⟨fun q => absurd q (by decide), fun q => absurd q (by rw [Int64.lt_iff_toInt_lt, h]; omega)⟩
  · rw [if_pos h]; exact ⟨fun q => absurd q (by decide), fun q => absurd q (by rw [Int64.lt_iff_toInt_lt] at h ⊢; omega)⟩
theorem lg_gt0 {x y : Int64} : 0 < lg_cmp x y ↔ y < x := by
  unfold lg_cmp
  by_cases h : y < x
  · rw [if_pos h]; exact ⟨fun _ => h, fun _ => by decide⟩
  · rw [if_neg h]
    by_cases h2 : x = y
    · rw [if_pos h2]; exact ⟨fun q => absurd q (by decide), fun q => absurd q h⟩
    · rw [if_neg h2]; exact ⟨fun q => absurd q (by decide), fun q => absurd q h⟩
theorem k_permR (S : List va_W) : S.flatten.Perm (S ++ []).flatten := by rw [List.append_nil]
theorem k_same {s : State} {args : Array Value} {ref dc nm ds : String} (h : (Cond.sameField ref dc nm ds).before args s = true) : ∀ x, s.fieldFound? dc nm ds = some x → s.fieldFound? ref nm ds = some x := by
  exact fun x hx => u_same h x hx
end KN
