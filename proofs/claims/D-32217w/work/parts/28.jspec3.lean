/-! ===== JDK 3: words of a BitSet, bitCount, numberOfTrailingZeros ===== -/
def wd (P : Nat → Bool) (j : Nat) : Nat → Nat
  | 0 => 0
  | n + 1 => 2 ^ n * (if P (64 * j + n) then 1 else 0) + wd P j n
abbrev bw (P : Nat → Bool) (j : Nat) : Nat := wd P j 64
theorem wd_lt (P : Nat → Bool) (j : Nat) : ∀ n, wd P j n < 2 ^ n
  | 0 => Nat.one_pos
  | n + 1 => by
    have h := wd_lt P j n
    show 2 ^ n * _ + _ < _
    rw [Nat.pow_succ]
    split <;> omega
theorem wd_tb (P : Nat → Bool) (j i : Nat) : ∀ n, (wd P j n).testBit i = (decide (i < n) && P (64 * j + i))
  | 0 => by simp [wd]
  | n + 1 => by
    have h := wd_tb P j i n
    have hl := wd_lt P j n
    show (2 ^ n * _ + _).testBit i = _
    rw [Nat.testBit_two_pow_mul_add _ hl]
    rcases Nat.lt_trichotomy i n with q | q | q
    · rw [if_pos q, h, decide_eq_true q, decide_eq_true (show i < n + 1 by omega)]
    · subst q
      rw [if_neg (by omega), Nat.sub_self, decide_eq_true (show i < i + 1 by omega)]
      by_cases hp : P (64 * j + i) <;> simp [hp]
    · rw [if_neg (by omega), decide_eq_false (show ¬ i < n + 1 by omega)]
      have e : i - n = (i - n - 1) + 1 := by omega
      rw [e]
      by_cases hp : P (64 * j + n) <;> simp [hp, Nat.testBit_succ]
theorem bw_lt (P : Nat → Bool) (j : Nat) : bw P j < 2 ^ 64 := wd_lt P j 64
theorem bw_tb (P : Nat → Bool) (j : Nat) {i : Nat} (hi : i < 64) : (bw P j).testBit i = P (64 * j + i) := by
  rw [wd_tb, decide_eq_true hi, Bool.true_and]
theorem bw_ext {P : Nat → Bool} {j x : Nat} (hx : x < 2 ^ 64) (h : ∀ i, i < 64 → x.testBit i = P (64 * j + i)) : bw P j = x := by
  refine Nat.eq_of_testBit_eq fun i => ?_
  rcases Nat.lt_or_ge i 64 with q | q
  · rw [bw_tb P j q, h i q]
  · rw [Nat.testBit_lt_two_pow (Nat.lt_of_lt_of_le (bw_lt P j) (Nat.pow_le_pow_right (by decide) q)), Nat.testBit_lt_two_pow (Nat.lt_of_lt_of_le hx (Nat.pow_le_pow_right (by decide) q))]
def bset (P : Nat → Bool) (b : Nat) (v : Bool) : Nat → Bool := fun k => if k = b then v else P k
theorem bw_set (P : Nat → Bool) (b j : Nat) : bw (bset P b true) j = if j = b / 64 then bw P j ||| 2 ^ (b % 64) else bw P j := by
  split
  · next h =>
    refine bw_ext (Nat.or_lt_two_pow (bw_lt P j) (Nat.pow_lt_pow_right (by decide) (Nat.mod_lt _ (by decide)))) fun i hi => ?_
    rw [Nat.testBit_or, bw_tb P j hi, Nat.testBit_two_pow]
    unfold bset
    by_cases q : 64 * j + i = b
    · rw [if_pos q, decide_eq_true (show b % 64 = i by omega)]; simp
    · rw [if_neg q, decide_eq_false (show ¬ b % 64 = i by omega)]; simp
  · next h =>
    refine bw_ext (bw_lt P j) fun i hi => ?_
    rw [bw_tb P j hi]
    unfold bset
    rw [if_neg (show ¬ 64 * j + i = b by omega)]
theorem tb_m1 {i : Nat} (hi : i < 64) : (2 ^ 64 - 1).testBit i = true := by
  rw [Nat.testBit_two_pow_sub_one]; exact decide_eq_true hi
theorem bw_clr (P : Nat → Bool) (b j : Nat) : bw (bset P b false) j = if j = b / 64 then bw P j &&& (2 ^ (b % 64) ^^^ (2 ^ 64 - 1)) else bw P j := by
  split
  · next h =>
    refine bw_ext (Nat.lt_of_le_of_lt Nat.and_le_left (bw_lt P j)) fun i hi => ?_
    rw [Nat.testBit_and, bw_tb P j hi, Nat.testBit_xor, Nat.testBit_two_pow, tb_m1 hi]
    unfold bset
    by_cases q : 64 * j + i = b
    · rw [if_pos q, decide_eq_true (show b % 64 = i by omega)]; simp
    · rw [if_neg q, decide_eq_false (show ¬ b % 64 = i by omega)]; simp
  · next h =>
    refine bw_ext (bw_lt P j) fun i hi => ?_
    rw [bw_tb P j hi]
    unfold bset
    rw [if_neg (show ¬ 64 * j + i = b by omega)]
/-- how many words are in use -/
def wIU (P : Nat → Bool) : Nat := if bw P 3 ≠ 0 then 4 else if bw P 2 ≠ 0 then 3 else if bw P 1 ≠ 0 then 2 else if bw P 0 ≠ 0 then 1 else 0
theorem wIU_le (P : Nat → Bool) : wIU P ≤ 4 := by
  unfold wIU
  (repeat' split) <;> omega
theorem wIU_0 {P : Nat → Bool} {j : Nat} (h : wIU P ≤ j) (hj : j < 4) : bw P j = 0 := by
  unfold wIU at h
  have hc : j = 0 ∨ j = 1 ∨ j = 2 ∨ j = 3 := by omega
  rcases hc with rfl | rfl | rfl | rfl <;> (repeat' split at h) <;> first | omega | (apply Classical.byContradiction; intro q; contradiction)
theorem wIU_of {P : Nat → Bool} {n : Nat} (hn : n ≤ 4) (h0 : ∀ j, n ≤ j → j < 4 → bw P j = 0) (h1 : n = 0 ∨ bw P (n - 1) ≠ 0) : wIU P = n := by
  have hc : n = 0 ∨ n = 1 ∨ n = 2 ∨ n = 3 ∨ n = 4 := by omega
  unfold wIU
  rcases hc with rfl | rfl | rfl | rfl | rfl
  · rw [if_neg (by simp [h0 3]), if_neg (by simp [h0 2]), if_neg (by simp [h0 1]), if_neg (by simp [h0 0])]
  · have h := h1.resolve_left (by decide)
    rw [if_neg (by simp [h0 3]), if_neg (by simp [h0 2]), if_neg (by simp [h0 1]), if_pos h]
  · have h := h1.resolve_left (by decide)
    rw [if_neg (by simp [h0 3]), if_neg (by simp [h0 2]), if_pos h]
  · have h := h1.resolve_left (by decide)
    rw [if_neg (by simp [h0 3]), if_pos h]
  · have h := h1.resolve_left (by decide)
    rw [if_pos h]
theorem wIU_top {P : Nat → Bool} (h : wIU P ≠ 0) : bw P (wIU P - 1) ≠ 0 := by
  by_cases h3 : bw P 3 ≠ 0
  · rw [show wIU P = 4 from if_pos h3]; exact h3
  by_cases h2 : bw P 2 ≠ 0
  · rw [show wIU P = 3 from (if_neg h3).trans (if_pos h2)]; exact h2
  by_cases h1 : bw P 1 ≠ 0
  · rw [show wIU P = 2 from (if_neg h3).trans ((if_neg h2).trans (if_pos h1))]; exact h1
  by_cases h0 : bw P 0 ≠ 0
  · rw [show wIU P = 1 from (if_neg h3).trans ((if_neg h2).trans ((if_neg h1).trans (if_pos h0)))]; exact h0
  · exact absurd ((if_neg h3).trans ((if_neg h2).trans ((if_neg h1).trans (if_neg h0)))) h
/-! popcount by bytes -/
theorem and_sp {a c b d : Nat} (ha : a < 256) (hc : c < 256) : (a + 256 * b) &&& (c + 256 * d) = (a &&& c) + 256 * (b &&& d) := by
  have e : ∀ x y, x < 256 → x + 256 * y = 2 ^ 8 * y + x := fun x y _ => by omega
  rw [e a b ha, e c d hc, e (a &&& c) (b &&& d) (Nat.lt_of_le_of_lt Nat.and_le_left ha)]
  refine Nat.eq_of_testBit_eq fun i => ?_
  rw [Nat.testBit_and, Nat.testBit_two_pow_mul_add _ ha, Nat.testBit_two_pow_mul_add _ hc, Nat.testBit_two_pow_mul_add _ (Nat.lt_of_le_of_lt Nat.and_le_left ha)]
  by_cases q : i < 8
  · rw [if_pos q, if_pos q, if_pos q, Nat.testBit_and]
  · rw [if_neg q, if_neg q, if_neg q, Nat.testBit_and]
/-- the first two steps, with masks -/
def pG (m1 m2 x : Nat) : Nat := ((x - ((x / 2) &&& m1)) &&& m2) + (((x - ((x / 2) &&& m1)) / 4) &&& m2)
def pg (a : Nat) : Nat := pG 0x55 0x33 a
theorem pb1 : ∀ a, a < 256 → ∀ r, r < 2 → ((a / 2 + 128 * r) &&& 0x55) = ((a / 2) &&& 0x55) := by decide +kernel
theorem pb2 : ∀ a, a < 256 → ∀ r, r < 4 → ((a / 4 + 64 * r) &&& 0x33) = ((a / 4) &&& 0x33) := by decide +kernel
theorem pb3 : ∀ a, a < 256 → pg a % 16 ≤ 4 ∧ pg a / 16 ≤ 4 := by decide +kernel
theorem pG_sp {a y m1 m2 : Nat} (ha : a < 256) : pG (0x55 + 256 * m1) (0x33 + 256 * m2) (a + 256 * y) = pg a + 256 * pG m1 m2 y := by
  have e1 : (a + 256 * y) / 2 = (a / 2 + 128 * (y % 2)) + 256 * (y / 2) := by omega
  have h1 : ((a + 256 * y) / 2) &&& (0x55 + 256 * m1) = ((a / 2) &&& 0x55) + 256 * ((y / 2) &&& m1) := by
    rw [e1, and_sp (by omega) (by decide), pb1 a ha _ (by omega)]
  have l1 : ((a / 2) &&& 0x55) ≤ a := Nat.le_trans Nat.and_le_left (by omega)
  have l2 : ((y / 2) &&& m1) ≤ y := Nat.le_trans Nat.and_le_left (by omega)
  have h2 : (a + 256 * y) - (((a + 256 * y) / 2) &&& (0x55 + 256 * m1)) = (a - ((a / 2) &&& 0x55)) + 256 * (y - ((y / 2) &&& m1)) := by rw [h1]; omega
  unfold pg pG
  rw [h2]
  generalize hu : a - ((a / 2) &&& 0x55) = u
  generalize hv : y - ((y / 2) &&& m1) = v
  have hu2 : u < 256 := by omega
  have e2 : (u + 256 * v) / 4 = (u / 4 + 64 * (v % 4)) + 256 * (v / 4) := by omega
  rw [e2, and_sp hu2 (by decide), and_sp (by omega) (by decide), pb2 u hu2 _ (by omega)]
  omega
def byt (x j : Nat) : Nat := x / 256 ^ j % 256
theorem byt_lt (x j : Nat) : byt x j < 256 := Nat.mod_lt _ (by decide)
theorem byt_sum {x : Nat} (hx : x < 2 ^ 64) : x = byt x 0 + 256 * (byt x 1 + 256 * (byt x 2 + 256 * (byt x 3 + 256 * (byt x 4 + 256 * (byt x 5 + 256 * (byt x 6 + 256 * (byt x 7 + 256 * 0))))))) := by
  simp only [byt, Nat.reducePow]
  omega
theorem pG_sum (a0 a1 a2 a3 a4 a5 a6 a7 : Nat) (h0 : a0 < 256) (h1 : a1 < 256) (h2 : a2 < 256) (h3 : a3 < 256) (h4 : a4 < 256) (h5 : a5 < 256) (h6 : a6 < 256) (h7 : a7 < 256) : pG 0x5555555555555555 0x3333333333333333 (a0 + 256 * (a1 + 256 * (a2 + 256 * (a3 + 256 * (a4 + 256 * (a5 + 256 * (a6 + 256 * (a7 + 256 * 0)))))))) = pg a0 + 256 * (pg a1 + 256 * (pg a2 + 256 * (pg a3 + 256 * (pg a4 + 256 * (pg a5 + 256 * (pg a6 + 256 * (pg a7 + 256 * 0))))))) := by
  have z : pG 0 0 0 = 0 := by decide
  rw [show (0x5555555555555555 : Nat) = 0x55 + 256 * 0x55555555555555 from rfl, show (0x3333333333333333 : Nat) = 0x33 + 256 * 0x33333333333333 from rfl, pG_sp h0,
    show (0x55555555555555 : Nat) = 0x55 + 256 * 0x555555555555 from rfl, show (0x33333333333333 : Nat) = 0x33 + 256 * 0x333333333333 from rfl, pG_sp h1,
    show (0x555555555555 : Nat) = 0x55 + 256 * 0x5555555555 from rfl, show (0x333333333333 : Nat) = 0x33 + 256 * 0x3333333333 from rfl, pG_sp h2,
    show (0x5555555555 : Nat) = 0x55 + 256 * 0x55555555 from rfl, show (0x3333333333 : Nat) = 0x33 + 256 * 0x33333333 from rfl, pG_sp h3,
    show (0x55555555 : Nat) = 0x55 + 256 * 0x555555 from rfl, show (0x33333333 : Nat) = 0x33 + 256 * 0x333333 from rfl, pG_sp h4,
    show (0x555555 : Nat) = 0x55 + 256 * 0x5555 from rfl, show (0x333333 : Nat) = 0x33 + 256 * 0x3333 from rfl, pG_sp h5,
    show (0x5555 : Nat) = 0x55 + 256 * 0x55 from rfl, show (0x3333 : Nat) = 0x33 + 256 * 0x33 from rfl, pG_sp h6,
    show (0x55 : Nat) = 0x55 + 256 * 0 from rfl, show (0x33 : Nat) = 0x33 + 256 * 0 from rfl, pG_sp h7, z]
def pS (m X : Nat) : Nat := (X + X / 16) &&& m
theorem pS_sp {c y m : Nat} (h1 : c % 16 ≤ 4) (h2 : c / 16 ≤ 4) (h3 : y % 16 ≤ 4) : pS (0x0f + 256 * m) (c + 256 * y) = (c % 16 + c / 16) + 256 * pS m y := by
  unfold pS
  have e : (c + 256 * y) + (c + 256 * y) / 16 = (c + c / 16 + 16 * (y % 16)) + 256 * (y + y / 16) := by omega
  rw [e, and_sp (by omega) (by decide), show (0x0f : Nat) = 2 ^ 4 - 1 from rfl, Nat.and_two_pow_sub_one_eq_mod]
  omega
theorem pS_sum {c0 c1 c2 c3 c4 c5 c6 c7 : Nat} (h0 : c0 % 16 ≤ 4 ∧ c0 / 16 ≤ 4) (h1 : c1 % 16 ≤ 4 ∧ c1 / 16 ≤ 4) (h2 : c2 % 16 ≤ 4 ∧ c2 / 16 ≤ 4) (h3 : c3 % 16 ≤ 4 ∧ c3 / 16 ≤ 4) (h4 : c4 % 16 ≤ 4 ∧ c4 / 16 ≤ 4) (h5 : c5 % 16 ≤ 4 ∧ c5 / 16 ≤ 4) (h6 : c6 % 16 ≤ 4 ∧ c6 / 16 ≤ 4) (h7 : c7 % 16 ≤ 4 ∧ c7 / 16 ≤ 4) :
    pS 0x0f0f0f0f0f0f0f0f (c0 + 256 * (c1 + 256 * (c2 + 256 * (c3 + 256 * (c4 + 256 * (c5 + 256 * (c6 + 256 * (c7 + 256 * 0)))))))) = (c0 % 16 + c0 / 16) + 256 * ((c1 % 16 + c1 / 16) + 256 * ((c2 % 16 + c2 / 16) + 256 * ((c3 % 16 + c3 / 16) + 256 * ((c4 % 16 + c4 / 16) + 256 * ((c5 % 16 + c5 / 16) + 256 * ((c6 % 16 + c6 / 16) + 256 * ((c7 % 16 + c7 / 16) + 256 * 0))))))) := by
  have z : pS 0 0 = 0 := by decide
  rw [show (0x0f0f0f0f0f0f0f0f : Nat) = 0x0f + 256 * 0x0f0f0f0f0f0f0f from rfl, pS_sp h0.1 h0.2 (by omega),
    show (0x0f0f0f0f0f0f0f : Nat) = 0x0f + 256 * 0x0f0f0f0f0f0f from rfl, pS_sp h1.1 h1.2 (by omega),
    show (0x0f0f0f0f0f0f : Nat) = 0x0f + 256 * 0x0f0f0f0f0f from rfl, pS_sp h2.1 h2.2 (by omega),
    show (0x0f0f0f0f0f : Nat) = 0x0f + 256 * 0x0f0f0f0f from rfl, pS_sp h3.1 h3.2 (by omega),
    show (0x0f0f0f0f : Nat) = 0x0f + 256 * 0x0f0f0f from rfl, pS_sp h4.1 h4.2 (by omega),
    show (0x0f0f0f : Nat) = 0x0f + 256 * 0x0f0f from rfl, pS_sp h5.1 h5.2 (by omega),
    show (0x0f0f : Nat) = 0x0f + 256 * 0x0f from rfl, pS_sp h6.1 h6.2 (by omega),
    show (0x0f : Nat) = 0x0f + 256 * 0 from rfl, pS_sp h7.1 h7.2 (by omega), z]
def pT1 (z : Nat) : Nat := z + z / 2 ^ 8
def pT2 (z : Nat) : Nat := z + z / 2 ^ 16
def pT3 (z : Nat) : Nat := z + z / 2 ^ 32
theorem pT_sum {s0 s1 s2 s3 s4 s5 s6 s7 : Nat} (h0 : s0 ≤ 8) (h1 : s1 ≤ 8) (h2 : s2 ≤ 8) (h3 : s3 ≤ 8) (h4 : s4 ≤ 8) (h5 : s5 ≤ 8) (h6 : s6 ≤ 8) (h7 : s7 ≤ 8) :
    pT3 (pT2 (pT1 (s0 + 256 * (s1 + 256 * (s2 + 256 * (s3 + 256 * (s4 + 256 * (s5 + 256 * (s6 + 256 * (s7 + 256 * 0)))))))))) % 128 = s0 + s1 + s2 + s3 + s4 + s5 + s6 + s7 := by
  unfold pT1
  rw [show (s0 + 256 * (s1 + 256 * (s2 + 256 * (s3 + 256 * (s4 + 256 * (s5 + 256 * (s6 + 256 * (s7 + 256 * 0))))))) + (s0 + 256 * (s1 + 256 * (s2 + 256 * (s3 + 256 * (s4 + 256 * (s5 + 256 * (s6 + 256 * (s7 + 256 * 0)))))))) / 2 ^ 8) = ((s0 + s1) + 256 * (s1 + s2)) + 65536 * (((s2 + s3) + 256 * (s3 + s4)) + 65536 * (((s4 + s5) + 256 * (s5 + s6)) + 65536 * ((s6 + s7) + 256 * s7))) by omega]
  unfold pT2
  generalize hA : (s0 + s1) + 256 * (s1 + s2) = u0
  generalize hB : (s2 + s3) + 256 * (s3 + s4) = u1
  generalize hC : (s4 + s5) + 256 * (s5 + s6) = u2
  generalize hD : (s6 + s7) + 256 * s7 = u3
  rw [show (u0 + 65536 * (u1 + 65536 * (u2 + 65536 * u3)) + (u0 + 65536 * (u1 + 65536 * (u2 + 65536 * u3))) / 2 ^ 16) = ((u0 + u1) + 65536 * (u1 + u2)) + 4294967296 * ((u2 + u3) + 65536 * u3) by omega]
  unfold pT3
  rw [show (((u0 + u1) + 65536 * (u1 + u2)) + 4294967296 * ((u2 + u3) + 65536 * u3)) / 2 ^ 32 = (u2 + u3) + 65536 * u3 by omega]
  omega
def bcN (x : Nat) : Nat := pT3 (pT2 (pT1 (pS 0x0f0f0f0f0f0f0f0f (pG 0x5555555555555555 0x3333333333333333 x))))
theorem pc8 : ∀ a, a < 256 → fb_ct (fun k => a.testBit k) 8 = pg a % 16 + pg a / 16 := by decide +kernel
theorem byt_tb (x j : Nat) {k : Nat} (hk : k < 8) : (byt x j).testBit k = x.testBit (8 * j + k) := by
  unfold byt
  rw [show (256 : Nat) = 2 ^ 8 from rfl, ← Nat.pow_mul, Nat.testBit_mod_two_pow, decide_eq_true hk, Bool.true_and, ← Nat.shiftRight_eq_div_pow, Nat.testBit_shiftRight]
theorem ct_byt (x j : Nat) : fb_ct (fun k => x.testBit (8 * j + k)) 8 = pg (byt x j) % 16 + pg (byt x j) / 16 := by
  rw [← pc8 _ (byt_lt x j)]
  exact fb_ct_cong fun k hk => (byt_tb x j hk).symm
theorem bcN_eq {x : Nat} (hx : x < 2 ^ 64) : bcN x % 128 = fb_ct (fun i => x.testBit i) 64 := by
  have hb := fun j => pb3 _ (byt_lt x j)
  unfold bcN
  rw [congrArg (pG _ _) (byt_sum hx), pG_sum _ _ _ _ _ _ _ _ (byt_lt x 0) (byt_lt x 1) (byt_lt x 2) (byt_lt x 3) (byt_lt x 4) (byt_lt x 5) (byt_lt x 6) (byt_lt x 7),
    pS_sum (hb 0) (hb 1) (hb 2) (hb 3) (hb 4) (hb 5) (hb 6) (hb 7)]
  have b0 := hb 0; have b1 := hb 1; have b2 := hb 2; have b3 := hb 3; have b4 := hb 4; have b5 := hb 5; have b6 := hb 6; have b7 := hb 7
  rw [pT_sum (by omega) (by omega) (by omega) (by omega) (by omega) (by omega) (by omega) (by omega)]
  rw [← ct_byt, ← ct_byt, ← ct_byt, ← ct_byt, ← ct_byt, ← ct_byt, ← ct_byt, ← ct_byt]
  have e := fb_ct_split (fun i => x.testBit i)
  rw [show (64 : Nat) = 56 + 8 from rfl, e 56 8, show (56 : Nat) = 48 + 8 from rfl, e 48 8, show (48 : Nat) = 40 + 8 from rfl, e 40 8, show (40 : Nat) = 32 + 8 from rfl, e 32 8, show (32 : Nat) = 24 + 8 from rfl, e 24 8, show (24 : Nat) = 16 + 8 from rfl, e 16 8, show (16 : Nat) = 8 + 8 from rfl, e 8 8]
  simp only [Nat.mul_zero, Nat.zero_add, Nat.mul_one, Nat.reduceMul]
theorem bc_bd {x : Nat} (hx : x < 2 ^ 64) : pG 0x5555555555555555 0x3333333333333333 x < 2 ^ 64 ∧ pS 0x0f0f0f0f0f0f0f0f (pG 0x5555555555555555 0x3333333333333333 x) < 2 ^ 61 := by
  refine ⟨?_, ?_⟩
  · unfold pG
    refine Nat.lt_of_le_of_lt (Nat.add_le_add (Nat.and_le_right (m := 0x3333333333333333)) (Nat.and_le_right (m := 0x3333333333333333))) (by decide)
  · unfold pS
    exact Nat.lt_of_le_of_lt Nat.and_le_right (by decide)
theorem nI_and (a b : Nat) : nI a &&& nI b = nI (a &&& b) := by
  apply Int32.toBitVec_inj.1
  show BitVec.ofNat 32 a &&& BitVec.ofNat 32 b = BitVec.ofNat 32 (a &&& b)
  apply BitVec.eq_of_getLsbD_eq
  intro i hi
  simp [hi]
theorem nI_xor (a b : Nat) : nI a ^^^ nI b = nI (a ^^^ b) := by
  apply Int32.toBitVec_inj.1
  show BitVec.ofNat 32 a ^^^ BitVec.ofNat 32 b = BitVec.ofNat 32 (a ^^^ b)
  apply BitVec.eq_of_getLsbD_eq
  intro i hi
  simp [hi]
theorem nI_ush {a k : Nat} (ha : a < 2 ^ 32) (hk : k < 32) : ((nI a).toUInt32 >>> ((nI k).toUInt32 &&& Int32.toUInt32 31)).toInt32 = nI (a / 2 ^ k) := by
  apply Int32.toBitVec_inj.1
  show ((nI a).toUInt32 >>> ((nI k).toUInt32 &&& Int32.toUInt32 31)).toBitVec = BitVec.ofNat 32 (a / 2 ^ k)
  rw [UInt32.toBitVec_shiftRight]
  apply BitVec.eq_of_toNat_eq
  show ((nI a).toUInt32.toBitVec >>> (((nI k).toUInt32 &&& Int32.toUInt32 31).toBitVec % 32).toNat).toNat = _
  have e : ∀ k, k < 32 → (((nI k).toUInt32 &&& Int32.toUInt32 31).toBitVec % 32).toNat = k := by decide +kernel
  have e2 : (nI a).toUInt32.toBitVec.toNat = a := by show (BitVec.ofNat 32 a).toNat = a; rw [BitVec.toNat_ofNat, Nat.mod_eq_of_lt ha]
  rw [e k hk, BitVec.toNat_ushiftRight, e2, BitVec.toNat_ofNat, Nat.shiftRight_eq_div_pow, Nat.mod_eq_of_lt (Nat.lt_of_le_of_lt (Nat.div_le_self _ _) ha)]
theorem lN_m1 : (-1 : Int64) = lN (2 ^ 64 - 1) := by decide
theorem lsh1 : ∀ b, b < 256 → lN 1 <<< ((nI b).toInt64 &&& 63) = lN (2 ^ (b % 64)) := by decide +kernel
theorem lN_eq0 {a : Nat} (ha : a < 2 ^ 64) : lN a = lN 0 ↔ a = 0 := by
  constructor
  · intro h
    have h1 := wb_tn ha
    rw [h, wb_tn (by decide)] at h1
    exact h1.symm
  · intro h; rw [h]
section KL
variable {p : Program} {l : Launch} {e : Env} {R : Room} {s : State} {m : MethodId} {args : Array Value} {below : List Frame} {meth : Method} {c : Code} {H : Heap} {locs : List Loc} {cells slots : Nat} {Q : State → Prop}
variable {G : GT} {y : MethodName} {cc : ByteArray} {n : Nat} {ret : Option FieldType} {rest : List Value} {pc : Nat} {ls : Array Slot} {a b k : Nat} {off : Int} {tgt : Nat}
theorem kn_lushr (C : Cx p s m args meth c G y cc n ret) (ha : a < 2 ^ 64) (hk : k < 64) (d : decode cc pc = .ok (.lushr, 1)) (kk : W p l e R s m args below meth c H locs cells slots Q (F0 m (pc + 1) ls (.long (lN (a / 2 ^ k)) :: rest))) : W p l e R s m args below meth c H locs cells slots Q (F0 m pc ls (.int (nI k) :: .long (lN a) :: rest)) := lv_lushr C.hx C.hb d (wb_shr ha hk) kk
theorem kn_iushr (C : Cx p s m args meth c G y cc n ret) (ha : a < 2 ^ 32) (hk : k < 32) (d : decode cc pc = .ok (.iushr, 1)) (kk : W p l e R s m args below meth c H locs cells slots Q (F0 m (pc + 1) ls (.int (nI (a / 2 ^ k)) :: rest))) : W p l e R s m args below meth c H locs cells slots Q (F0 m pc ls (.int (nI k) :: .int (nI a) :: rest)) := lv_iushr C.hx C.hb d (nI_ush ha hk) kk
theorem kn_land (C : Cx p s m args meth c G y cc n ret) (d : decode cc pc = .ok (.land, 1)) (kk : W p l e R s m args below meth c H locs cells slots Q (F0 m (pc + 1) ls (.long (lN (a &&& b)) :: rest))) : W p l e R s m args below meth c H locs cells slots Q (F0 m pc ls (.long (lN b) :: .long (lN a) :: rest)) := lv_land C.hx C.hb d (by rw [fb_andL]; exact kk)
theorem kn_lor (C : Cx p s m args meth c G y cc n ret) (d : decode cc pc = .ok (.lor, 1)) (kk : W p l e R s m args below meth c H locs cells slots Q (F0 m (pc + 1) ls (.long (lN (a ||| b)) :: rest))) : W p l e R s m args below meth c H locs cells slots Q (F0 m pc ls (.long (lN b) :: .long (lN a) :: rest)) := lv_lor C.hx C.hb d (by rw [fb_orL]; exact kk)
theorem kn_lxor (C : Cx p s m args meth c G y cc n ret) (d : decode cc pc = .ok (.lxor, 1)) (kk : W p l e R s m args below meth c H locs cells slots Q (F0 m (pc + 1) ls (.long (lN (a ^^^ b)) :: rest))) : W p l e R s m args below meth c H locs cells slots Q (F0 m pc ls (.long (lN b) :: .long (lN a) :: rest)) := lv_lxor C.hx C.hb d (by rw [fb_xorL]; exact kk)
theorem kn_iand (C : Cx p s m args meth c G y cc n ret) (d : decode cc pc = .ok (.iand, 1)) (kk : W p l e R s m args below meth c H locs cells slots Q (F0 m (pc + 1) ls (.int (nI (a &&& b)) :: rest))) : W p l e R s m args below meth c H locs cells slots Q (F0 m pc ls (.int (nI b) :: .int (nI a) :: rest)) := lv_iand C.hx C.hb d (by rw [nI_and]; exact kk)
theorem kn_ixor (C : Cx p s m args meth c G y cc n ret) (d : decode cc pc = .ok (.ixor, 1)) (kk : W p l e R s m args below meth c H locs cells slots Q (F0 m (pc + 1) ls (.int (nI (a ^^^ b)) :: rest))) : W p l e R s m args below meth c H locs cells slots Q (F0 m pc ls (.int (nI b) :: .int (nI a) :: rest)) := lv_ixor C.hx C.hb d (by rw [nI_xor]; exact kk)
theorem kn_ishr6 (C : Cx p s m args meth c G y cc n ret) (ha : a < 2 ^ 31) (d : decode cc pc = .ok (.ishr, 1)) (kk : W p l e R s m args below meth c H locs cells slots Q (F0 m (pc + 1) ls (.int (nI (a / 64)) :: rest))) : W p l e R s m args below meth c H locs cells slots Q (F0 m pc ls (.int (nI 6) :: .int (nI a) :: rest)) := lv_ishr C.hx C.hb d (by have e := pk_shrN ha ((6 : Int32) &&& 31) 6 (by decide); exact e ▸ kk)
theorem kn_lsh1 (C : Cx p s m args meth c G y cc n ret) (hb : b < 256) (d : decode cc pc = .ok (.lshl, 1)) (kk : W p l e R s m args below meth c H locs cells slots Q (F0 m (pc + 1) ls (.long (lN (2 ^ (b % 64))) :: rest))) : W p l e R s m args below meth c H locs cells slots Q (F0 m pc ls (.int (nI b) :: .long (lN 1) :: rest)) := lv_lshl C.hx C.hb d (lsh1 b hb) kk
theorem kl0_eq (C : Cx p s m args meth c G y cc n ret) (ha : a < 2 ^ 64) (d1 : decode cc pc = .ok (.lcmp, 1)) (d2 : decode cc (pc + 1) = .ok (.ifCond .eq off, 3)) (ht : ((pc + 1 : Nat) : Int) + off = (tgt : Int)) (kt : a = 0 → W p l e R s m args below meth c H locs cells slots Q (F0 m tgt ls rest)) (kf : ¬ a = 0 → W p l e R s m args below meth c H locs cells slots Q (F0 m (pc + 4) ls rest)) : W p l e R s m args below meth c H locs cells slots Q (F0 m pc ls (.long (lN 0) :: .long (lN a) :: rest)) := by
  refine W.lcmp C.hx C.hb d1 ?_
  refine lv_if_eq C.hx C.hb d2 ht (fun h => kt ?_) (fun h => kf (fun q => h ?_))
  · apply (lN_eq0 ha).mp
    rcases (show lN a < lN 0 ∨ lN a = lN 0 ∨ lN 0 < lN a by rw [Int64.lt_iff_toInt_lt, Int64.lt_iff_toInt_lt, ← Int64.toInt_inj]; omega) with q | q | q
    · have := (lg_lt0 (x := lN a) (y := lN 0)).mpr q
      rw [h] at this
      exact absurd this (by decide)
    · exact q
    · have := (lg_gt0 (x := lN a) (y := lN 0)).mpr q
      rw [h] at this
      exact absurd this (by decide)
  · rw [q]; decide
end KL
/-- x's lowest bit is at t -/
def Low1 (x t : Nat) : Prop := x.testBit t = true ∧ ∀ i, i < t → x.testBit i = false
theorem Low1.q {x t : Nat} (h : Low1 x t) : ∃ r, x = 2 ^ t * (2 * r + 1) := by
  obtain ⟨h1, h2⟩ := h
  have e0 : x % 2 ^ t = 0 := by
    refine Nat.eq_of_testBit_eq fun i => ?_
    rw [Nat.testBit_mod_two_pow, Nat.zero_testBit]
    by_cases q : i < t
    · rw [h2 i q, Bool.and_false]
    · rw [decide_eq_false q, Bool.false_and]
  have e1 : x = 2 ^ t * (x / 2 ^ t) := by
    have := Nat.div_add_mod x (2 ^ t)
    omega
  have e2 : (x / 2 ^ t) % 2 = 1 := by
    have e3 : (x / 2 ^ t).testBit 0 = true := by
      rw [← Nat.shiftRight_eq_div_pow, Nat.testBit_shiftRight, Nat.add_zero]; exact h1
    rw [Nat.testBit_zero] at e3
    exact of_decide_eq_true e3
  exact ⟨x / 2 ^ t / 2, by rw [show 2 * (x / 2 ^ t / 2) + 1 = x / 2 ^ t by omega]; exact e1⟩
theorem Low1.pos {x t : Nat} (h : Low1 x t) : 1 ≤ x := by
  rcases Nat.eq_zero_or_pos x with q | q
  · have := h.1
    rw [q, Nat.zero_testBit] at this
    cases this
  · exact q
theorem low_mask {x t : Nat} (hx : x < 2 ^ 32) (ht : t < 32) (h : Low1 x t) : (x ^^^ (2 ^ 32 - 1)) &&& (x - 1) = 2 ^ t - 1 := by
  obtain ⟨r, rfl⟩ := h.q
  have hp : 0 < 2 ^ t := Nat.two_pow_pos t
  have e1 : 2 ^ t * (2 * r + 1) - 1 = 2 ^ t * (2 * r) + (2 ^ t - 1) := by
    rw [Nat.mul_add, Nat.mul_one]; omega
  refine Nat.eq_of_testBit_eq fun i => ?_
  rw [Nat.testBit_and, Nat.testBit_xor, e1, Nat.testBit_two_pow_mul_add _ (show 2 ^ t - 1 < 2 ^ t by omega), Nat.testBit_two_pow_sub_one, Nat.testBit_two_pow_sub_one, Nat.testBit_two_pow_mul]
  by_cases q : i < t
  · rw [if_pos q, decide_eq_true q, decide_eq_true (show i < 32 by omega), decide_eq_false (show ¬ t ≤ i by omega)]; rfl
  · rw [if_neg q, decide_eq_false q, decide_eq_true (show t ≤ i by omega)]
    by_cases q2 : i < 32
    · rw [decide_eq_true q2]
      rcases Nat.eq_or_lt_of_le (Nat.le_of_not_lt q) with q3 | q3
      · rw [← q3, Nat.sub_self, Nat.testBit_zero, Nat.testBit_zero, decide_eq_true (show (2 * r + 1) % 2 = 1 by omega), decide_eq_false (show ¬ (2 * r) % 2 = 1 by omega)]; rfl
      · obtain ⟨j, hj⟩ : ∃ j, i - t = j + 1 := ⟨i - t - 1, by omega⟩
        rw [hj, Nat.testBit_succ, Nat.testBit_succ, show (2 * r + 1) / 2 = r by omega, show (2 * r) / 2 = r by omega]
        cases r.testBit j <;> rfl
    · have hb : (2 ^ t * (2 * r + 1)).testBit i = false := Nat.testBit_lt_two_pow (Nat.lt_of_lt_of_le hx (Nat.pow_le_pow_right (by decide) (by omega)))
      rw [Nat.testBit_two_pow_mul, decide_eq_true (show t ≤ i by omega), Bool.true_and] at hb
      rw [decide_eq_false q2, hb]
      obtain ⟨j, hj⟩ : ∃ j, i - t = j + 1 := ⟨i - t - 1, by omega⟩
      rw [hj, Nat.testBit_succ, show (2 * r + 1) / 2 = r by omega] at hb
      rw [hj, Nat.testBit_succ, show (2 * r) / 2 = r by omega, hb]; rfl
theorem Low1.mod {x t : Nat} (h : Low1 x t) (ht : t < 32) : Low1 (x % 2 ^ 32) t := by
  refine ⟨?_, fun i hi => ?_⟩
  · rw [Nat.testBit_mod_two_pow, decide_eq_true ht, h.1]; rfl
  · rw [Nat.testBit_mod_two_pow, h.2 i hi, Bool.and_false]
theorem Low1.div {x t : Nat} (h : Low1 x t) (ht : 32 ≤ t) : Low1 (x / 2 ^ 32) (t - 32) ∧ x % 2 ^ 32 = 0 := by
  have e : ∀ i, (x / 2 ^ 32).testBit i = x.testBit (32 + i) := fun i => by rw [← Nat.shiftRight_eq_div_pow, Nat.testBit_shiftRight]
  refine ⟨⟨?_, fun i hi => ?_⟩, ?_⟩
  · rw [e, show 32 + (t - 32) = t by omega]; exact h.1
  · rw [e]; exact h.2 _ (by omega)
  · refine Nat.eq_of_testBit_eq fun i => ?_
    rw [Nat.testBit_mod_two_pow, Nat.zero_testBit]
    by_cases q : i < 32
    · rw [h.2 i (by omega), Bool.and_false]
    · rw [decide_eq_false q, Bool.false_and]
theorem nI_mod (x : Nat) : nI (x % 2 ^ 32) = nI x := by
  apply Int32.toBitVec_inj.1
  show BitVec.ofNat 32 (x % 2 ^ 32) = BitVec.ofNat 32 x
  apply BitVec.eq_of_toNat_eq
  rw [BitVec.toNat_ofNat, BitVec.toNat_ofNat, Nat.mod_mod]
/-- how many words are in use, looked for from n down -/
def rc (P : Nat → Bool) : Nat → Nat
  | 0 => 0
  | n + 1 => if bw P n = 0 then rc P n else n + 1
theorem rc_wIU {P : Nat → Bool} : ∀ {n : Nat}, n ≤ 4 → (∀ j, n ≤ j → j < 4 → bw P j = 0) → rc P n = wIU P
  | 0, _, h => (wIU_of (by decide) h (Or.inl rfl)).symm
  | n + 1, hn, h => by
    unfold rc
    split
    · next q =>
      refine rc_wIU (by omega) fun j h1 h2 => ?_
      rcases Nat.eq_or_lt_of_le h1 with e | e
      · rw [← e]; exact q
      · exact h j e h2
    · next q => exact (wIU_of hn h (Or.inr q)).symm
theorem wIU_set {P : Nat → Bool} {b : Nat} (hb : b < 256) : wIU (bset P b true) = max (wIU P) (b / 64 + 1) := by
  have hne : bw P (b / 64) ||| 2 ^ (b % 64) ≠ 0 := by
    intro q
    have h1 : (bw P (b / 64) ||| 2 ^ (b % 64)).testBit (b % 64) = true := by rw [Nat.testBit_or, Nat.testBit_two_pow_self, Bool.or_true]
    rw [q, Nat.zero_testBit] at h1
    cases h1
  have h4 := wIU_le P
  refine wIU_of (by omega) (fun j h1 h2 => ?_) (Or.inr ?_)
  · rw [bw_set, if_neg (by omega)]
    exact wIU_0 (by omega) h2
  · rw [bw_set]
    split
    · next q => rw [q]; exact hne
    · next q =>
      have e : max (wIU P) (b / 64 + 1) = wIU P := by omega
      rw [e]
      exact wIU_top (by omega)
theorem bw_clr_out {P : Nat → Bool} {b : Nat} (h : wIU P ≤ b / 64) (hb : b < 256) (j : Nat) : bw (bset P b false) j = bw P j := by
  rw [bw_clr]
  split
  · next q => rw [q, wIU_0 h (by omega), Nat.zero_and]
  · rfl
theorem wIU_cong {P P' : Nat → Bool} (h : ∀ j, bw P j = bw P' j) : wIU P = wIU P' := by unfold wIU; rw [h, h, h, h]
theorem wIU_clr {P : Nat → Bool} {b : Nat} (hb : b < 256) : rc (bset P b false) (wIU P) = wIU (bset P b false) := by
  refine rc_wIU (wIU_le P) fun j h1 h2 => ?_
  rw [bw_clr]
  split
  · rw [wIU_0 h1 h2, Nat.zero_and]
  · exact wIU_0 h1 h2
theorem wIU_zero {P : Nat → Bool} : wIU P = 0 ↔ ∀ b, b < 256 → P b = false := by
  constructor
  · intro h b hb
    have h1 := bw_tb P (b / 64) (i := b % 64) (Nat.mod_lt _ (by decide))
    rw [wIU_0 (by omega) (by omega), Nat.zero_testBit, show 64 * (b / 64) + b % 64 = b by omega] at h1
    exact h1.symm
  · intro h
    refine wIU_of (by decide) (fun j _ h2 => ?_) (Or.inl rfl)
    refine bw_ext (by decide) fun i hi => ?_
    rw [Nat.zero_testBit, h _ (by omega)]
theorem ct_word (P : Nat → Bool) (j : Nat) : fb_ct P (64 * j) + fb_ct (fun i => (bw P j).testBit i) 64 = fb_ct P (64 * (j + 1)) := by
  rw [Nat.mul_add, Nat.mul_one, fb_ct_split P (64 * j) 64]
  congr 1
  exact fb_ct_cong fun k hk => bw_tb P j hk
theorem ct_wIU (P : Nat → Bool) : fb_ct P (64 * wIU P) = fb_ct P 256 := by
  have h4 := wIU_le P
  rw [show 256 = 64 * wIU P + (256 - 64 * wIU P) by omega, fb_ct_split]
  have h0 : fb_ct (fun k => P (64 * wIU P + k)) (256 - 64 * wIU P) = 0 := by
    refine fb_ct_zero.mpr fun k hk => ?_
    have h1 := bw_tb P ((64 * wIU P + k) / 64) (i := (64 * wIU P + k) % 64) (Nat.mod_lt _ (by decide))
    rw [wIU_0 (by omega) (by omega), Nat.zero_testBit, show 64 * ((64 * wIU P + k) / 64) + (64 * wIU P + k) % 64 = 64 * wIU P + k by omega] at h1
    exact h1.symm
  omega
theorem first_low {P : Nat → Bool} {b : Nat} (h1 : P b = true) (h2 : ∀ k, k < b → P k = false) : Low1 (bw P (b / 64)) (b % 64) := by
  refine ⟨?_, fun i hi => ?_⟩
  · rw [bw_tb P _ (Nat.mod_lt _ (by decide)), show 64 * (b / 64) + b % 64 = b by omega]; exact h1
  · rw [bw_tb P _ (by omega)]; exact h2 _ (by omega)
theorem first_zero {P : Nat → Bool} {b u : Nat} (h2 : ∀ k, k < b → P k = false) (hu : u < b / 64) : bw P u = 0 := by
  refine bw_ext (by decide) fun i hi => ?_
  rw [Nat.zero_testBit, h2 _ (by omega)]
theorem first_use {P : Nat → Bool} {b : Nat} (hb : b < 256) (h1 : P b = true) : b / 64 < wIU P := by
  apply Classical.byContradiction
  intro q
  have h := bw_tb P (b / 64) (i := b % 64) (Nat.mod_lt _ (by decide))
  rw [wIU_0 (by omega) (by omega), Nat.zero_testBit, show 64 * (b / 64) + b % 64 = b by omega, h1] at h
  cases h
theorem updL_set (P : Nat → Bool) (b : Nat) : vp_updL (fun j => lN (bw P j)) (b / 64) (lN (bw P (b / 64) ||| 2 ^ (b % 64))) = fun j => lN (bw (bset P b true) j) := by
  funext j
  rw [bw_set]
  unfold vp_updL
  by_cases q : j = b / 64
  · subst q; rw [if_pos rfl, if_pos rfl]
  · rw [if_neg q, if_neg q]
theorem updL_clr (P : Nat → Bool) (b : Nat) : vp_updL (fun j => lN (bw P j)) (b / 64) (lN (bw P (b / 64) &&& (2 ^ (b % 64) ^^^ (2 ^ 64 - 1)))) = fun j => lN (bw (bset P b false) j) := by
  funext j
  rw [bw_clr]
  unfold vp_updL
  by_cases q : j = b / 64
  · subst q; rw [if_pos rfl, if_pos rfl]
  · rw [if_neg q, if_neg q]
theorem bw_none : (fun j => lN (bw (fun _ => false) j)) = fun _ => (0 : Int64) := by
  funext j
  have : bw (fun _ => false) j = 0 := bw_ext (by decide) fun i _ => Nat.zero_testBit i
  rw [this]
  rfl
