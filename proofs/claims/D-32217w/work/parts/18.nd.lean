/-! ===== SPEC 5: the first store ===== -/
def ini : Nat → List Nat
  | 0 => [5, 5, 5, 5, 5, 5, 5, 5, 5, 5, 5, 5]
  | 1 => [3, 4, 5, 6]
  | 2 => [NONE, NONE, NONE, NONE, NONE, NONE, NONE, NONE, NONE, NONE, NONE, NONE]
  | 26 => [280, 210, 420, 560]
  | 27 => [0, 100, 300, 700]
  | 28 => [0, 1, 2, 4]
  | 29 => [102, 105, 114, 109, 115, 111, 102, 116, 100, 101, 101, 112, 103, 111, 110, 101]
  | 31 => [200]
  | _ => []
def σI : Sg := fun f i => (ini f).getD i 0
theorem getD_set {L : List Nat} {k v : Nat} (hk : k < L.length) (i : Nat) : (L.set k v).getD i 0 = if i = k then v else L.getD i 0 := by
  by_cases q : i = k
  · subst q; rw [if_pos rfl, List.getD_eq_getElem?_getD, List.getElem?_set_self hk]; rfl
  · rw [if_neg q, List.getD_eq_getElem?_getD, List.getElem?_set_ne (fun e => q e.symm), ← List.getD_eq_getElem?_getD]
theorem updI_set {L : List Nat} {k v : Nat} (hk : k < L.length) : upd (fun i => nI (L.getD i 0)) k (nI v) = fun i => nI ((L.set k v).getD i 0) := by
  funext i
  rw [getD_set hk]
  unfold upd
  by_cases q : i = k
  · rw [if_pos q, if_pos q]
  · rw [if_neg q, if_neg q]
theorem zeroL (n : Nat) : (fun _ => 0 : Nat → Int32) = fun i => nI ((List.replicate n 0).getD i 0) := by
  funext i
  rw [List.getD_eq_getElem?_getD, List.getElem?_replicate]
  split <;> rfl
def fnd (k i : Nat) : Nat := if i < k then NONE else 0
theorem fnd_0 : (fun _ => 0 : Nat → Int32) = fun i => nI (fnd 0 i) := by funext i; rfl
theorem fnd_up (k : Nat) : upd (fun i => nI (fnd k i)) k (nI NONE) = fun i => nI (fnd (k + 1) i) := by
  funext i
  unfold upd fnd
  by_cases q : i = k
  · rw [if_pos q, if_pos (by omega)]
  · rw [if_neg q]
    show nI (if i < k then NONE else 0) = _
    by_cases q2 : i < k
    · rw [if_pos q2, if_pos (by omega)]
    · rw [if_neg q2, if_neg (by omega)]
theorem fnd_12 : (fun i => nI (fnd 12 i)) = fun i => nI (σI 2 i) := by
  funext i
  congr 1
  show fnd 12 i = [NONE, NONE, NONE, NONE, NONE, NONE, NONE, NONE, NONE, NONE, NONE, NONE].getD i 0
  rw [show [NONE, NONE, NONE, NONE, NONE, NONE, NONE, NONE, NONE, NONE, NONE, NONE] = List.replicate 12 NONE from rfl, List.getD_eq_getElem?_getD, List.getElem?_replicate]
  unfold fnd
  split <;> rfl
