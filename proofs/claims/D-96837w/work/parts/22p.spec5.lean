/-! days, loose days, what comes -/
theorem cpR_b {r r' t : Row} (h : ∀ k, 281 ≤ k → r' k = r k) : cpR 281 (cpR 281 r t) r' = r := by
  funext k
  unfold cpR
  by_cases q : k < 281
  · rw [if_pos q, if_pos q]
  · rw [if_neg q]; exact h k (by omega)
theorem RS.far {r r' : Row} (h : RS r r') : ∀ k, 281 ≤ k → r' k = r k := fun k hk => h k (Or.inr (Or.inl (by omega)))
/-- texts, kinds and how many are as they were -/
def RT (r r' : Row) : Prop := ∀ k, (1 < k ∧ k < 7) ∨ 111 ≤ k ∨ (∃ p w, p < 8 ∧ w < 2 ∧ k = 7 + 5 * p + w) → r' k = r k
theorem RT.r {r : Row} : RT r r := fun _ _ => rfl
theorem RT.t {a b c : Row} (h1 : RT a b) (h2 : RT b c) : RT a c := fun k hk => (h2 k hk).trans (h1 k hk)
theorem RT.of {a b : Row} (h : RS a b) : RT a b := fun k hk => h k (by
  rcases hk with q | q | ⟨p, w, h1, h2, h3⟩
  · exact Or.inl (by omega)
  · exact Or.inr (Or.inl q)
  · exact Or.inr (Or.inr ⟨p, w, h1, by omega, h3⟩))
theorem RT.two {r r' : Row} (h : RT r r') : r' 2 = r 2 := h 2 (Or.inl (by omega))
theorem RT.npe {r r' : Row} (h : RT r r') : np r' = np r := by unfold np; rw [h.two]
theorem RT.pv {r r' : Row} (h : RT r r') {p w : Nat} (hp : p < 8) (hw : w < 2) : pv r' p w = pv r p w := h _ (Or.inr (Or.inr ⟨p, w, hp, hw, rfl⟩))
theorem RT.T {r r' : Row} (h : RT r r') (ht : RowT r) : RowT r' := by
  intro u hu
  rw [h (5 + u) (Or.inl (by omega))]
  exact ht u hu
theorem RT.K {r r' : Row} (h : RT r r') (ht : RowK r) : RowK r' := by
  intro p hp
  rw [h.pv hp (by decide), h.pv hp (by decide)]
  exact ht p hp
theorem RT.far {r r' : Row} (h : RT r r') : ∀ k, 281 ≤ k → r' k = r k := fun k hk => h k (Or.inr (Or.inl (by omega)))
def looV (z t : Int32) : Int32 := if irem (dwV z) (nI 8) = 0 then t ^^^ (nI 1 <<< (irem (dwV z / nI 8) (nI 4) &&& 31)) else t
theorem looV_t {z t : Int32} (h : irem (dwV z) (nI 8) = 0) : looV z t = t ^^^ (nI 1 <<< (irem (dwV z / nI 8) (nI 4) &&& 31)) := if_pos h
theorem looV_f {z t : Int32} (h : ¬ irem (dwV z) (nI 8) = 0) : looV z t = t := if_neg h
/-- the traits of the first k, drawn for -/
def looR (r : Row) : Nat → Row
  | 0 => r
  | k + 1 => spv (ru (looR r k) 1 (zN (looR r k 1))) k 2 (looV (zN (looR r k 1)) (pv (ru (looR r k) 1 (zN (looR r k 1))) k 2))
theorem looR_T {r : Row} : ∀ k, k ≤ 8 → RT r (looR r k)
  | 0, _ => RT.r
  | k + 1, hk => by
    refine (looR_T k (by omega)).t fun j hj => ?_
    have h1 : j ≠ 7 + 5 * k + 2 := by rcases hj with q | q | ⟨p, w, h1, h2, h3⟩ <;> omega
    have h2 : j ≠ 1 := by rcases hj with q | q | ⟨p, w, h1, h2, h3⟩ <;> omega
    exact (ru_n h1).trans (ru_n h2)
def looseR (r : Row) : Nat → Row
  | 0 => r
  | k + 1 => dayR (looR (looseR r k) (np r)) (-1)
theorem looseR_T {r : Row} (hn : np r ≤ 8) : ∀ k, RT r (looseR r k)
  | 0 => RT.r
  | k + 1 => by
    have ih := looseR_T hn k
    have h1 := looR_T (r := looseR r k) (np r) hn
    refine ih.t (h1.t (RT.of (dayR_RS ?_)))
    rw [h1.npe, ih.npe]; exact hn
def aLoose (S : MSt) (c : Int32) : Int32 × MSt :=
  if inB c (nI 1) (nI 40) = true then (if nI 9999 < S.r 0 + c then errA S (-1000000003) 3 else (sumW (looseR S.r (toN c)) 3 (np S.r), S.s_r (looseR S.r (toN c)))) else errA S (-1000000001) 1
def aThen (S : MSt) (n p q : Int32) : Int32 × MSt :=
  if inB n (nI 0) (nI 60) = true then (if inB p 0 (S.r 2 - 1) = true then (if inB q (nI 0) (nI 1) = true then (pv (passR S.r (-1) (toN n)) (toN p) (3 + toN q), S) else errA S (-1000000001) 1) else errA S (-1000000001) 1) else errA S (-1000000001) 1
/-- the first from p on whose thirst is no less than x, k to go -/
def thF (r : Row) (x : Int32) : Nat → Nat → Nat
  | 0, p => p
  | k + 1, p => if pv r p 4 < x then thF r x k (p + 1) else p
def thV (r : Row) (x : Int32) : Nat := thF r x (np r) 0
theorem thF_le {r : Row} {x : Int32} : ∀ k p, thF r x k p ≤ p + k
  | 0, p => Nat.le_refl _
  | k + 1, p => by
    unfold thF
    by_cases c : pv r p 4 < x
    · rw [if_pos c]; have := thF_le (r := r) (x := x) k (p + 1); omega
    · rw [if_neg c]; omega
def fsF (r : Row) (x : Int32) : Nat → Nat → Nat
  | 0, m => m
  | k + 1, m => if thV (passR r (-1) m) x = np r then fsF r x k (m + 1) else m
def fsV (r : Row) (x : Int32) : Nat := fsF r x 61 0
def aFirst (S : MSt) (x q : Int32) : Int32 × MSt :=
  if inB x (nI 1) (nI 99) = true then (if inB q (nI 0) (nI 1) = true then (if 60 < fsV S.r x then errA S (-1000000002) 2 else (if toN q = 0 then nI (fsV S.r x) else nI (thV (passR S.r (-1) (fsV S.r x)) x), S)) else errA S (-1000000001) 1) else errA S (-1000000001) 1
theorem fsF_le {r : Row} {x : Int32} : ∀ k m, fsF r x k m ≤ m + k
  | 0, m => Nat.le_refl _
  | k + 1, m => by
    unfold fsF
    by_cases c : thV (passR r (-1) m) x = np r
    · rw [if_pos c]; have := fsF_le (r := r) (x := x) k (m + 1); omega
    · rw [if_neg c]; omega
theorem looR_s {r : Row} {i : Nat} : looR r (i + 1) = spv (ru (looR r i) 1 (zN (looR r i 1))) i 2 (looV (zN (looR r i 1)) (pv (ru (looR r i) 1 (zN (looR r i 1))) i 2)) := rfl
