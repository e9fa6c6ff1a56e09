/-! who are given, weeks -/
def weekV (r : Row) (p : Nat) (t : Int32) : Nat → Nat
  | 0 => 0
  | k + 1 => weekV r p t k + (if givenOnB r p t (r 0 + nI k) = true then 1 else 0)
theorem weekV_le {r : Row} {p : Nat} {t : Int32} : ∀ k, weekV r p t k ≤ k
  | 0 => Nat.le_refl _
  | k + 1 => by
    show weekV r p t k + (if givenOnB r p t (r 0 + nI k) = true then 1 else 0) ≤ k + 1
    have := weekV_le (r := r) (p := p) (t := t) k
    by_cases c : givenOnB r p t (r 0 + nI k) = true
    · rw [if_pos c]; omega
    · rw [if_neg c]; omega
theorem weekV_t {r : Row} {p : Nat} {t : Int32} {k : Nat} (h : givenOnB r p t (r 0 + nI k) = true) : weekV r p t (k + 1) = weekV r p t k + 1 := by
  show weekV r p t k + (if givenOnB r p t (r 0 + nI k) = true then 1 else 0) = _
  rw [if_pos h]
theorem weekV_f {r : Row} {p : Nat} {t : Int32} {k : Nat} (h : givenOnB r p t (r 0 + nI k) = false) : weekV r p t (k + 1) = weekV r p t k := by
  show weekV r p t k + (if givenOnB r p t (r 0 + nI k) = true then 1 else 0) = _
  rw [h]; rfl
theorem givenSet_t {r : Row} {k : Nat} (h : givenB r k = true) : givenSet r (k + 1) = givenSet r k ||| (1 <<< (nI k &&& 31)) := by
  show givenSet r k ||| (if givenB r k = true then 1 <<< (nI k &&& 31) else 0) = _
  rw [if_pos h]
theorem givenSet_f {r : Row} {k : Nat} (h : givenB r k = false) : givenSet r (k + 1) = givenSet r k ||| 0 := by
  show givenSet r k ||| (if givenB r k = true then 1 <<< (nI k &&& 31) else 0) = _
  rw [h]; rfl
def dvF : Nat → Int32 → Int32 → Int32
  | 0, x, _ => x
  | k + 1, x, y => if y = 0 then x else dvF k y (irem x y)
def aCount (S : MSt) (v : Int32) : Int32 × MSt :=
  if inB v (nI 0) (nI 9) = true then (if toN v = 0 then nI (np S.r) else if toN v = 1 then S.r 0 else if toN v = 2 then sumW S.r 3 (np S.r) else if toN v = 3 then sumW S.r 4 (np S.r) else if toN v = 4 then sumD S.r 64 else if toN v = 5 then givenSet S.r (np S.r) else if toN v = 6 then S.r 3 else if toN v = 7 then S.r 4 else if toN v = 8 then S.many else S.r 1, S) else errA S (-1000000001) 1
def turF (r : Row) (p : Nat) : Nat → Nat × Int32
  | 0 => (0, -1)
  | k + 1 => if (turF r p k).2 < nI (weekV r p (nI k) 7) then (k, nI (weekV r p (nI k) 7)) else turF r p k
def aTurn (S : MSt) (p q : Int32) : Int32 × MSt :=
  if inB p 0 (S.r 2 - 1) = true then (if inB q (nI 0) (nI 1) = true then (if toN q = 0 then nI (turF S.r (toN p) 16).1 else (turF S.r (toN p) 16).2, S) else errA S (-1000000001) 1) else errA S (-1000000001) 1
theorem turF_t {r : Row} {p k : Nat} (h : (turF r p k).2 < nI (weekV r p (nI k) 7)) : turF r p (k + 1) = (k, nI (weekV r p (nI k) 7)) := if_pos h
theorem turF_f {r : Row} {p k : Nat} (h : ¬ (turF r p k).2 < nI (weekV r p (nI k) 7)) : turF r p (k + 1) = turF r p k := if_neg h
