/-! count, odds, dry, kept, check, judge, traits, move -/
theorem MH_76 (h : Hp) (r o : Row) : MH h r o = MH (bI h 76 (hI h 76)) r o := by
  have e : bI h 76 (hI h 76) = h := by
    show sI h (uf (hI h) 76 (hI h 76)) = h
    have e : uf (hI h) 76 (hI h 76) = hI h := by funext c; unfold uf; by_cases q : c = 76 <;> simp [q]
    rw [e]; rfl
  rw [e]
theorem MH_75 (h : Hp) (r o : Row) : MH h r o = MH (bI h 75 (hI h 75)) r o := by
  have e : bI h 75 (hI h 75) = h := by
    show sI h (uf (hI h) 75 (hI h 75)) = h
    have e : uf (hI h) 75 (hI h 75) = hI h := by funext c; unfold uf; by_cases q : c = 75 <;> simp [q]
    rw [e]; rfl
  rw [e]
def gcV (n : Nat) : Nat := if n = 0 then 7 else if n = 7 then 7 else 1
theorem gcV_ne (n : Nat) : ¬ nI (gcV n) = 0 := by
  unfold gcV
  by_cases h : n = 0
  · rw [if_pos h]; decide
  · rw [if_neg h]
    by_cases h2 : n = 7
    · rw [if_pos h2]; decide
    · rw [if_neg h2]; decide
def aOdds (S : MSt) (p q : Int32) : Int32 × MSt :=
  if inB p 0 (S.r 2 - 1) = true then (if inB q (nI 0) (nI 1) = true then (if toN q = 0 then nI (weekV S.r (toN p) (pv S.r (toN p) 2) 7) / nI (gcV (weekV S.r (toN p) (pv S.r (toN p) 2) 7)) else nI 7 / nI (gcV (weekV S.r (toN p) (pv S.r (toN p) 2) 7)), S) else errA S (-1000000001) 1) else errA S (-1000000001) 1
/-- days until none is given, k to look at -/
def drF (r : Row) : Nat → Nat → Nat
  | 0, m => m
  | k + 1, m => if givenSet (passR r (-1) m) (np r) = 0 then m else drF r k (m + 1)
theorem drF_le {r : Row} : ∀ k m, drF r k m ≤ m + k
  | 0, m => Nat.le_refl _
  | k + 1, m => by
    unfold drF
    by_cases c : givenSet (passR r (-1) m) (np r) = 0
    · rw [if_pos c]; omega
    · rw [if_neg c]; have := drF_le (r := r) k (m + 1); omega
def aDry (S : MSt) : Int32 × MSt := if drF S.r 61 0 ≤ 60 then (nI (drF S.r 61 0), S) else errA S (-1000000002) 2
def thS (r f : Row) : Nat → Row
  | 0 => f
  | k + 1 => ru (thS r f k) k (pv r k 4)
theorem thS_at {r f : Row} {i : Nat} : ∀ k, i < k → thS r f k i = pv r i 4
  | 0, h => absurd h (by omega)
  | k + 1, h => by
    show ru (thS r f k) k (pv r k 4) i = _
    by_cases e : i = k
    · subst e; exact ru_s _ _ _
    · rw [ru_n e]; exact thS_at k (by omega)
def kpV (r1 r2 : Row) (p : Nat) : Nat → Int32
  | 0 => nI 0
  | k + 1 => kpV r1 r2 p k ||| (if ¬ k = p ∧ pv r1 k 4 < pv r2 k 4 then nI 1 <<< (nI k &&& 31) else nI 0)
theorem kpV_t {r1 r2 : Row} {p k : Nat} (h : ¬ k = p) (h2 : pv r1 k 4 < pv r2 k 4) : kpV r1 r2 p (k + 1) = kpV r1 r2 p k ||| (nI 1 <<< (nI k &&& 31)) := by
  show kpV r1 r2 p k ||| (if ¬ k = p ∧ pv r1 k 4 < pv r2 k 4 then nI 1 <<< (nI k &&& 31) else nI 0) = _
  rw [if_pos ⟨h, h2⟩]
theorem kpV_f {r1 r2 : Row} {p k : Nat} (h : ¬ (¬ k = p ∧ pv r1 k 4 < pv r2 k 4)) : kpV r1 r2 p (k + 1) = kpV r1 r2 p k ||| nI 0 := by
  show kpV r1 r2 p k ||| (if ¬ k = p ∧ pv r1 k 4 < pv r2 k 4 then nI 1 <<< (nI k &&& 31) else nI 0) = _
  rw [if_neg h]
def aKept (S : MSt) (p n : Int32) : Int32 × MSt :=
  if inB p 0 (S.r 2 - 1) = true then (if inB n (nI 0) (nI 60) = true then (kpV (passR S.r (-1) (toN n)) (passR S.r p (toN n)) (toN p) (np S.r), S) else errA S (-1000000001) 1) else errA S (-1000000001) 1
theorem kept_fin {h : Hp} {r o a b : Row} {x y : Int32} (j1 : Jo o a) (j2 : Jo (ru a 15 x) b) : mS h r (ru b 15 y) = mS h r o := by
  unfold mS
  rw [ru_n (by decide), ru_n (by decide), ru_n (by decide), j2.1, j2.2.1, j2.2.2.2, ru_n (by decide), ru_n (by decide), ru_n (by decide), j1.1, j1.2.1, j1.2.2.2]
/-- tidings that come true -/
def chF (r : Row) : Nat → Nat → Bool × Nat
  | 0, i => (true, i)
  | k + 1, i => if sumW (passR r (-1) (i + 1)) 3 (np r) = r (161 + i) then chF r k (i + 1) else (false, i)
theorem chF_t {r : Row} {k i : Nat} (h : sumW (passR r (-1) (i + 1)) 3 (np r) = r (161 + i)) : chF r (k + 1) i = chF r k (i + 1) := if_pos h
theorem chF_f {r : Row} {k i : Nat} (h : ¬ sumW (passR r (-1) (i + 1)) 3 (np r) = r (161 + i)) : chF r (k + 1) i = (false, i) := if_neg h
def aCheck (S : MSt) : Int32 × MSt :=
  (if (chF (ru S.r 4 (nI 0)) (toN (S.r 4)) 0).1 = true then nI 0 else nI (1 + (chF (ru S.r 4 (nI 0)) (toN (S.r 4)) 0).2), S.s_r (ru S.r 4 (nI 0)))
/-- on from p as long as P -/
def whF (P : Nat → Bool) : Nat → Nat → Nat
  | 0, p => p
  | k + 1, p => if P p = true then whF P k (p + 1) else p
theorem whF_t {P : Nat → Bool} {k p : Nat} (h : P p = true) : whF P (k + 1) p = whF P k (p + 1) := if_pos h
theorem whF_f {P : Nat → Bool} {k p : Nat} (h : P p = false) : whF P (k + 1) p = p := if_neg (by rw [h]; decide)
theorem whF_le {P : Nat → Bool} {n : Nat} (hP : ∀ p, P p = true → p < n) : ∀ k p, p ≤ n → whF P k p ≤ n
  | 0, p, h => h
  | k + 1, p, h => by
    unfold whF
    by_cases c : P p = true
    · rw [if_pos c]; exact whF_le hP k _ (hP p c)
    · rw [if_neg c]; exact h
def jdP (r f : Row) (z s p : Nat) : Bool := decide (p < np r) && (decide (p < z) && decide (f (40 * s + p) = pv r p 3))
theorem jdP_f1 {r f : Row} {z s p : Nat} (h : np r ≤ p) : jdP r f z s p = false := by unfold jdP; rw [decide_eq_false (show ¬ p < np r by omega)]; rfl
theorem jdP_f2 {r f : Row} {z s p : Nat} (h : z ≤ p) : jdP r f z s p = false := by unfold jdP; rw [decide_eq_false (show ¬ p < z by omega), Bool.false_and, Bool.and_false]
theorem jdP_f3 {r f : Row} {z s p : Nat} (h : ¬ f (40 * s + p) = pv r p 3) : jdP r f z s p = false := by unfold jdP; rw [decide_eq_false h, Bool.and_false, Bool.and_false]
theorem jdP_t {r f : Row} {z s p : Nat} (h1 : p < np r) (h2 : p < z) (h : f (40 * s + p) = pv r p 3) : jdP r f z s p = true := by unfold jdP; rw [decide_eq_true h1, decide_eq_true h2, decide_eq_true h]; rfl
def aJudge (S : MSt) (s : Int32) : Int32 × MSt :=
  if inB s (nI 0) (nI 3) = true then (if S.bits (toN s) = 0 then errA S (-1000000002) 2 else (if whF (jdP S.r S.sheets (toN (S.size (toN s))) (toN s)) 9 0 = np S.r then (if whF (jdP S.r S.sheets (toN (S.size (toN s))) (toN s)) 9 0 = toN (S.size (toN s)) then (-1) else nI (whF (jdP S.r S.sheets (toN (S.size (toN s))) (toN s)) 9 0)) else nI (whF (jdP S.r S.sheets (toN (S.size (toN s))) (toN s)) 9 0), S)) else errA S (-1000000001) 1
def trR (r f : Row) (s : Nat) : Nat → Row
  | 0 => r
  | k + 1 => spv (trR r f s k) k 2 (f (40 * s + k))
theorem trR_T {r f : Row} {s : Nat} : ∀ k, k ≤ 8 → RT r (trR r f s k)
  | 0, _ => RT.r
  | k + 1, hk => by
    refine (trR_T (f := f) (s := s) k (by omega)).t fun j hj => ?_
    have h1 : j ≠ 7 + 5 * k + 2 := by rcases hj with q | q | ⟨p, w, h1, h2, h3⟩ <;> omega
    exact ru_n h1
def trP (r f : Row) (z s p : Nat) : Bool := decide (p < z) && (inB (nI p) 0 (r 2 - 1) && inB (f (40 * s + p)) (nI 0) (nI 15))
theorem trP_f1 {r f : Row} {z s p : Nat} (h : z ≤ p) : trP r f z s p = false := by unfold trP; rw [decide_eq_false (show ¬ p < z by omega)]; rfl
theorem trP_f2 {r f : Row} {z s p : Nat} (h : inB (nI p) 0 (r 2 - 1) = false) : trP r f z s p = false := by unfold trP; rw [h, Bool.false_and, Bool.and_false]
theorem trP_f3 {r f : Row} {z s p : Nat} (h : inB (f (40 * s + p)) (nI 0) (nI 15) = false) : trP r f z s p = false := by unfold trP; rw [h, Bool.and_false, Bool.and_false]
theorem trP_t {r f : Row} {z s p : Nat} (h1 : p < z) (h2 : inB (nI p) 0 (r 2 - 1) = true) (h : inB (f (40 * s + p)) (nI 0) (nI 15) = true) : trP r f z s p = true := by unfold trP; rw [decide_eq_true h1, h2, h]; rfl
theorem one_lt {r : Row} {p : Nat} (w : WF r) (hp : p < 2147483648) (h : inB (nI p) 0 (r 2 - 1) = true) : p < np r := by
  obtain ⟨k, hk, e⟩ := one_of w h
  have := w.n8
  have := n_eq hp (by omega) e
  omega
def aTraits (S : MSt) (s : Int32) : Int32 × MSt :=
  if inB s (nI 0) (nI 3) = true then (if S.bits (toN s) = 0 then errA S (-1000000002) 2 else (nI (whF (trP S.r S.sheets (toN (S.size (toN s))) (toN s)) 9 0), S.s_r (trR S.r S.sheets (toN s) (whF (trP S.r S.sheets (toN (S.size (toN s))) (toN s)) 9 0)))) else errA S (-1000000001) 1
theorem i_sub {z n i : Nat} (hz : z ≤ 40) (hn : n < 2147483648) (hi : i < 2147483648) (h : ¬ nI z - nI n < nI i) : i + n ≤ z := by
  have h1 : (nI i).toInt ≤ (nI z - nI n).toInt := Int32.le_iff_toInt_le.mp (Int32.not_lt.mp h)
  rw [Int32.toInt_sub, nI_toInt (by omega), nI_toInt (by omega), nI_toInt (by omega), Int.bmod_eq_of_le (by omega) (by omega)] at h1
  omega
def cpS (f g : Row) (b : Nat) : Nat → Row
  | 0 => g
  | k + 1 => ru (cpS f g b k) k (f (b + k))
theorem cpS_at {f g : Row} {b i : Nat} : ∀ k, i < k → cpS f g b k i = f (b + i)
  | 0, h => absurd h (by omega)
  | k + 1, h => by
    show ru (cpS f g b k) k (f (b + k)) i = _
    by_cases e : i = k
    · subst e; exact ru_s _ _ _
    · rw [ru_n e]; exact cpS_at k (by omega)
/-- n from b on, moved to c on -/
def mvF (f : Row) (b c : Nat) : Nat → Row
  | 0 => f
  | k + 1 => ru (mvF f b c k) (c + k) (f (b + k))
def aMove (S : MSt) (s i t j n : Int32) : Int32 × MSt :=
  if inB s (nI 0) (nI 3) = true then (if inB t (nI 0) (nI 3) = true then (if S.bits (toN s) = 0 then errA S (-1000000002) 2 else if S.bits (toN t) = 0 then errA S (-1000000002) 2 else if S.bits (toN s) = S.bits (toN t) then (if n < 0 then errA S (-1000000001) 1 else if i < 0 then errA S (-1000000001) 1 else if j < 0 then errA S (-1000000001) 1 else if S.size (toN s) - n < i then errA S (-1000000001) 1 else if S.size (toN t) - n < j then errA S (-1000000001) 1 else (n, S.s_sheets (mvF S.sheets (40 * toN s + toN i) (40 * toN t + toN j) (toN n)))) else errA S (-1000000005) 5) else errA S (-1000000001) 1) else errA S (-1000000001) 1
theorem inB_toInt {v : Int32} {n : Nat} (hn : n < 2147483648) (h : inB v (nI 0) (nI n) = false) : v.toInt < 0 ∨ (n : Int) < v.toInt := by
  rcases Int.lt_or_le v.toInt 0 with q | q
  · exact Or.inl q
  · refine Or.inr (Int.not_le.mp fun q2 => ?_)
    have h1 : inB v (nI 0) (nI n) = true := inB_t (Int32.le_iff_toInt_le.mpr (by rw [nI_toInt (by decide)]; exact q)) (Int32.le_iff_toInt_le.mpr (by rw [nI_toInt hn]; exact q2))
    rw [h1] at h
    cases h
theorem np_ru {r : Row} {k : Nat} {v : Int32} (h : k ≠ 2) : np (ru r k v) = np r := by
  unfold np
  rw [ru_n (Ne.symm h)]
theorem WF.four {r : Row} (w : WF r) {k : Nat} (hk : k ≤ 20) : WF (ru r 4 (nI k)) := by
  refine ⟨?_, ?_, fun u hu => ?_, fun p hp => ?_, fun p hp => ?_, fun p hp => ?_, fun j hj => ?_, fun p hp => ?_, ?_, ?_, fun j hj => ?_, fun j hj => ?_⟩
  · rw [np_ru (by decide), ru_n (by decide)]; exact w.n
  · rw [np_ru (by decide)]; exact w.n8
  · rw [ru_n (by omega)]; exact w.T u hu
  · unfold pv; rw [ru_n (by omega), ru_n (by omega)]; exact w.K p hp
  · unfold pv; rw [ru_n (by omega)]; exact w.W p hp
  · unfold pv; rw [ru_n (by omega)]; exact w.H p hp
  · rw [ru_n (by omega)]; exact w.D j hj
  · unfold pv; rw [ru_n (by omega)]; exact w.G p hp
  · rw [ru_n (by decide)]; exact w.A
  · exact ⟨k, ru_s _ _ _, hk⟩
  · rw [ru_n (by omega)]; exact w.B j hj
  · rw [ru_n (by omega)]; exact w.C j hj
