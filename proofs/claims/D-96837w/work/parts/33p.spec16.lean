/-! a land strikes; a land becomes another one -/
theorem cd_div {n a e : Nat} (h : e < n) : (n * a + e) / n = a := by
  rw [Nat.mul_add_div (by omega), Nat.div_eq_of_lt h, Nat.add_zero]
theorem cd_mod {n a e : Nat} (h : e < n) : (n * a + e) % n = e := by
  rw [Nat.mul_add_mod, Nat.mod_eq_of_lt h]
theorem cd_lt {n a e : Nat} (ha : a < n) (h : e < n) : n * a + e < n * n := by
  have h1 : n * (a + 1) ≤ n * n := Nat.mul_le_mul_left n ha
  have h2 : n * (a + 1) = n * a + n := Nat.mul_succ n a
  omega
theorem c3_div {n a e f : Nat} (he : e < n) (hf : f < n) : (n * (n * a + e) + f) / (n * n) = a := by
  rw [← Nat.div_div_eq_div_mul, cd_div hf, cd_div he]
theorem c3_mid {n a e f : Nat} (he : e < n) (hf : f < n) : (n * (n * a + e) + f) / n % n = e := by
  rw [cd_div hf, cd_mod he]
theorem c3_lt {n a e f : Nat} (ha : a < n) (he : e < n) (hf : f < n) : n * (n * a + e) + f < n * n * n := by
  have h1 := cd_lt ha he
  have h2 : n * (n * a + e + 1) ≤ n * (n * n) := Nat.mul_le_mul_left n h1
  have h3 : n * (n * a + e + 1) = n * (n * a + e) + n := Nat.mul_succ n _
  have h4 : n * n * n = n * (n * n) := Nat.mul_assoc n n n
  omega
theorem fndF_skip {P : Nat → Bool} {K c : Nat} : ∀ j, j ≤ K → (∀ x, c ≤ x → x < c + j → P x = false) → fndF P K c = fndF P (K - j) (c + j)
  | 0, _, _ => rfl
  | j + 1, h, hp => by
    rw [fndF_skip j (by omega) (fun x h1 h2 => hp x h1 (by omega))]
    rw [show K - j = (K - (j + 1)) + 1 by omega, fndF_f (hp (c + j) (by omega) (by omega))]
    rfl
theorem tw_lo {r : Row} {n a : Nat} (ha : a < n) : ∀ x, n * a ≤ x → x < n * a + (a + 1) → twP r n x = false := by
  intro x h1 h2
  have e : x = n * a + (x - n * a) := by omega
  have hx : x - n * a < n := by omega
  unfold twP
  refine an_f1 (decide_eq_false ?_)
  rw [e, cd_div hx, cd_mod hx]
  omega
theorem tw_at {r : Row} {n a e : Nat} (he : e < n) : twP r n (n * a + e) = (decide (a < e) && (oweB r a e && oweB r e a)) := by
  unfold twP
  rw [cd_div he, cd_mod he]
theorem owe_n {r : Row} {a e i : Nat} (hi : dv r a e = nI i) (hi9 : i ≤ 99) (ne : ¬ a = e) : oweB r a e = decide (0 < i) := by
  by_cases c : 0 < i
  · rw [decide_eq_true c]
    exact oweB_t ne (by rw [hi, ← nI_0]; exact nI_lt c (by omega))
  · rw [decide_eq_false c]
    exact oweB_f2 (by rw [hi, show i = 0 by omega, nI_0]; exact Int32.le_refl 0)
theorem tw_no {r : Row} {n a e i j : Nat} (he : e < n) (hae : a < e) (hi : dv r a e = nI i) (hj : dv r e a = nI j) (hi9 : i ≤ 99) (hj9 : j ≤ 99) (h : min i j = 0) : twP r n (n * a + e) = false := by
  rw [tw_at he, owe_n hi hi9 (by omega), owe_n hj hj9 (by omega)]
  by_cases c : 0 < i
  · rw [decide_eq_false (show ¬ 0 < j by omega), Bool.and_false, Bool.and_false]
  · rw [decide_eq_false c, Bool.false_and, Bool.and_false]
theorem tw_yes {r : Row} {n a e i j : Nat} (he : e < n) (hae : a < e) (hi : dv r a e = nI i) (hj : dv r e a = nI j) (hi9 : i ≤ 99) (hj9 : j ≤ 99) (h : 0 < min i j) : twP r n (n * a + e) = true := by
  rw [tw_at he, owe_n hi hi9 (by omega), owe_n hj hj9 (by omega), decide_eq_true hae, decide_eq_true (show 0 < i by omega), decide_eq_true (show 0 < j by omega)]
  rfl
def T3 (r : Row) (a e f : Nat) : Bool := oweB r a e && (oweB r e f && oweB r f a)
theorem th_at {r : Row} {n a e f : Nat} (he : e < n) (hf : f < n) : thP r n (n * (n * a + e) + f) = (decide (a < e) && (decide (a < f) && T3 r a e f)) := by
  unfold thP T3
  rw [c3_div he hf, c3_mid he hf, cd_mod hf]
theorem th_lo {r : Row} {n a e : Nat} (ha : a < n) (he : e < n) : ∀ x, n * (n * a + e) ≤ x → x < n * (n * a + e) + (a + 1) → thP r n x = false := by
  intro x h1 h2
  have e1 : x = n * (n * a + e) + (x - n * (n * a + e)) := by omega
  have hx : x - n * (n * a + e) < n := by omega
  rw [e1, th_at he hx, decide_eq_false (show ¬ a < x - n * (n * a + e) by omega), Bool.false_and, Bool.and_false]
theorem th_lo2 {r : Row} {n a : Nat} (ha : a < n) : ∀ x, n * (n * a) ≤ x → x < n * (n * a) + n * (a + 1) → thP r n x = false := by
  intro x h1 h2
  have h0 : 0 < n := by omega
  have hq : n * a ≤ x / n := (Nat.le_div_iff_mul_le h0).mpr (by rw [Nat.mul_comm (n * a) n]; exact h1)
  have hq2 : x / n < n * a + (a + 1) := (Nat.div_lt_iff_lt_mul h0).mpr (by rw [Nat.mul_comm (n * a + (a + 1)) n, Nat.mul_add]; exact h2)
  have hm : x / n % n = x / n - n * a := by
    have e : x / n = n * a + (x / n - n * a) := by omega
    rw [e, cd_mod (by omega)]
    omega
  have hd : x / (n * n) = a := by
    rw [← Nat.div_div_eq_div_mul]
    have e : x / n = n * a + (x / n - n * a) := by omega
    rw [e, cd_div (by omega)]
  unfold thP
  refine an_f1 (decide_eq_false ?_)
  rw [hd, hm]
  omega
def decR (r : Row) (i : Nat) (v : Int32) : Row := ru r i (r i - v)
theorem decR_comm {r : Row} {i j : Nat} {v w : Int32} (h : i ≠ j) : decR (decR r i v) j w = decR (decR r j w) i v := by
  funext k
  unfold decR ru
  by_cases h1 : k = i
  · subst h1; simp [h]
  · by_cases h2 : k = j
    · subst h2; simp [h1, Ne.symm h]
    · simp [h1, h2]
theorem stk3_r {r : Row} {a e f : Nat} (ha : a < 8) (he : e < 8) (hf : f < 8) (n1 : a ≠ e) (n2 : e ≠ f) (n3 : f ≠ a) {v : Int32} (hv : lst3 r a e f = v) : stk3 r a e f = lessR (lessR (lessR r a e v) e f v) f a v := by
  unfold stk3
  rw [hv]
  show decR (decR (decR r (47 + 8 * f + a) v) (47 + 8 * a + e) v) (47 + 8 * e + f) v = decR (decR (decR r (47 + 8 * a + e) v) (47 + 8 * e + f) v) (47 + 8 * f + a) v
  rw [decR_comm (r := r) (i := 47 + 8 * f + a) (j := 47 + 8 * a + e) (by omega), decR_comm (i := 47 + 8 * f + a) (j := 47 + 8 * e + f) (by omega)]
theorem T3_n {r : Row} {a e f i j l : Nat} (hi : dv r a e = nI i) (hj : dv r e f = nI j) (hl : dv r f a = nI l) (hi9 : i ≤ 99) (hj9 : j ≤ 99) (hl9 : l ≤ 99) (n1 : a ≠ e) (n2 : e ≠ f) (n3 : f ≠ a) : T3 r a e f = decide (0 < min (min l j) i) := by
  unfold T3
  rw [owe_n hi hi9 n1, owe_n hj hj9 n2, owe_n hl hl9 n3]
  by_cases c : 0 < min (min l j) i
  · rw [decide_eq_true c, decide_eq_true (show 0 < i by omega), decide_eq_true (show 0 < j by omega), decide_eq_true (show 0 < l by omega)]
    rfl
  · rw [decide_eq_false c]
    by_cases c1 : 0 < i
    · by_cases c2 : 0 < j
      · rw [decide_eq_false (show ¬ 0 < l by omega), Bool.and_false, Bool.and_false]
      · rw [decide_eq_false c2, Bool.false_and, Bool.and_false]
    · rw [decide_eq_false c1, Bool.false_and]
def FS (h : Hp) (b : Nat) (t : Int32) (r : Row) (n : Nat) (q : Option Nat) : gQ := fun out h' => (∃ c g', q = some c ∧ c < n * n ∧ out = .inl (some (.int (nI 1))) ∧ h' = LG h b (stk2 r (c / n) (c % n)) t g') ∨ (∃ g', q = none ∧ out = .inl (some (.int (nI 0))) ∧ h' = LG h b r t g')
def FS3 (h : Hp) (b : Nat) (t : Int32) (r : Row) (n : Nat) (q : Option Nat) : gQ := fun out h' => (∃ c g', q = some c ∧ c < n * n * n ∧ out = .inl (some (.int (nI 1))) ∧ h' = LG h b (stk3 r (c / (n * n)) (c / n % n) (c % n)) t g') ∨ (∃ g', q = none ∧ out = .inl (some (.int (nI 0))) ∧ h' = LG h b r t g')
theorem r_callFS {d mc ms : Nat} {M M1 : gM} {pc : Nat} {ls : gLs} {st stk : List Value} {h h1 : Hp} {b1 x : Nat} {t1 : Int32} {r1 : Row} {q : Option Nat} {Q : gQ} {b : Nat} {As : List Value} {C : String} {n index : Nat} (dc : decode (mC M) pc = .ok (.invokevirtual index, 3)) (hv : gV (mOwn M) index C M1 n) (hC : gC d 0 0 M1 (.ref b :: As) h (FS h1 b1 t1 r1 x q)) (hb : gRecv h b C) (hn : As.length = n) (hst : stk = As.reverse ++ .ref b :: st) (hcat : (st.map fun v => v.category).sum ≤ 8)
    (k1 : ∀ c g', q = some c → c < x * x → gG (d + 1) mc ms M (pc + 3) ls (.int (nI 1) :: st) (LG h1 b1 (stk2 r1 (c / x) (c % x)) t1 g') Q)
    (k2 : ∀ g', q = none → gG (d + 1) mc ms M (pc + 3) ls (.int (nI 0) :: st) (LG h1 b1 r1 t1 g') Q) : gG (d + 1) mc ms M pc ls stk h Q :=
  r_callV (mc1 := 0) (ms1 := 0) dc hv hC hb hn hst hcat (fun v h' e => by
    obtain ⟨c, g', e1, e2, e3, e4⟩ | ⟨g', e1, e3, e4⟩ := e
    · cases e3; subst e4; exact k1 c g' e1 e2
    · cases e3; subst e4; exact k2 g' e1) (fun a h' e => by
    obtain ⟨c, g', e1, e2, e3, e4⟩ | ⟨g', e1, e3, e4⟩ := e
    · cases e3
    · cases e3)
theorem r_callFS3 {d mc ms : Nat} {M M1 : gM} {pc : Nat} {ls : gLs} {st stk : List Value} {h h1 : Hp} {b1 x : Nat} {t1 : Int32} {r1 : Row} {q : Option Nat} {Q : gQ} {b : Nat} {As : List Value} {C : String} {n index : Nat} (dc : decode (mC M) pc = .ok (.invokevirtual index, 3)) (hv : gV (mOwn M) index C M1 n) (hC : gC d 0 0 M1 (.ref b :: As) h (FS3 h1 b1 t1 r1 x q)) (hb : gRecv h b C) (hn : As.length = n) (hst : stk = As.reverse ++ .ref b :: st) (hcat : (st.map fun v => v.category).sum ≤ 8)
    (k1 : ∀ c g', q = some c → c < x * x * x → gG (d + 1) mc ms M (pc + 3) ls (.int (nI 1) :: st) (LG h1 b1 (stk3 r1 (c / (x * x)) (c / x % x) (c % x)) t1 g') Q)
    (k2 : ∀ g', q = none → gG (d + 1) mc ms M (pc + 3) ls (.int (nI 0) :: st) (LG h1 b1 r1 t1 g') Q) : gG (d + 1) mc ms M pc ls stk h Q :=
  r_callV (mc1 := 0) (ms1 := 0) dc hv hC hb hn hst hcat (fun v h' e => by
    obtain ⟨c, g', e1, e2, e3, e4⟩ | ⟨g', e1, e3, e4⟩ := e
    · cases e3; subst e4; exact k1 c g' e1 e2
    · cases e3; subst e4; exact k2 g' e1) (fun a h' e => by
    obtain ⟨c, g', e1, e2, e3, e4⟩ | ⟨g', e1, e3, e4⟩ := e
    · cases e3
    · cases e3)
theorem ifR_t {b : Bool} {x y : Row} (h : b = true) : (if b = true then x else y) = x := if_pos h
theorem ifR_f {b : Bool} {x y : Row} (h : b = false) : (if b = true then x else y) = y := if_neg (by rw [h]; decide)
/-! a land that becomes another one: what has been set so far -/
def inL (L : List (Nat × Nat)) (o k : Nat) : Bool := L.any (fun q => q.1 == o && (q.1 != 0 || q.2 == k))
def lhs (f : Nat → Row) (b : Nat) (r : Row) (t : Int32) (L : List (Nat × Nat)) : Nat → Row := fun a k => if b ≤ a ∧ inL L (a - b) k = true then (if a = b ∧ k = 7 then t else (match ix (a - b) k with
    | some i => cvt (a - b) (r i)
    | none => f a k)) else f a k
def LZ (h : Hp) (b : Nat) (r : Row) (t : Int32) (L : List (Nat × Nat)) : Hp := sI h (lhs (hI h) b r t L)
theorem LZ_0 {h : Hp} {b : Nat} {r : Row} {t : Int32} : LZ h b r t [] = h := by
  have e : lhs (hI h) b r t [] = hI h := by
    funext a k
    unfold lhs
    rw [if_neg (fun q => by cases q.2)]
  unfold LZ
  rw [e]
  rfl
theorem inL_c {L : List (Nat × Nat)} {q : Nat × Nat} {o k : Nat} : inL (q :: L) o k = ((q.1 == o && (q.1 != 0 || q.2 == k)) || inL L o k) := rfl
theorem lhs_far {f : Nat → Row} {b a : Nat} {r : Row} {t : Int32} {L : List (Nat × Nat)} (hL : L.all (fun q => decide (q.1 ≤ 8)) = true) (h : a < b ∨ b + 8 < a) : lhs f b r t L a = f a := by
  funext k
  unfold lhs
  refine if_neg fun q => ?_
  obtain ⟨x, hx, hx2⟩ := List.any_eq_true.mp q.2
  have h1 := of_decide_eq_true (List.all_eq_true.mp hL x hx)
  have h2 := (an_is hx2).1
  have h3 : x.1 = a - b := by simpa using h2
  omega
/-- a field set -/
theorem LZ_f {h : Hp} {b k i : Nat} {r : Row} {t : Int32} {L : List (Nat × Nat)} (q : ix 0 k = some i) (hk : k ≠ 7) : wI (LZ h b r t L) b k (r i) = LZ h b r t ((0, k) :: L) := by
  show sI h (u2 (lhs (hI h) b r t L) b k (r i)) = sI h (lhs (hI h) b r t ((0, k) :: L))
  congr 1
  funext a j
  by_cases c : a = b ∧ j = k
  · obtain ⟨rfl, rfl⟩ := c
    rw [u2_s]
    unfold lhs
    rw [inL_c, Nat.sub_self, if_pos ⟨Nat.le_refl _, by simp⟩, if_neg (fun z => hk z.2), q]
    rfl
  · rw [u2_n _ _ _ _ _ _ (by omega)]
    unfold lhs
    have e : b ≤ a → inL ((0, k) :: L) (a - b) j = inL L (a - b) j := by
      intro hle
      rw [inL_c]
      by_cases c1 : a = b
      · have : ¬ j = k := fun z => c ⟨c1, z⟩
        simp [Ne.symm this]
      · have : ¬ 0 = a - b := by omega
        simp [this]
    by_cases hle : b ≤ a
    · rw [e hle]
    · rw [if_neg (fun z => hle z.1), if_neg (fun z => hle z.1)]
theorem LZ_t {h : Hp} {b : Nat} {r : Row} {t : Int32} {L : List (Nat × Nat)} : wI (LZ h b r t L) b 7 t = LZ h b r t ((0, 7) :: L) := by
  show sI h (u2 (lhs (hI h) b r t L) b 7 t) = sI h (lhs (hI h) b r t ((0, 7) :: L))
  congr 1
  funext a j
  by_cases c : a = b ∧ j = 7
  · obtain ⟨rfl, rfl⟩ := c
    rw [u2_s]
    unfold lhs
    rw [inL_c, Nat.sub_self, if_pos ⟨Nat.le_refl _, by simp⟩, if_pos ⟨rfl, rfl⟩]
  · rw [u2_n _ _ _ _ _ _ (by omega)]
    unfold lhs
    have e : b ≤ a → inL ((0, 7) :: L) (a - b) j = inL L (a - b) j := by
      intro hle
      rw [inL_c]
      by_cases c1 : a = b
      · have : ¬ j = 7 := fun z => c ⟨c1, z⟩
        simp [Ne.symm this]
      · have : ¬ 0 = a - b := by omega
        simp [this]
    by_cases hle : b ≤ a
    · rw [e hle]
    · rw [if_neg (fun z => hle z.1), if_neg (fun z => hle z.1)]
/-- an array copied -/
theorem LZ_a {h : Hp} {b c o n : Nat} {r : Row} {t : Int32} {L : List (Nat × Nat)} (ho : o ≠ 0) (hc : c < b ∨ b + 8 < c) (hL : L.all (fun q => decide (q.1 ≤ 8)) = true) (hix : ∀ k, k < n → ∃ i, ix o k = some i ∧ hI h c k = cvt o (r i)) (hno : ∀ k, n ≤ k → ix o k = none) : cI (LZ h b r t L) c 0 (b + o) 0 n = LZ h b r t ((o, 0) :: L) := by
  show sI h (fun x k => if x = b + o ∧ 0 ≤ k ∧ k < 0 + n then lhs (hI h) b r t L c (0 + (k - 0)) else lhs (hI h) b r t L x k) = sI h (lhs (hI h) b r t ((o, 0) :: L))
  congr 1
  funext a j
  by_cases q : a = b + o
  · subst q
    have e1 : lhs (hI h) b r t ((o, 0) :: L) (b + o) j = (match ix o j with | some i => cvt o (r i) | none => hI h (b + o) j) := by
      unfold lhs
      rw [inL_c, if_pos ⟨by omega, by simp [show b + o - b = o by omega, ho]⟩, if_neg (by omega), show b + o - b = o by omega]
    rw [e1]
    by_cases hj : j < n
    · obtain ⟨i, hi, hv⟩ := hix j hj
      rw [if_pos ⟨rfl, by omega, by omega⟩, hi, lhs_far hL hc, show 0 + (j - 0) = j by omega, hv]
    · rw [if_neg (by omega), hno j (by omega)]
      unfold lhs
      by_cases z : b ≤ b + o ∧ inL L (b + o - b) j = true
      · rw [if_pos z, if_neg (by omega), show b + o - b = o by omega, hno j (by omega)]
      · rw [if_neg z]
  · rw [if_neg (fun z => q z.1)]
    unfold lhs
    by_cases hle : b ≤ a
    · have e : inL ((o, 0) :: L) (a - b) j = inL L (a - b) j := by
        rw [inL_c]
        have : ¬ o = a - b := by omega
        simp [this]
      rw [e]
    · rw [if_neg (fun z => hle z.1), if_neg (fun z => hle z.1)]
/-- all set -/
def LZl : List (Nat × Nat) := [(0, 13), (8, 0), (0, 11), (7, 0), (0, 9), (0, 7), (0, 6), (5, 0), (4, 0), (3, 0), (2, 0), (0, 0)]
theorem LZ_all {h : Hp} {b : Nat} {r : Row} {t : Int32} : LZ h b r t LZl = LH h b r t := by
  unfold LZ LH
  congr 1
  funext a k
  unfold lhs lhf
  by_cases q : a = b ∧ k = 7
  · obtain ⟨rfl, rfl⟩ := q
    rw [if_pos ⟨Nat.le_refl _, by rw [Nat.sub_self]; rfl⟩]
    simp only [and_self, if_true]
  · rw [if_neg q, if_neg q]
    by_cases q2 : b ≤ a
    · rw [if_pos q2]
      cases hx : ix (a - b) k with
      | none => by_cases z : b ≤ a ∧ inL LZl (a - b) k = true
                · rw [if_pos z]
                · rw [if_neg z]
      | some i =>
        have h1 := ix_is hx
        have h2 : inL LZl (a - b) k = true := by
          rcases h1 with h1 | h1 | h1 | h1 | h1 | h1 | h1 | h1 | h1 | h1 | h1
          · rw [h1.1, h1.2.1]; rfl
          · rw [h1.1, h1.2.1]; rfl
          · rw [h1.1, h1.2.1]; rfl
          · rw [h1.1, h1.2.1]; rfl
          · rw [h1.1, h1.2.1]; rfl
          · rw [h1.1]; rfl
          · rw [h1.1]; rfl
          · rw [h1.1]; rfl
          · rw [h1.1]; rfl
          · rw [h1.1]; rfl
          · rw [h1.1]; rfl
        rw [if_pos ⟨q2, h2⟩]
    · rw [if_neg (fun z => q2 z.1), if_neg q2]
