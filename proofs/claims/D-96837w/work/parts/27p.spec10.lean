/-! striking -/
theorem nI_div {a b : Nat} (ha : a < 2147483648) (hb : b < 2147483648) : nI a / nI b = nI (a / b) := by
  have hle := Nat.div_le_self a b
  apply Int32.toInt_inj.mp
  rw [Int32.toInt_div_of_ne_right _ _ (fun e => nI_pos hb (by rw [e]; decide)), nI_toInt ha, nI_toInt hb, nI_toInt (by omega), Int.tdiv_eq_ediv_of_nonneg (by omega)]
  rfl
theorem nI_sub {a b : Nat} (h : b ≤ a) : nI a - nI b = nI (a - b) := by
  have e : nI (a - b) + nI b = nI a := by rw [nI_add]; congr 1; omega
  rw [← e]
  exact Int32.add_sub_cancel _ _
theorem nI_rem {a b : Nat} (ha : a < 2147483648) (hb : b < 2147483648) : nI a - nI a / nI b * nI b = nI (a % b) := by
  rw [nI_div ha hb, pk_mul, nI_sub (Nat.div_mul_le_self a b)]
  congr 1
  have := Nat.div_add_mod' a b
  omega
/-- the first from c on that is P, k to look at -/
def fndF (P : Nat → Bool) : Nat → Nat → Option Nat
  | 0, _ => none
  | k + 1, c => if P c = true then some c else fndF P k (c + 1)
theorem fndF_t {P : Nat → Bool} {k c : Nat} (h : P c = true) : fndF P (k + 1) c = some c := if_pos h
theorem fndF_f {P : Nat → Bool} {k c : Nat} (h : P c = false) : fndF P (k + 1) c = fndF P k (c + 1) := if_neg (by rw [h]; decide)
theorem fndF_is {P : Nat → Bool} : ∀ {k c x : Nat}, fndF P k c = some x → P x = true ∧ c ≤ x ∧ x < c + k
  | 0, c, x, h => by cases h
  | k + 1, c, x, h => by
    by_cases q : P c = true
    · rw [fndF_t q] at h; cases h; exact ⟨q, by omega, by omega⟩
    · rw [fndF_f (by simpa using q)] at h
      have := fndF_is h
      exact ⟨this.1, by omega, by omega⟩
def oweB (r : Row) (a b : Nat) : Bool := !decide (a = b) && decide (0 < dv r a b)
theorem oweB_f1 {r : Row} {a b : Nat} (h : a = b) : oweB r a b = false := by unfold oweB; rw [decide_eq_true h]; rfl
theorem oweB_f2 {r : Row} {a b : Nat} (h : dv r a b ≤ 0) : oweB r a b = false := by unfold oweB; rw [decide_eq_false (Int32.not_lt.mpr h), Bool.and_false]
theorem oweB_t {r : Row} {a b : Nat} (h1 : ¬ a = b) (h : 0 < dv r a b) : oweB r a b = true := by unfold oweB; rw [decide_eq_false h1, decide_eq_true h]; rfl
theorem oweB_is {r : Row} {a b : Nat} (h : oweB r a b = true) : ¬ a = b ∧ 0 < dv r a b := by
  unfold oweB at h
  rw [Bool.and_eq_true] at h
  exact ⟨by simpa using h.1, of_decide_eq_true h.2⟩
def twP (r : Row) (n c : Nat) : Bool := decide (c / n < c % n) && (oweB r (c / n) (c % n) && oweB r (c % n) (c / n))
def thP (r : Row) (n c : Nat) : Bool := decide (c / (n * n) < c / n % n) && (decide (c / (n * n) < c % n) && (oweB r (c / (n * n)) (c / n % n) && (oweB r (c / n % n) (c % n) && oweB r (c % n) (c / (n * n)))))
theorem an_f1 {p q : Bool} (h : p = false) : (p && q) = false := by rw [h]; rfl
theorem an_f2 {p q : Bool} (h : q = false) : (p && q) = false := by rw [h]; exact Bool.and_false p
theorem an_t {p q : Bool} (h1 : p = true) (h2 : q = true) : (p && q) = true := by rw [h1, h2]; rfl
theorem an_is {p q : Bool} (h : (p && q) = true) : p = true ∧ q = true := by rw [Bool.and_eq_true] at h; exact h
theorem tw_bd {n c : Nat} (h : c < n * n) : 0 < n ∧ c / n < n ∧ c % n < n := by
  have h0 : 0 < n := by
    rcases Nat.eq_zero_or_pos n with e | e
    · subst e; exact absurd h (by omega)
    · exact e
  exact ⟨h0, Nat.div_lt_of_lt_mul h, Nat.mod_lt _ h0⟩
theorem th_bd {n c : Nat} (h : c < n * n * n) : 0 < n ∧ 0 < n * n ∧ c / (n * n) < n ∧ c / n % n < n ∧ c % n < n := by
  have h0 : 0 < n := by
    rcases Nat.eq_zero_or_pos n with e | e
    · subst e; exact absurd h (by omega)
    · exact e
  exact ⟨h0, Nat.mul_pos h0 h0, Nat.div_lt_of_lt_mul h, Nat.mod_lt _ h0, Nat.mod_lt _ h0⟩
theorem sq8 {n : Nat} (h : n ≤ 8) : n * n ≤ 64 := Nat.mul_le_mul h h
theorem cb8 {n : Nat} (h : n ≤ 8) : n * n * n ≤ 512 := Nat.mul_le_mul (sq8 h) h
/-- what a search of the reference answers -/
def FT (h : Hp) (r : Row) (n : Nat) (o : Row) (q : Option Nat) : gQ := fun out h' => ∃ o', Jo o o' ∧ h' = MH h r o' ∧ ((∃ c, q = some c ∧ c < n * n ∧ out = .inl (some (.int (nI 1))) ∧ o' 16 = nI (c / n) ∧ o' 17 = nI (c % n) ∧ o' 18 = -1) ∨ (q = none ∧ out = .inl (some (.int (nI 0)))))
theorem FT.t {h : Hp} {r : Row} {n : Nat} {o o1 : Row} {q : Option Nat} {out : gO} {h' : Hp} (j : Jo o o1) (k : FT h r n o1 q out h') : FT h r n o q out h' := by
  obtain ⟨o', j', e, k⟩ := k
  exact ⟨o', j.t j', e, k⟩
def FT3 (h : Hp) (r : Row) (n : Nat) (o : Row) (q : Option Nat) : gQ := fun out h' => ∃ o', Jo o o' ∧ h' = MH h r o' ∧ ((∃ c, q = some c ∧ c < n * n * n ∧ out = .inl (some (.int (nI 1))) ∧ o' 16 = nI (c / (n * n)) ∧ o' 17 = nI (c / n % n) ∧ o' 18 = nI (c % n)) ∨ (q = none ∧ out = .inl (some (.int (nI 0)))))
theorem FT3.t {h : Hp} {r : Row} {n : Nat} {o o1 : Row} {q : Option Nat} {out : gO} {h' : Hp} (j : Jo o o1) (k : FT3 h r n o1 q out h') : FT3 h r n o q out h' := by
  obtain ⟨o', j', e, k⟩ := k
  exact ⟨o', j.t j', e, k⟩
theorem r_callFT {d mc ms : Nat} {M M1 : gM} {pc : Nat} {ls : gLs} {st stk : List Value} {h h1 : Hp} {r1 o1 : Row} {x : Nat} {q : Option Nat} {Q : gQ} {b : Nat} {As : List Value} {C : String} {n index : Nat} (dc : decode (mC M) pc = .ok (.invokevirtual index, 3)) (hv : gV (mOwn M) index C M1 n) (hC : gC d 0 0 M1 (.ref b :: As) h (FT h1 r1 x o1 q)) (hb : gRecv h b C) (hn : As.length = n) (hst : stk = As.reverse ++ .ref b :: st) (hcat : (st.map fun v => v.category).sum ≤ 8)
    (k1 : ∀ o' c, Jo o1 o' → q = some c → c < x * x → o' 16 = nI (c / x) → o' 17 = nI (c % x) → o' 18 = -1 → gG (d + 1) mc ms M (pc + 3) ls (.int (nI 1) :: st) (MH h1 r1 o') Q)
    (k2 : ∀ o', Jo o1 o' → q = none → gG (d + 1) mc ms M (pc + 3) ls (.int (nI 0) :: st) (MH h1 r1 o') Q) : gG (d + 1) mc ms M pc ls stk h Q :=
  r_callV (mc1 := 0) (ms1 := 0) dc hv hC hb hn hst hcat (fun v h' e => by
    obtain ⟨o', j, e2, ⟨c, e3, e4, e5, e6, e7, e8⟩ | ⟨e3, e4⟩⟩ := e
    · cases e5; subst e2; exact k1 o' c j e3 e4 e6 e7 e8
    · cases e4; subst e2; exact k2 o' j e3) (fun a h' e => by
    obtain ⟨o', j, e2, ⟨c, e3, e4, e5, e6, e7, e8⟩ | ⟨e3, e4⟩⟩ := e
    · cases e5
    · cases e4)
theorem r_callFT3 {d mc ms : Nat} {M M1 : gM} {pc : Nat} {ls : gLs} {st stk : List Value} {h h1 : Hp} {r1 o1 : Row} {x : Nat} {q : Option Nat} {Q : gQ} {b : Nat} {As : List Value} {C : String} {n index : Nat} (dc : decode (mC M) pc = .ok (.invokevirtual index, 3)) (hv : gV (mOwn M) index C M1 n) (hC : gC d 0 0 M1 (.ref b :: As) h (FT3 h1 r1 x o1 q)) (hb : gRecv h b C) (hn : As.length = n) (hst : stk = As.reverse ++ .ref b :: st) (hcat : (st.map fun v => v.category).sum ≤ 8)
    (k1 : ∀ o' c, Jo o1 o' → q = some c → c < x * x * x → o' 16 = nI (c / (x * x)) → o' 17 = nI (c / x % x) → o' 18 = nI (c % x) → gG (d + 1) mc ms M (pc + 3) ls (.int (nI 1) :: st) (MH h1 r1 o') Q)
    (k2 : ∀ o', Jo o1 o' → q = none → gG (d + 1) mc ms M (pc + 3) ls (.int (nI 0) :: st) (MH h1 r1 o') Q) : gG (d + 1) mc ms M pc ls stk h Q :=
  r_callV (mc1 := 0) (ms1 := 0) dc hv hC hb hn hst hcat (fun v h' e => by
    obtain ⟨o', j, e2, ⟨c, e3, e4, e5, e6, e7, e8⟩ | ⟨e3, e4⟩⟩ := e
    · cases e5; subst e2; exact k1 o' c j e3 e4 e6 e7 e8
    · cases e4; subst e2; exact k2 o' j e3) (fun a h' e => by
    obtain ⟨o', j, e2, ⟨c, e3, e4, e5, e6, e7, e8⟩ | ⟨e3, e4⟩⟩ := e
    · cases e5
    · cases e4)
def lessR (r : Row) (a b : Nat) (v : Int32) : Row := ru r (47 + 8 * a + b) (dv r a b - v)
def minI (x y : Int32) : Int32 := if x < y then x else y
theorem minI_t {x y : Int32} (h : x < y) : minI x y = x := if_pos h
theorem minI_f {x y : Int32} (h : ¬ x < y) : minI x y = y := if_neg h
def stk2 (r : Row) (a b : Nat) : Row := lessR (lessR r a b (minI (dv r a b) (dv r b a))) b a (minI (dv r a b) (dv r b a))
def lst3 (r : Row) (a b c : Nat) : Int32 := minI (dv r c a) (minI (dv r a b) (dv r b c))
def stk3 (r : Row) (a b c : Nat) : Row := lessR (lessR (lessR r c a (lst3 r a b c)) a b (lst3 r a b c)) b c (lst3 r a b c)
def RowD (r : Row) : Prop := ∀ k, k < 64 → ∃ j, r (47 + k) = nI j ∧ j ≤ 99
def msF (r : Row) : Nat → Nat
  | 0 => 0
  | k + 1 => msF r k + toN (r (47 + k))
theorem msF_lt {r : Row} {k0 : Nat} {v : Int32} : ∀ n, n ≤ k0 → msF (ru r (47 + k0) v) n = msF r n
  | 0, _ => rfl
  | n + 1, h => by
    show msF (ru r (47 + k0) v) n + toN (ru r (47 + k0) v (47 + n)) = msF r n + toN (r (47 + n))
    rw [msF_lt n (by omega), ru_n (by omega)]
theorem msF_ru {r : Row} {k0 : Nat} {v : Int32} : ∀ n, k0 < n → msF (ru r (47 + k0) v) n + toN (r (47 + k0)) = msF r n + toN v
  | 0, h => absurd h (by omega)
  | n + 1, h => by
    show msF (ru r (47 + k0) v) n + toN (ru r (47 + k0) v (47 + n)) + _ = msF r n + toN (r (47 + n)) + _
    by_cases e : n = k0
    · subst e
      rw [ru_s, msF_lt n (Nat.le_refl _)]
      omega
    · have ih := msF_ru (r := r) (k0 := k0) (v := v) n (by omega)
      rw [ru_n (show 47 + n ≠ 47 + k0 by omega)]
      omega
theorem msF_le {r : Row} (D : RowD r) : ∀ n, n ≤ 64 → msF r n ≤ 99 * n
  | 0, _ => Nat.le_refl _
  | n + 1, h => by
    have ih := msF_le D n (by omega)
    obtain ⟨j, e, hj⟩ := D n (by omega)
    show msF r n + toN (r (47 + n)) ≤ _
    rw [e, toN_nI (by omega)]
    omega
/-- what one debt lessened makes of a row -/
theorem less1 {r : Row} (D : RowD r) {a b i j : Nat} (ha : a < 8) (hb : b < 8) (hi : dv r a b = nI i) (hj : j ≤ i) (hi9 : i ≤ 99) :
    RowD (lessR r a b (nI j)) ∧ msF (lessR r a b (nI j)) 64 + j = msF r 64 ∧ (∀ k, k < 47 ∨ 111 ≤ k → lessR r a b (nI j) k = r k) ∧ dv (lessR r a b (nI j)) a b = nI (i - j) ∧ (∀ a' b', a' < 8 → b' < 8 → (a' ≠ a ∨ b' ≠ b) → dv (lessR r a b (nI j)) a' b' = dv r a' b') := by
  have e : lessR r a b (nI j) = ru r (47 + (8 * a + b)) (nI (i - j)) := by
    unfold lessR
    rw [hi, nI_sub hj]
    have : 47 + 8 * a + b = 47 + (8 * a + b) := by omega
    rw [this]
  rw [e]
  have hr : r (47 + (8 * a + b)) = nI i := by
    have : 47 + (8 * a + b) = 47 + 8 * a + b := by omega
    rw [this]; exact hi
  refine ⟨fun k hk => ?_, ?_, fun k hk => ru_n (by omega), ?_, fun a' b' h1 h2 h3 => ?_⟩
  · by_cases q : k = 8 * a + b
    · subst q; exact ⟨i - j, ru_s _ _ _, by omega⟩
    · rw [ru_n (by omega)]; exact D k hk
  · have h9 := msF_ru (r := r) (v := nI (i - j)) 64 (show 8 * a + b < 64 by omega)
    rw [hr, toN_nI (by omega), toN_nI (by omega)] at h9
    omega
  · show ru r _ _ (47 + 8 * a + b) = _
    have : 47 + 8 * a + b = 47 + (8 * a + b) := by omega
    rw [this]; exact ru_s _ _ _
  · show ru r _ _ (47 + 8 * a' + b') = r (47 + 8 * a' + b')
    exact ru_n (by omega)
theorem pos_nI {r : Row} (D : RowD r) {a b : Nat} (ha : a < 8) (hb : b < 8) : ∃ i, dv r a b = nI i ∧ i ≤ 99 := by
  obtain ⟨j, e, h⟩ := D (8 * a + b) (by omega)
  refine ⟨j, ?_, h⟩
  show r (47 + 8 * a + b) = _
  have : 47 + 8 * a + b = 47 + (8 * a + b) := by omega
  rw [this]; exact e
theorem minI_n {x y : Nat} (hx : x < 2147483648) (hy : y < 2147483648) : minI (nI x) (nI y) = nI (min x y) := by
  unfold minI
  by_cases h : x < y
  · rw [if_pos ((nI_ltI hx hy).mpr h), Nat.min_eq_left (by omega)]
  · rw [if_neg (fun q => h ((nI_ltI hx hy).mp q)), Nat.min_eq_right (by omega)]
theorem nI_p {i : Nat} (h : i < 2147483648) (c : 0 < nI i) : 0 < i := n_gt0 h c
theorem stk2_ok {r : Row} (D : RowD r) {a b : Nat} (ha : a < 8) (hb : b < 8) (h1 : oweB r a b = true) (h2 : oweB r b a = true) : RowD (stk2 r a b) ∧ msF (stk2 r a b) 64 < msF r 64 ∧ ∀ k, k < 47 ∨ 111 ≤ k → stk2 r a b k = r k := by
  obtain ⟨i, hi, hi9⟩ := pos_nI D ha hb
  obtain ⟨j, hj, hj9⟩ := pos_nI D hb ha
  obtain ⟨ne, p1⟩ := oweB_is h1
  obtain ⟨-, p2⟩ := oweB_is h2
  rw [hi] at p1
  rw [hj] at p2
  have q1 := nI_p (by omega) p1
  have q2 := nI_p (by omega) p2
  unfold stk2
  rw [hi, hj, minI_n (by omega) (by omega)]
  obtain ⟨D1, m1, f1, -, g1⟩ := less1 D ha hb hi (show min i j ≤ i by omega) hi9
  have hj2 : dv (lessR r a b (nI (min i j))) b a = nI j := (g1 b a hb ha (Or.inl (by omega))).trans hj
  obtain ⟨D2, m2, f2, -, -⟩ := less1 D1 hb ha hj2 (show min i j ≤ j by omega) hj9
  exact ⟨D2, by omega, fun k hk => (f2 k hk).trans (f1 k hk)⟩
theorem stk3_ok {r : Row} (D : RowD r) {a b c : Nat} (ha : a < 8) (hb : b < 8) (hc : c < 8) (h1 : oweB r a b = true) (h2 : oweB r b c = true) (h3 : oweB r c a = true) : RowD (stk3 r a b c) ∧ msF (stk3 r a b c) 64 < msF r 64 ∧ ∀ k, k < 47 ∨ 111 ≤ k → stk3 r a b c k = r k := by
  obtain ⟨i, hi, hi9⟩ := pos_nI D ha hb
  obtain ⟨j, hj, hj9⟩ := pos_nI D hb hc
  obtain ⟨l, hl, hl9⟩ := pos_nI D hc ha
  obtain ⟨n1, p1⟩ := oweB_is h1
  obtain ⟨n2, p2⟩ := oweB_is h2
  obtain ⟨n3, p3⟩ := oweB_is h3
  rw [hi] at p1
  rw [hj] at p2
  rw [hl] at p3
  have q1 := nI_p (by omega) p1
  have q2 := nI_p (by omega) p2
  have q3 := nI_p (by omega) p3
  unfold stk3 lst3
  rw [hi, hj, hl, minI_n (by omega) (by omega), minI_n (by omega) (by omega)]
  obtain ⟨D1, m1, f1, -, g1⟩ := less1 D hc ha hl (show min l (min i j) ≤ l by omega) hl9
  obtain ⟨D2, m2, f2, -, g2⟩ := less1 D1 ha hb ((g1 a b ha hb (by omega)).trans hi) (show min l (min i j) ≤ i by omega) hi9
  obtain ⟨D3, m3, f3, -, -⟩ := less1 D2 hb hc ((g2 b c hb hc (by omega)).trans ((g1 b c hb hc (by omega)).trans hj)) (show min l (min i j) ≤ j by omega) hj9
  exact ⟨D3, by omega, fun k hk => (f3 k hk).trans ((f2 k hk).trans (f1 k hk))⟩
def stF (n : Nat) : Nat → Row → Nat → Row × Nat
  | 0, r, m => (r, m)
  | k + 1, r, m => match fndF (twP r n) (n * n) 0 with
    | some c => stF n k (stk2 r (c / n) (c % n)) (m + 1)
    | none => match fndF (thP r n) (n * n * n) 0 with
      | some c => stF n k (stk3 r (c / (n * n)) (c / n % n) (c % n)) (m + 1)
      | none => (r, m)
theorem stF_2 {n k m c : Nat} {r : Row} (h : fndF (twP r n) (n * n) 0 = some c) : stF n (k + 1) r m = stF n k (stk2 r (c / n) (c % n)) (m + 1) := by
  show (match fndF (twP r n) (n * n) 0 with | some c => _ | none => _) = _
  rw [h]
theorem stF_3 {n k m c : Nat} {r : Row} (h : fndF (twP r n) (n * n) 0 = none) (h2 : fndF (thP r n) (n * n * n) 0 = some c) : stF n (k + 1) r m = stF n k (stk3 r (c / (n * n)) (c / n % n) (c % n)) (m + 1) := by
  show (match fndF (twP r n) (n * n) 0 with | some c => _ | none => _) = _
  rw [h]
  show (match fndF (thP r n) (n * n * n) 0 with | some c => _ | none => _) = _
  rw [h2]
theorem stF_n {n k m : Nat} {r : Row} (h : fndF (twP r n) (n * n) 0 = none) (h2 : fndF (thP r n) (n * n * n) 0 = none) : stF n (k + 1) r m = (r, m) := by
  show (match fndF (twP r n) (n * n) 0 with | some c => _ | none => _) = _
  rw [h]
  show (match fndF (thP r n) (n * n * n) 0 with | some c => _ | none => _) = _
  rw [h2]
theorem tw_is {r : Row} {n c : Nat} (h : twP r n c = true) : oweB r (c / n) (c % n) = true ∧ oweB r (c % n) (c / n) = true := (an_is (an_is h).2)
theorem th_is {r : Row} {n c : Nat} (h : thP r n c = true) : oweB r (c / (n * n)) (c / n % n) = true ∧ oweB r (c / n % n) (c % n) = true ∧ oweB r (c % n) (c / (n * n)) = true := by
  have h1 := an_is (an_is (an_is h).2).2
  exact ⟨h1.1, an_is h1.2⟩
theorem tw_ok {r : Row} {n c : Nat} (D : RowD r) (hn : n ≤ 8) (h : fndF (twP r n) (n * n) 0 = some c) : RowD (stk2 r (c / n) (c % n)) ∧ msF (stk2 r (c / n) (c % n)) 64 < msF r 64 ∧ ∀ k, k < 47 ∨ 111 ≤ k → stk2 r (c / n) (c % n) k = r k := by
  have h1 := fndF_is h
  have h2 := tw_bd (n := n) (c := c) (by omega)
  have h3 := tw_is h1.1
  exact stk2_ok D (by omega) (by omega) h3.1 h3.2
theorem th_ok {r : Row} {n c : Nat} (D : RowD r) (hn : n ≤ 8) (h : fndF (thP r n) (n * n * n) 0 = some c) : RowD (stk3 r (c / (n * n)) (c / n % n) (c % n)) ∧ msF (stk3 r (c / (n * n)) (c / n % n) (c % n)) 64 < msF r 64 ∧ ∀ k, k < 47 ∨ 111 ≤ k → stk3 r (c / (n * n)) (c / n % n) (c % n) k = r k := by
  have h1 := fndF_is h
  have h2 := th_bd (n := n) (c := c) (by omega)
  have h3 := th_is h1.1
  exact stk3_ok D (by omega) (by omega) (by omega) h3.1 h3.2.1 h3.2.2
theorem stF_ok {n : Nat} (hn : n ≤ 8) : ∀ (k : Nat) (r : Row) (m : Nat), RowD r → RowD (stF n k r m).1 ∧ ∀ j, j < 47 ∨ 111 ≤ j → (stF n k r m).1 j = r j
  | 0, r, m, D => ⟨D, fun _ _ => rfl⟩
  | k + 1, r, m, D => by
    cases h : fndF (twP r n) (n * n) 0 with
    | some c =>
      obtain ⟨D1, -, f1⟩ := tw_ok D hn h
      obtain ⟨D2, f2⟩ := stF_ok hn k _ (m + 1) D1
      rw [stF_2 h]
      exact ⟨D2, fun j hj => (f2 j hj).trans (f1 j hj)⟩
    | none =>
      cases h2 : fndF (thP r n) (n * n * n) 0 with
      | some c =>
        obtain ⟨D1, -, f1⟩ := th_ok D hn h2
        obtain ⟨D2, f2⟩ := stF_ok hn k _ (m + 1) D1
        rw [stF_3 h h2]
        exact ⟨D2, fun j hj => (f2 j hj).trans (f1 j hj)⟩
      | none =>
        rw [stF_n h h2]
        exact ⟨D, fun _ _ => rfl⟩
def STK : Nat := 6400
def stR (r : Row) : Row × Nat := stF (np r) STK r 0
def aStrike (S : MSt) : Int32 × MSt := (nI (stR S.r).2, S.s_r (stR S.r).1)
def aStruck (S : MSt) (q : Int32) : Int32 × MSt :=
  if inB q (nI 0) (nI 1) = true then (if toN q = 0 then nI (stR S.r).2 else sumD (stR S.r).1 64, S) else errA S (-1000000001) 1
