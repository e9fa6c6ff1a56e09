/-! the component's things: what stays as it is (people, terms), what a land holds -/
/-- what was made stays: things at 78 and on, but readers -/
def ExtH (h h' : Hp) : Prop := hN h ≤ hN h' ∧ ∀ a c, 78 ≤ a → a < hN h → hS h a = .inl c → c ≠ 16 → hS h' a = .inl c ∧ hI h' a = hI h a ∧ hR h' a = hR h a
theorem ExtH.r {h : Hp} : ExtH h h := ⟨Nat.le_refl _, fun _ _ _ _ h1 _ => ⟨h1, rfl, rfl⟩⟩
theorem ExtH.t {a b c : Hp} (h1 : ExtH a b) (h2 : ExtH b c) : ExtH a c := ⟨Nat.le_trans h1.1 h2.1, fun x k q1 q2 q3 q4 => by
  obtain ⟨e1, e2, e3⟩ := h1.2 x k q1 q2 q3 q4
  obtain ⟨f1, f2, f3⟩ := h2.2 x k q1 (Nat.lt_of_lt_of_le q2 h1.1) e1 q4
  exact ⟨f1, f2.trans e2, f3.trans e3⟩⟩
/-- ints below 78 written -/
theorem ExtH.s {h : Hp} {f : Nat → Nat → Int32} (hf : ∀ a, 78 ≤ a → f a = hI h a) : ExtH h (sI h f) := ⟨Nat.le_refl _, fun a _ h1 _ h3 _ => ⟨h3, hf a h1, rfl⟩⟩
def twoV (c : Nat) (x y : Int32) : Int32 := if c = 43 then x + y else if c = 45 then x - y else if c = 42 then x * y else if c = 47 then (if y = 0 then 0 else x / y) else if c = 37 then (if y = 0 then 0 else irem x y) else if c = 60 then b2 (decide (x < y)) else if c = 61 then b2 (decide (x = y)) else if c = 62 then b2 (decide (y < x)) else if c = 38 then b2 (decide (¬ x = 0) && decide (¬ y = 0)) else b2 (decide (¬ x = 0) || decide (¬ y = 0))
def sgn (c : Nat) : Prop := c = 43 ∨ c = 45 ∨ c = 42 ∨ c = 47 ∨ c = 37 ∨ c = 60 ∨ c = 61 ∨ c = 62 ∨ c = 38 ∨ c = 124
/-- the thing at a is a term, no deeper than n, of the value v of facts -/
def TV : Nat → Hp → Nat → (Row → Int32) → Prop
  | 0, _, _, _ => False
  | n + 1, h, a, v => 78 ≤ a ∧ a < hN h ∧ ((hS h a = .inl 20 ∧ v = fun _ => hI h a 0) ∨
     (hS h a = .inl 17 ∧ ∃ c, c < 128 ∧ hI h a 0 = nI c ∧ v = fun f => f c) ∨
     (hS h a = .inl 19 ∧ ∃ a1 v1, hR h a 0 = some a1 ∧ TV n h a1 v1 ∧ v = fun f => if v1 f = 0 then 1 else 0) ∨
     (hS h a = .inl 15 ∧ ∃ c a1 v1 a2 v2, hI h a 0 = nI c ∧ sgn c ∧ hR h a 1 = some a1 ∧ hR h a 2 = some a2 ∧ TV n h a1 v1 ∧ TV n h a2 v2 ∧ v = fun f => twoV c (v1 f) (v2 f)))
theorem TV.ge {n a : Nat} {h : Hp} {v : Row → Int32} (t : TV n h a v) : 78 ≤ a ∧ a < hN h := by
  cases n with
  | zero => cases t
  | succ n => exact ⟨t.1, t.2.1⟩
theorem TV.cls {n a : Nat} {h : Hp} {v : Row → Int32} (t : TV n h a v) : hS h a = .inl 20 ∨ hS h a = .inl 17 ∨ hS h a = .inl 19 ∨ hS h a = .inl 15 := by
  cases n with
  | zero => cases t
  | succ n =>
    obtain ⟨-, -, h1 | h1 | h1 | h1⟩ := t
    · exact Or.inl h1.1
    · exact Or.inr (Or.inl h1.1)
    · exact Or.inr (Or.inr (Or.inl h1.1))
    · exact Or.inr (Or.inr (Or.inr h1.1))
theorem TV.ext {h h' : Hp} (x : ExtH h h') : ∀ {n a : Nat} {v : Row → Int32}, TV n h a v → TV n h' a v
  | 0, _, _, t => t
  | n + 1, a, v, t => by
    obtain ⟨h1, h2, k⟩ := t
    refine ⟨h1, Nat.lt_of_lt_of_le h2 x.1, ?_⟩
    rcases k with ⟨k1, k2⟩ | ⟨k1, c, k2, k3, k4⟩ | ⟨k1, a1, v1, k2, k3, k4⟩ | ⟨k1, c, a1, v1, a2, v2, k2, k3, k4, k5, k6, k7, k8⟩
    · obtain ⟨e1, e2, e3⟩ := x.2 a _ h1 h2 k1 (by decide)
      exact Or.inl ⟨e1, by rw [e2]; exact k2⟩
    · obtain ⟨e1, e2, e3⟩ := x.2 a _ h1 h2 k1 (by decide)
      exact Or.inr (Or.inl ⟨e1, c, k2, by rw [e2]; exact k3, k4⟩)
    · obtain ⟨e1, e2, e3⟩ := x.2 a _ h1 h2 k1 (by decide)
      exact Or.inr (Or.inr (Or.inl ⟨e1, a1, v1, by rw [e3]; exact k2, TV.ext x k3, k4⟩))
    · obtain ⟨e1, e2, e3⟩ := x.2 a _ h1 h2 k1 (by decide)
      exact Or.inr (Or.inr (Or.inr ⟨e1, c, a1, v1, a2, v2, by rw [e2]; exact k2, k3, by rw [e3]; exact k4, by rw [e3]; exact k5, TV.ext x k6, TV.ext x k7, k8⟩))
theorem TV.up {h : Hp} : ∀ {n a : Nat} {v : Row → Int32}, TV n h a v → TV (n + 1) h a v
  | 0, _, _, t => by cases t
  | n + 1, a, v, t => by
    obtain ⟨h1, h2, k⟩ := t
    refine ⟨h1, h2, ?_⟩
    rcases k with k | k | ⟨k1, a1, v1, k2, k3, k4⟩ | ⟨k1, c, a1, v1, a2, v2, k2, k3, k4, k5, k6, k7, k8⟩
    · exact Or.inl k
    · exact Or.inr (Or.inl k)
    · exact Or.inr (Or.inr (Or.inl ⟨k1, a1, v1, k2, TV.up k3, k4⟩))
    · exact Or.inr (Or.inr (Or.inr ⟨k1, c, a1, v1, a2, v2, k2, k3, k4, k5, TV.up k6, TV.up k7, k8⟩))
theorem TV.le {h : Hp} {a : Nat} {v : Row → Int32} {n : Nat} (t : TV n h a v) : ∀ k, TV (n + k) h a v
  | 0 => t
  | k + 1 => TV.up (TV.le t k)
/-- the thing at a is person p of kind k and number m -/
def PAt (h : Hp) (a p k : Nat) (m : Int32) : Prop := 78 ≤ a ∧ a < hN h ∧ hS h a = .inl (7 + k) ∧ k < 7 ∧ hR h a 0 = some 56 ∧ hI h a 1 = nI p ∧ hI h a 2 = m
theorem PAt.ext {h h' : Hp} (x : ExtH h h') {a p k : Nat} {m : Int32} (t : PAt h a p k m) : PAt h' a p k m := by
  obtain ⟨h1, h2, h3, h4, h5, h6, h7⟩ := t
  obtain ⟨e1, e2, e3⟩ := x.2 a _ h1 h2 h3 (by omega)
  exact ⟨h1, Nat.lt_of_lt_of_le h2 x.1, e1, h4, by rw [e3]; exact h5, by rw [e2]; exact h6, by rw [e2]; exact h7⟩
def nmA (u : Nat) : Nat := if u = 0 then 116 else 119
def nmB (u : Nat) : Nat := if u = 0 then 100 else 111
def nmC (u : Nat) : Nat := if u = 0 then 119 else 109
/-- a land's people and texts are those of the row -/
def LWp (h : Hp) (b : Nat) (r : Row) : Prop := ∀ p, p < 8 → (hR h (b + 1) p = none ∧ np r ≤ p) ∨ ∃ a k, hR h (b + 1) p = some a ∧ pv r p 0 = nI k ∧ PAt h a p k (pv r p 1)
def LWt (h : Hp) (b : Nat) (r : Row) : Prop := ∀ u, u < 2 → (r (5 + u) = -1 ∧ hR h (b + 6) u = none) ∨ ∃ e a v, r (5 + u) = nI e ∧ e ≤ 50 ∧ hR h (b + 6) u = some a ∧ TV 400 h a v ∧ ∀ f : Row, v f = (walkP r u e (f (nmA u)) (f (nmB u)) (f (nmC u))).1
def LW (h : Hp) (b : Nat) (r : Row) : Prop := LWp h b r ∧ LWt h b r
theorem LW.ext {h h' : Hp} {b : Nat} {r : Row} (x : ExtH h h') (e1 : hR h' (b + 1) = hR h (b + 1)) (e2 : hR h' (b + 6) = hR h (b + 6)) (w : LW h b r) : LW h' b r := by
  refine ⟨fun p hp => ?_, fun u hu => ?_⟩
  · rw [e1]
    rcases w.1 p hp with k | ⟨a, k, k1, k2, k3⟩
    · exact Or.inl k
    · exact Or.inr ⟨a, k, k1, k2, k3.ext x⟩
  · rw [e2]
    rcases w.2 u hu with k | ⟨e, a, v, k1, k2, k3, k4, k5⟩
    · exact Or.inl k
    · exact Or.inr ⟨e, a, v, k1, k2, k3, k4.ext x, k5⟩
theorem byV_RT {r r' : Row} (h : RT r r') (u e : Nat) : byV r' u e = byV r u e := by
  funext k
  unfold byV
  rw [h (181 + 50 * u + k) (Or.inr (Or.inl (by omega)))]
theorem LW.rt {h : Hp} {b : Nat} {r r' : Row} (x : RT r r') (w : LW h b r) : LW h b r' := by
  refine ⟨fun p hp => ?_, fun u hu => ?_⟩
  · rw [x.pv hp (by decide), x.pv hp (by decide), x.npe]
    exact w.1 p hp
  · rw [x (5 + u) (Or.inl (by omega))]
    rcases w.2 u hu with k | ⟨e, a, v, k1, k2, k3, k4, k5⟩
    · exact Or.inl k
    · refine Or.inr ⟨e, a, v, k1, k2, k3, k4, fun f => ?_⟩
      unfold walkP
      rw [byV_RT x]
      exact k5 f
theorem LW.one {h : Hp} {b : Nat} {r : Row} (w : LW h b r) {p : Nat} (hp : p < np r) (h8 : np r ≤ 8) : ∃ a k, hR h (b + 1) p = some a ∧ pv r p 0 = nI k ∧ PAt h a p k (pv r p 1) := by
  rcases w.1 p (by omega) with k | k
  · exact absurd k.2 (by omega)
  · exact k
/-- which of a row's places lies at place k of the array at o of a land -/
def ix (o k : Nat) : Option Nat := if o = 0 ∧ k = 0 then some 2 else if o = 0 ∧ k = 6 then some 0 else if o = 0 ∧ k = 9 then some 1 else if o = 0 ∧ k = 11 then some 3 else if o = 0 ∧ k = 13 then some 4 else if o = 2 ∧ k < 8 then some (7 + 5 * k + 2) else if o = 3 ∧ k < 8 then some (7 + 5 * k + 3) else if o = 4 ∧ k < 8 then some (7 + 5 * k + 4) else if o = 5 ∧ k < 64 then some (47 + k) else if o = 7 ∧ k < 50 then some (111 + k) else if o = 8 ∧ k < 20 then some (161 + k) else none
theorem ix_is {o k i : Nat} (h : ix o k = some i) : (o = 0 ∧ k = 0 ∧ i = 2) ∨ (o = 0 ∧ k = 6 ∧ i = 0) ∨ (o = 0 ∧ k = 9 ∧ i = 1) ∨ (o = 0 ∧ k = 11 ∧ i = 3) ∨ (o = 0 ∧ k = 13 ∧ i = 4) ∨ (o = 2 ∧ k < 8 ∧ i = 7 + 5 * k + 2) ∨ (o = 3 ∧ k < 8 ∧ i = 7 + 5 * k + 3) ∨ (o = 4 ∧ k < 8 ∧ i = 7 + 5 * k + 4) ∨ (o = 5 ∧ k < 64 ∧ i = 47 + k) ∨ (o = 7 ∧ k < 50 ∧ i = 111 + k) ∨ (o = 8 ∧ k < 20 ∧ i = 161 + k) := by
  unfold ix at h
  split at h
  · cases h; omega
  split at h
  · cases h; omega
  split at h
  · cases h; omega
  split at h
  · cases h; omega
  split at h
  · cases h; omega
  split at h
  · cases h; omega
  split at h
  · cases h; omega
  split at h
  · cases h; omega
  split at h
  · cases h; omega
  split at h
  · cases h; omega
  split at h
  · cases h; omega
  · cases h
theorem ix_inj {o k o' k' i : Nat} (h : ix o k = some i) (h' : ix o' k' = some i) : o = o' ∧ k = k' := by
  have h1 := ix_is h
  have h2 := ix_is h'
  rcases h1 with h1 | h1 | h1 | h1 | h1 | h1 | h1 | h1 | h1 | h1 | h1 <;> omega
theorem ix_2 {k : Nat} (h : k < 8) : ix 2 k = some (7 + 5 * k + 2) := by unfold ix; rw [if_neg (by omega), if_neg (by omega), if_neg (by omega), if_neg (by omega), if_neg (by omega), if_pos ⟨rfl, h⟩]
theorem ix_3 {k : Nat} (h : k < 8) : ix 3 k = some (7 + 5 * k + 3) := by unfold ix; rw [if_neg (by omega), if_neg (by omega), if_neg (by omega), if_neg (by omega), if_neg (by omega), if_neg (by omega), if_pos ⟨rfl, h⟩]
theorem ix_4 {k : Nat} (h : k < 8) : ix 4 k = some (7 + 5 * k + 4) := by unfold ix; rw [if_neg (by omega), if_neg (by omega), if_neg (by omega), if_neg (by omega), if_neg (by omega), if_neg (by omega), if_neg (by omega), if_pos ⟨rfl, h⟩]
theorem ix_5 {k : Nat} (h : k < 64) : ix 5 k = some (47 + k) := by unfold ix; rw [if_neg (by omega), if_neg (by omega), if_neg (by omega), if_neg (by omega), if_neg (by omega), if_neg (by omega), if_neg (by omega), if_neg (by omega), if_pos ⟨rfl, h⟩]
theorem ix_7 {k : Nat} (h : k < 50) : ix 7 k = some (111 + k) := by unfold ix; rw [if_neg (by omega), if_neg (by omega), if_neg (by omega), if_neg (by omega), if_neg (by omega), if_neg (by omega), if_neg (by omega), if_neg (by omega), if_neg (by omega), if_pos ⟨rfl, h⟩]
theorem ix_8 {k : Nat} (h : k < 20) : ix 8 k = some (161 + k) := by unfold ix; rw [if_neg (by omega), if_neg (by omega), if_neg (by omega), if_neg (by omega), if_neg (by omega), if_neg (by omega), if_neg (by omega), if_neg (by omega), if_neg (by omega), if_neg (by omega), if_pos ⟨rfl, h⟩]
theorem ix_no {o k : Nat} (h : 8 < o) : ix o k = none := by
  cases hx : ix o k with
  | none => rfl
  | some i => have := ix_is hx; omega
def cvt (o : Nat) (v : Int32) : Int32 := if o = 7 then v.toInt8.toInt32 else v
/-- the ints of a land at b that holds the row r; who does not lend: t -/
def lhf (f : Nat → Row) (b : Nat) (r : Row) (t : Int32) : Nat → Row := fun a k => if a = b ∧ k = 7 then t else if b ≤ a then (match ix (a - b) k with
    | some i => cvt (a - b) (r i)
    | none => f a k) else f a k
theorem lhf_r {f : Nat → Row} {b o k i : Nat} {r : Row} {t : Int32} (h : ix o k = some i) : lhf f b r t (b + o) k = cvt o (r i) := by
  unfold lhf
  rw [if_neg (fun q => by have := ix_is h; omega), if_pos (by omega), show b + o - b = o by omega, h]
theorem lhf_t {f : Nat → Row} {b : Nat} {r : Row} {t : Int32} : lhf f b r t b 7 = t := if_pos ⟨rfl, rfl⟩
theorem lhf_o {f : Nat → Row} {b a : Nat} {r : Row} {t : Int32} (h : a < b ∨ b + 8 < a) : lhf f b r t a = f a := by
  funext k
  unfold lhf
  rw [if_neg (by omega)]
  by_cases c : b ≤ a
  · rw [if_pos c, ix_no (by omega)]
  · rw [if_neg c]
theorem lhf_w {f : Nat → Row} {b o k i : Nat} {r : Row} {t v : Int32} (h : ix o k = some i) : u2 (lhf f b r t) (b + o) k (cvt o v) = lhf f b (ru r i v) t := by
  funext a j
  by_cases c : a = b + o ∧ j = k
  · obtain ⟨rfl, rfl⟩ := c
    rw [u2_s, lhf_r h, ru_s]
  · rw [u2_n _ _ _ _ _ _ (by omega)]
    unfold lhf
    by_cases q : a = b ∧ j = 7
    · rw [if_pos q, if_pos q]
    · rw [if_neg q, if_neg q]
      by_cases q2 : b ≤ a
      · rw [if_pos q2, if_pos q2]
        cases hx : ix (a - b) j with
        | none => rfl
        | some i' =>
          have hne : i' ≠ i := fun e => by
            subst e
            have := ix_inj hx h
            omega
          show cvt _ (r i') = cvt _ (ru r i v i')
          rw [ru_n hne]
      · rw [if_neg q2, if_neg q2]
theorem lhf_wt {f : Nat → Row} {b : Nat} {r : Row} {t v : Int32} : u2 (lhf f b r t) b 7 v = lhf f b r v := by
  funext a j
  unfold u2 lhf
  by_cases c : a = b ∧ j = 7
  · rw [if_pos c, if_pos c]
  · rw [if_neg c, if_neg c, if_neg c]
theorem lhf_wo {f : Nat → Row} {b a k : Nat} {r : Row} {t v : Int32} (h : a < b ∨ b + 8 < a) : u2 (lhf f b r t) a k v = lhf (u2 f a k v) b r t := by
  funext x j
  by_cases c : x = a ∧ j = k
  · obtain ⟨rfl, rfl⟩ := c
    rw [u2_s, lhf_o h, u2_s]
  · rw [u2_n _ _ _ _ _ _ (by omega)]
    unfold lhf
    rw [u2_n _ _ _ _ _ _ (by omega)]
def LH (h : Hp) (b : Nat) (r : Row) (t : Int32) : Hp := sI h (lhf (hI h) b r t)
theorem LH_r {h : Hp} {b o k i : Nat} {r : Row} {t : Int32} (q : ix o k = some i) : hI (LH h b r t) (b + o) k = cvt o (r i) := lhf_r q
theorem LH_o {h : Hp} {b a : Nat} {r : Row} {t : Int32} (q : a < b ∨ b + 8 < a) : hI (LH h b r t) a = hI h a := lhf_o q
theorem LH_w {h : Hp} {b o k i : Nat} {r : Row} {t v : Int32} (q : ix o k = some i) : wI (LH h b r t) (b + o) k (cvt o v) = LH h b (ru r i v) t := by
  show sI h (u2 (lhf (hI h) b r t) (b + o) k (cvt o v)) = _
  rw [lhf_w q]
  rfl
theorem LH_wt {h : Hp} {b : Nat} {r : Row} {t v : Int32} : wI (LH h b r t) b 7 v = LH h b r v := by
  show sI h (u2 (lhf (hI h) b r t) b 7 v) = _
  rw [lhf_wt]
  rfl
theorem LH_wo {h : Hp} {b a k : Nat} {r : Row} {t v : Int32} (q : a < b ∨ b + 8 < a) : wI (LH h b r t) a k v = LH (wI h a k v) b r t := by
  show sI h (u2 (lhf (hI h) b r t) a k v) = sI h (lhf (u2 (hI h) a k v) b r t)
  rw [lhf_wo q]
theorem LH_LH {h : Hp} {b : Nat} {r r' : Row} {t t' : Int32} : LH (LH h b r t) b r' t' = LH h b r' t' := by
  have e : lhf (lhf (hI h) b r t) b r' t' = lhf (hI h) b r' t' := by
    funext a k
    unfold lhf
    by_cases q : a = b ∧ k = 7
    · simp only [if_pos q]
    · by_cases q2 : b ≤ a
      · cases hx : ix (a - b) k <;> simp only [if_neg q, if_pos q2]
      · simp only [if_neg q, if_neg q2]
  show sI h (lhf (lhf (hI h) b r t) b r' t') = _
  rw [e]
  rfl
/-- .. with the facts' row g -/
def LG (h : Hp) (b : Nat) (r : Row) (t : Int32) (g : Row) : Hp := LH (bI h (b + 10) g) b r t
theorem LG_0 (h : Hp) (b : Nat) (r : Row) (t : Int32) : LH h b r t = LG h b r t (hI h (b + 10)) := by
  have e2 : bI h (b + 10) (hI h (b + 10)) = h := by
    show sI h (uf (hI h) (b + 10) (hI h (b + 10))) = h
    have e : uf (hI h) (b + 10) (hI h (b + 10)) = hI h := by funext c; unfold uf; by_cases q : c = b + 10 <;> simp [q]
    rw [e]; rfl
  unfold LG
  rw [e2]
theorem LG_r0 {h : Hp} {b : Nat} {r g : Row} {t : Int32} {k i : Nat} (q : ix 0 k = some i) : hI (LG h b r t g) b k = r i := LH_r (o := 0) q
theorem LG_rt {h : Hp} {b : Nat} {r g : Row} {t : Int32} : hI (LG h b r t g) b 7 = t := lhf_t
theorem LG_r2 {h : Hp} {b k : Nat} {r g : Row} {t : Int32} (q : k < 8) : hI (LG h b r t g) (b + 2) k = pv r k 2 := LH_r (o := 2) (ix_2 q)
theorem LG_r3 {h : Hp} {b k : Nat} {r g : Row} {t : Int32} (q : k < 8) : hI (LG h b r t g) (b + 3) k = pv r k 3 := LH_r (o := 3) (ix_3 q)
theorem LG_r4 {h : Hp} {b k : Nat} {r g : Row} {t : Int32} (q : k < 8) : hI (LG h b r t g) (b + 4) k = pv r k 4 := LH_r (o := 4) (ix_4 q)
theorem LG_r5 {h : Hp} {b i j : Nat} {r g : Row} {t : Int32} (q : i < 8) (q2 : j < 8) : hI (LG h b r t g) (b + 5) (8 * i + j) = dv r i j := by
  have e := LH_r (h := bI h (b + 10) g) (b := b) (r := r) (t := t) (o := 5) (ix_5 (k := 8 * i + j) (by omega))
  rw [show 47 + (8 * i + j) = 47 + 8 * i + j by omega] at e
  exact e
theorem LG_r5' {h : Hp} {b k : Nat} {r g : Row} {t : Int32} (q : k < 64) : hI (LG h b r t g) (b + 5) k = r (47 + k) := LH_r (o := 5) (ix_5 q)
theorem LG_r7 {h : Hp} {b k : Nat} {r g : Row} {t : Int32} (q : k < 50) : hI (LG h b r t g) (b + 7) k = (r (111 + k)).toInt8.toInt32 := LH_r (o := 7) (ix_7 q)
theorem LG_r8 {h : Hp} {b k : Nat} {r g : Row} {t : Int32} (q : k < 20) : hI (LG h b r t g) (b + 8) k = r (161 + k) := LH_r (o := 8) (ix_8 q)
theorem LG_n {h : Hp} {b : Nat} {r g : Row} {t : Int32} : hI (LG h b r t g) (b + 10) = g := by
  show lhf _ b r t (b + 10) = g
  rw [lhf_o (by omega)]
  exact uf_s _ _ _
theorem LG_far {h : Hp} {b a : Nat} {r g : Row} {t : Int32} (q : a < b ∨ b + 10 < a) : hI (LG h b r t g) a = hI h a := by
  show lhf _ b r t a = _
  rw [lhf_o (by omega)]
  exact uf_n _ _ _ _ (by omega)
theorem LG_w0 {h : Hp} {b : Nat} {r g : Row} {t v : Int32} {k i : Nat} (q : ix 0 k = some i) : wI (LG h b r t g) b k v = LG h b (ru r i v) t g := LH_w (o := 0) q
theorem LG_wt {h : Hp} {b : Nat} {r g : Row} {t v : Int32} : wI (LG h b r t g) b 7 v = LG h b r v g := LH_wt
theorem LG_w2 {h : Hp} {b k : Nat} {r g : Row} {t v : Int32} (q : k < 8) : wI (LG h b r t g) (b + 2) k v = LG h b (spv r k 2 v) t g := LH_w (o := 2) (ix_2 q)
theorem LG_w3 {h : Hp} {b k : Nat} {r g : Row} {t v : Int32} (q : k < 8) : wI (LG h b r t g) (b + 3) k v = LG h b (spv r k 3 v) t g := LH_w (o := 3) (ix_3 q)
theorem LG_w4 {h : Hp} {b k : Nat} {r g : Row} {t v : Int32} (q : k < 8) : wI (LG h b r t g) (b + 4) k v = LG h b (spv r k 4 v) t g := LH_w (o := 4) (ix_4 q)
theorem LG_w5 {h : Hp} {b i j : Nat} {r g : Row} {t v : Int32} (q : i < 8) (q2 : j < 8) : wI (LG h b r t g) (b + 5) (8 * i + j) v = LG h b (sdv r i j v) t g := by
  have e := LH_w (h := bI h (b + 10) g) (b := b) (r := r) (t := t) (v := v) (o := 5) (ix_5 (k := 8 * i + j) (by omega))
  rw [show 47 + (8 * i + j) = 47 + 8 * i + j by omega] at e
  exact e
theorem LG_w7 {h : Hp} {b k : Nat} {r g : Row} {t v : Int32} (q : k < 50) : wI (LG h b r t g) (b + 7) k v.toInt8.toInt32 = LG h b (ru r (111 + k) v) t g := LH_w (o := 7) (ix_7 q)
theorem LG_w8 {h : Hp} {b k : Nat} {r g : Row} {t v : Int32} (q : k < 20) : wI (LG h b r t g) (b + 8) k v = LG h b (ru r (161 + k) v) t g := LH_w (o := 8) (ix_8 q)
theorem LG_wn {h : Hp} {b k : Nat} {r g : Row} {t v : Int32} : wI (LG h b r t g) (b + 10) k v = LG h b r t (ru g k v) := by
  show wI (LH (bI h (b + 10) g) b r t) (b + 10) k v = LH (bI h (b + 10) (ru g k v)) b r t
  rw [LH_wo (by omega), wI_bI, bI_bI, bI_s]
/-- the answer of a land's method: the land holds r then, the facts' row may have changed -/
def RL (v : Option Value) (h : Hp) (b : Nat) (r : Row) (t : Int32) : gQ := fun out h' => out = .inl v ∧ ∃ g', h' = LG h b r t g'
theorem r_callV_1l {d mc ms : Nat} {M M1 : gM} {pc : Nat} {ls : gLs} {st stk : List Value} {h h1 : Hp} {b1 : Nat} {r1 : Row} {t1 : Int32} {Q : gQ} {w : Value} {b : Nat} {As : List Value} {C : String} {n index : Nat} (dc : decode (mC M) pc = .ok (.invokevirtual index, 3)) (hv : gV (mOwn M) index C M1 n) (hC : gC d 0 0 M1 (.ref b :: As) h (RL (some w) h1 b1 r1 t1)) (hb : gRecv h b C) (hn : As.length = n) (hst : stk = As.reverse ++ .ref b :: st) (hcat : (st.map fun v => v.category).sum ≤ 8) (kk : ∀ g', gG (d + 1) mc ms M (pc + 3) ls (w :: st) (LG h1 b1 r1 t1 g') Q) : gG (d + 1) mc ms M pc ls stk h Q :=
  r_callV (mc1 := 0) (ms1 := 0) dc hv hC hb hn hst hcat (fun v h' e => by obtain ⟨e1, g', e2⟩ := e; cases e1; subst e2; exact kk g') (fun a h' e => by cases e.1)
theorem r_callV_0l {d mc ms : Nat} {M M1 : gM} {pc : Nat} {ls : gLs} {st stk : List Value} {h h1 : Hp} {b1 : Nat} {r1 : Row} {t1 : Int32} {Q : gQ} {b : Nat} {As : List Value} {C : String} {n index : Nat} (dc : decode (mC M) pc = .ok (.invokevirtual index, 3)) (hv : gV (mOwn M) index C M1 n) (hC : gC d 0 0 M1 (.ref b :: As) h (RL none h1 b1 r1 t1)) (hb : gRecv h b C) (hn : As.length = n) (hst : stk = As.reverse ++ .ref b :: st) (hcat : (st.map fun v => v.category).sum ≤ 8) (kk : ∀ g', gG (d + 1) mc ms M (pc + 3) ls st (LG h1 b1 r1 t1 g') Q) : gG (d + 1) mc ms M pc ls stk h Q :=
  r_callV (mc1 := 0) (ms1 := 0) dc hv hC hb hn hst hcat (fun v h' e => by obtain ⟨e1, g', e2⟩ := e; cases e1; subst e2; exact kk g') (fun a h' e => by cases e.1)
