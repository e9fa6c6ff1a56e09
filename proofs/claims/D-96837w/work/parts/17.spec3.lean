/-! texts: the reference's state as it goes through one -/
def PO (o : Row) (u e : Nat) (a b c : Int32) (s : PS) : Prop := o 7 = nI u ∧ o 9 = nI e ∧ o 11 = a ∧ o 12 = b ∧ o 13 = c ∧ o 8 = nI s.1 ∧ o 10 = nI s.2.1 ∧ o 14 = b2 s.2.2
theorem PO.use {o : Row} {u e : Nat} {a b c : Int32} {s : PS} (h : PO o u e a b c s) : o 7 = nI u := h.1
theorem PO.fin {o : Row} {u e : Nat} {a b c : Int32} {s : PS} (h : PO o u e a b c s) : o 9 = nI e := h.2.1
theorem PO.na {o : Row} {u e : Nat} {a b c : Int32} {s : PS} (h : PO o u e a b c s) : o 11 = a := h.2.2.1
theorem PO.nb {o : Row} {u e : Nat} {a b c : Int32} {s : PS} (h : PO o u e a b c s) : o 12 = b := h.2.2.2.1
theorem PO.nc {o : Row} {u e : Nat} {a b c : Int32} {s : PS} (h : PO o u e a b c s) : o 13 = c := h.2.2.2.2.1
theorem PO.at_ {o : Row} {u e : Nat} {a b c : Int32} {s : PS} (h : PO o u e a b c s) : o 8 = nI s.1 := h.2.2.2.2.2.1
theorem PO.op {o : Row} {u e : Nat} {a b c : Int32} {s : PS} (h : PO o u e a b c s) : o 10 = nI s.2.1 := h.2.2.2.2.2.2.1
theorem PO.good {o : Row} {u e : Nat} {a b c : Int32} {s : PS} (h : PO o u e a b c s) : o 14 = b2 s.2.2 := h.2.2.2.2.2.2.2
theorem PO.setAt {o : Row} {u e : Nat} {a b c : Int32} {s : PS} (h : PO o u e a b c s) {k : Nat} : PO (ru o 8 (nI k)) u e a b c (k, s.2) :=
  ⟨h.1, h.2.1, h.2.2.1, h.2.2.2.1, h.2.2.2.2.1, rfl, h.2.2.2.2.2.2.1, h.2.2.2.2.2.2.2⟩
theorem PO.setOp {o : Row} {u e : Nat} {a b c : Int32} {s : PS} (h : PO o u e a b c s) {k : Nat} : PO (ru o 10 (nI k)) u e a b c (s.1, k, s.2.2) :=
  ⟨h.1, h.2.1, h.2.2.1, h.2.2.2.1, h.2.2.2.2.1, h.2.2.2.2.2.1, rfl, h.2.2.2.2.2.2.2⟩
theorem PO.setBad {o : Row} {u e : Nat} {a b c : Int32} {s : PS} (h : PO o u e a b c s) : PO (ru o 14 (nI 0)) u e a b c (s.1, s.2.1, false) :=
  ⟨h.1, h.2.1, h.2.2.1, h.2.2.2.1, h.2.2.2.2.1, h.2.2.2.2.2.1, h.2.2.2.2.2.2.1, rfl⟩
def RP (h : Hp) (r o : Row) (u e : Nat) (a b c : Int32) (q : Int32 × PS) : gQ := fun out h' => out = .inl (some (.int q.1)) ∧ ∃ o', Jo o o' ∧ PO o' u e a b c q.2 ∧ h' = MH h r o'
theorem r_callV_1p {d mc ms : Nat} {M M1 : gM} {pc : Nat} {ls : gLs} {st stk : List Value} {h h1 : Hp} {r1 o1 : Row} {u e : Nat} {a b9 c : Int32} {q : Int32 × PS} {Q : gQ} {b : Nat} {As : List Value} {C : String} {n index : Nat} (dc : decode (mC M) pc = .ok (.invokevirtual index, 3)) (hv : gV (mOwn M) index C M1 n) (hC : gC d 0 0 M1 (.ref b :: As) h (RP h1 r1 o1 u e a b9 c q)) (hb : gRecv h b C) (hn : As.length = n) (hst : stk = As.reverse ++ .ref b :: st) (hcat : (st.map fun v => v.category).sum ≤ 8) (kk : ∀ o', Jo o1 o' → PO o' u e a b9 c q.2 → gG (d + 1) mc ms M (pc + 3) ls (.int q.1 :: st) (MH h1 r1 o') Q) : gG (d + 1) mc ms M pc ls stk h Q :=
  r_callV (mc1 := 0) (ms1 := 0) dc hv hC hb hn hst hcat (fun v h' e => by obtain ⟨e1, o', j, p9, e2⟩ := e; cases e1; subst e2; exact kk o' j p9) (fun a h' e => by cases e.1)
theorem byV_e {r : Row} {u e k : Nat} (h : e ≤ k) : byV r u e k = -1 := if_neg (by omega)
theorem byV_lt {r : Row} {u e k : Nat} (h : ¬ byV r u e k = -1) : k < e := by
  rcases Nat.lt_or_ge k e with q | q
  · exact q
  · exact absurd (byV_e q) h
theorem isDg_lt {r : Row} {u e k : Nat} (h : isDg (byV r u e k) = true) : k < e := byV_lt fun q => by rw [q] at h; exact absurd h (by decide)
theorem numV_le {r : Row} {u e : Nat} : ∀ (k a : Nat) (v : Int32), a ≤ e → (numV (byV r u e) k a v).2 ≤ e
  | 0, a, v, h => h
  | k + 1, a, v, h => by
    unfold numV
    by_cases c : isDg (byV r u e a) = true
    · rw [if_pos c]; exact numV_le k _ _ (isDg_lt c)
    · rw [if_neg c]; exact h
theorem P_0 {by_ : Nat → Int32} {nam : Int32 → Option Int32} {n : Nat} {v : Int32} {s : PS} : P by_ nam (n + 1) 0 v s = (if isDg (by_ s.1) = true then ((numV by_ 4 s.1 0).1, (numV by_ 4 s.1 0).2, s.2.1, s.2.2)
    else if ¬ by_ s.1 = 33 ∧ ¬ by_ s.1 = 40 then
      (match nam (by_ s.1) with
      | none => (0, s.1, s.2.1, false)
      | some w => (w, s.1 + 1, s.2.1, s.2.2))
    else if s.2.1 = 5 then (0, s.1, s.2.1, false)
    else if by_ s.1 = 33 then
      (if (P by_ nam n 0 0 (s.1 + 1, s.2.1 + 1, s.2.2)).1 = 0 then 1 else 0, (P by_ nam n 0 0 (s.1 + 1, s.2.1 + 1, s.2.2)).2.1, (P by_ nam n 0 0 (s.1 + 1, s.2.1 + 1, s.2.2)).2.2.1 - 1, (P by_ nam n 0 0 (s.1 + 1, s.2.1 + 1, s.2.2)).2.2.2)
    else
      if (P by_ nam n 5 0 (s.1 + 1, s.2.1 + 1, s.2.2)).2.2.2 = true ∧ by_ (P by_ nam n 5 0 (s.1 + 1, s.2.1 + 1, s.2.2)).2.1 = 41 then ((P by_ nam n 5 0 (s.1 + 1, s.2.1 + 1, s.2.2)).1, (P by_ nam n 5 0 (s.1 + 1, s.2.1 + 1, s.2.2)).2.1 + 1, (P by_ nam n 5 0 (s.1 + 1, s.2.1 + 1, s.2.2)).2.2.1 - 1, (P by_ nam n 5 0 (s.1 + 1, s.2.1 + 1, s.2.2)).2.2.2) else (0, (P by_ nam n 5 0 (s.1 + 1, s.2.1 + 1, s.2.2)).2.1, (P by_ nam n 5 0 (s.1 + 1, s.2.1 + 1, s.2.2)).2.2.1 - 1, false)) := rfl
theorem P_1 {by_ : Nat → Int32} {nam : Int32 → Option Int32} {n : Nat} {v : Int32} {s : PS} : P by_ nam (n + 1) 1 v s = P by_ nam n 11 (P by_ nam n 0 0 s).1 (P by_ nam n 0 0 s).2 := rfl
theorem P_11 {by_ : Nat → Int32} {nam : Int32 → Option Int32} {n : Nat} {v : Int32} {s : PS} : P by_ nam (n + 1) 11 v s = if s.2.2 = true ∧ (by_ s.1 = 42 ∨ by_ s.1 = 47 ∨ by_ s.1 = 37) then P by_ nam n 11 (if by_ s.1 = 42 then v * (P by_ nam n 0 0 (s.1 + 1, s.2)).1 else if (P by_ nam n 0 0 (s.1 + 1, s.2)).1 = 0 then 0 else if by_ s.1 = 47 then v / (P by_ nam n 0 0 (s.1 + 1, s.2)).1 else irem v (P by_ nam n 0 0 (s.1 + 1, s.2)).1) (P by_ nam n 0 0 (s.1 + 1, s.2)).2 else (v, s) := rfl
theorem P_2 {by_ : Nat → Int32} {nam : Int32 → Option Int32} {n : Nat} {v : Int32} {s : PS} : P by_ nam (n + 1) 2 v s = P by_ nam n 12 (P by_ nam n 1 0 s).1 (P by_ nam n 1 0 s).2 := rfl
theorem P_12 {by_ : Nat → Int32} {nam : Int32 → Option Int32} {n : Nat} {v : Int32} {s : PS} : P by_ nam (n + 1) 12 v s = if s.2.2 = true ∧ (by_ s.1 = 43 ∨ by_ s.1 = 45) then P by_ nam n 12 (if by_ s.1 = 43 then v + (P by_ nam n 1 0 (s.1 + 1, s.2)).1 else v - (P by_ nam n 1 0 (s.1 + 1, s.2)).1) (P by_ nam n 1 0 (s.1 + 1, s.2)).2 else (v, s) := rfl
theorem P_3 {by_ : Nat → Int32} {nam : Int32 → Option Int32} {n : Nat} {v : Int32} {s : PS} : P by_ nam (n + 1) 3 v s = if (P by_ nam n 2 0 s).2.2.2 = true ∧ (by_ (P by_ nam n 2 0 s).2.1 = 60 ∨ by_ (P by_ nam n 2 0 s).2.1 = 61 ∨ by_ (P by_ nam n 2 0 s).2.1 = 62) then (b2 (if by_ (P by_ nam n 2 0 s).2.1 = 60 then decide ((P by_ nam n 2 0 s).1 < (P by_ nam n 2 0 ((P by_ nam n 2 0 s).2.1 + 1, (P by_ nam n 2 0 s).2.2)).1) else if by_ (P by_ nam n 2 0 s).2.1 = 61 then decide ((P by_ nam n 2 0 s).1 = (P by_ nam n 2 0 ((P by_ nam n 2 0 s).2.1 + 1, (P by_ nam n 2 0 s).2.2)).1) else decide ((P by_ nam n 2 0 ((P by_ nam n 2 0 s).2.1 + 1, (P by_ nam n 2 0 s).2.2)).1 < (P by_ nam n 2 0 s).1)), (P by_ nam n 2 0 ((P by_ nam n 2 0 s).2.1 + 1, (P by_ nam n 2 0 s).2.2)).2) else P by_ nam n 2 0 s := rfl
theorem P_4 {by_ : Nat → Int32} {nam : Int32 → Option Int32} {n : Nat} {v : Int32} {s : PS} : P by_ nam (n + 1) 4 v s = P by_ nam n 14 (P by_ nam n 3 0 s).1 (P by_ nam n 3 0 s).2 := rfl
theorem P_14 {by_ : Nat → Int32} {nam : Int32 → Option Int32} {n : Nat} {v : Int32} {s : PS} : P by_ nam (n + 1) 14 v s = if s.2.2 = true ∧ by_ s.1 = 38 then P by_ nam n 14 (b2 (decide (¬ v = 0) && decide (¬ (P by_ nam n 3 0 (s.1 + 1, s.2)).1 = 0))) (P by_ nam n 3 0 (s.1 + 1, s.2)).2 else (v, s) := rfl
theorem P_5 {by_ : Nat → Int32} {nam : Int32 → Option Int32} {n : Nat} {v : Int32} {s : PS} : P by_ nam (n + 1) 5 v s = P by_ nam n 15 (P by_ nam n 4 0 s).1 (P by_ nam n 4 0 s).2 := rfl
theorem P_15 {by_ : Nat → Int32} {nam : Int32 → Option Int32} {n : Nat} {v : Int32} {s : PS} : P by_ nam (n + 1) 15 v s = if s.2.2 = true ∧ by_ s.1 = 124 then P by_ nam n 15 (b2 (decide (¬ v = 0) || decide (¬ (P by_ nam n 4 0 (s.1 + 1, s.2)).1 = 0))) (P by_ nam n 4 0 (s.1 + 1, s.2)).2 else (v, s) := rfl
/-- going through a text leaves the depth as it was, stays within it, and never goes back -/
theorem P_in {r : Row} {u e : Nat} {nam : Int32 → Option Int32} (hnam : nam (-1) = none) : ∀ (n lev : Nat) (v : Int32) (s : PS), s.1 ≤ e → (P (byV r u e) nam n lev v s).2.1 ≤ e ∧ (P (byV r u e) nam n lev v s).2.2.1 = s.2.1
  | 0, lev, v, s, h => ⟨h, rfl⟩
  | n + 1, lev, v, s, h => by
    have ih := P_in (r := r) (u := u) (e := e) hnam n
    match lev with
    | 0 =>
      rw [P_0]
      by_cases c1 : isDg (byV r u e s.1) = true
      · rw [if_pos c1]; exact ⟨numV_le 4 _ _ h, rfl⟩
      · rw [if_neg c1]
        by_cases c2 : ¬ byV r u e s.1 = 33 ∧ ¬ byV r u e s.1 = 40
        · rw [if_pos c2]
          cases c3 : nam (byV r u e s.1) with
          | none => exact ⟨h, rfl⟩
          | some w => exact ⟨byV_lt (fun q => by rw [q, hnam] at c3; cases c3), rfl⟩
        · rw [if_neg c2]
          by_cases c4 : s.2.1 = 5
          · rw [if_pos c4]; exact ⟨h, rfl⟩
          · rw [if_neg c4]
            have hlt : s.1 < e := byV_lt fun q => c2 (by rw [q]; decide)
            by_cases c5 : byV r u e s.1 = 33
            · rw [if_pos c5]
              have h1 := ih 0 0 (s.1 + 1, s.2.1 + 1, s.2.2) hlt
              exact ⟨h1.1, by show _ - 1 = _; rw [h1.2]; rfl⟩
            · rw [if_neg c5]
              have h1 := ih 5 0 (s.1 + 1, s.2.1 + 1, s.2.2) hlt
              by_cases c6 : (P (byV r u e) nam n 5 0 (s.1 + 1, s.2.1 + 1, s.2.2)).2.2.2 = true ∧ byV r u e (P (byV r u e) nam n 5 0 (s.1 + 1, s.2.1 + 1, s.2.2)).2.1 = 41
              · rw [if_pos c6]
                exact ⟨byV_lt (fun q => by rw [q] at c6; exact absurd c6.2 (by decide)), by show _ - 1 = _; rw [h1.2]; rfl⟩
              · rw [if_neg c6]
                exact ⟨h1.1, by show _ - 1 = _; rw [h1.2]; rfl⟩
    | 1 =>
      rw [P_1]
      have h1 := ih 0 0 s h
      have h2 := ih 11 (P (byV r u e) nam n 0 0 s).1 _ h1.1
      exact ⟨h2.1, h2.2.trans h1.2⟩
    | 2 =>
      rw [P_2]
      have h1 := ih 1 0 s h
      have h2 := ih 12 (P (byV r u e) nam n 1 0 s).1 _ h1.1
      exact ⟨h2.1, h2.2.trans h1.2⟩
    | 3 =>
      rw [P_3]
      have h1 := ih 2 0 s h
      by_cases c : (P (byV r u e) nam n 2 0 s).2.2.2 = true ∧ (byV r u e (P (byV r u e) nam n 2 0 s).2.1 = 60 ∨ byV r u e (P (byV r u e) nam n 2 0 s).2.1 = 61 ∨ byV r u e (P (byV r u e) nam n 2 0 s).2.1 = 62)
      · rw [if_pos c]
        have hlt : (P (byV r u e) nam n 2 0 s).2.1 < e := byV_lt fun q => by rw [q] at c; exact absurd c.2 (by decide)
        have h2 := ih 2 0 ((P (byV r u e) nam n 2 0 s).2.1 + 1, (P (byV r u e) nam n 2 0 s).2.2) hlt
        exact ⟨h2.1, h2.2.trans h1.2⟩
      · rw [if_neg c]; exact h1
    | 4 =>
      rw [P_4]
      have h1 := ih 3 0 s h
      have h2 := ih 14 (P (byV r u e) nam n 3 0 s).1 _ h1.1
      exact ⟨h2.1, h2.2.trans h1.2⟩
    | 5 =>
      rw [P_5]
      have h1 := ih 4 0 s h
      have h2 := ih 15 (P (byV r u e) nam n 4 0 s).1 _ h1.1
      exact ⟨h2.1, h2.2.trans h1.2⟩
    | 11 =>
      rw [P_11]
      by_cases c : s.2.2 = true ∧ (byV r u e s.1 = 42 ∨ byV r u e s.1 = 47 ∨ byV r u e s.1 = 37)
      · rw [if_pos c]
        have hlt : s.1 < e := byV_lt fun q => by rw [q] at c; exact absurd c.2 (by decide)
        have h1 := ih 0 0 (s.1 + 1, s.2) hlt
        have h2 := ih 11 (if byV r u e s.1 = 42 then v * (P (byV r u e) nam n 0 0 (s.1 + 1, s.2)).1 else if (P (byV r u e) nam n 0 0 (s.1 + 1, s.2)).1 = 0 then 0 else if byV r u e s.1 = 47 then v / (P (byV r u e) nam n 0 0 (s.1 + 1, s.2)).1 else irem v (P (byV r u e) nam n 0 0 (s.1 + 1, s.2)).1) _ h1.1
        exact ⟨h2.1, h2.2.trans h1.2⟩
      · rw [if_neg c]; exact ⟨h, rfl⟩
    | 12 =>
      rw [P_12]
      by_cases c : s.2.2 = true ∧ (byV r u e s.1 = 43 ∨ byV r u e s.1 = 45)
      · rw [if_pos c]
        have hlt : s.1 < e := byV_lt fun q => by rw [q] at c; exact absurd c.2 (by decide)
        have h1 := ih 1 0 (s.1 + 1, s.2) hlt
        have h2 := ih 12 (if byV r u e s.1 = 43 then v + (P (byV r u e) nam n 1 0 (s.1 + 1, s.2)).1 else v - (P (byV r u e) nam n 1 0 (s.1 + 1, s.2)).1) _ h1.1
        exact ⟨h2.1, h2.2.trans h1.2⟩
      · rw [if_neg c]; exact ⟨h, rfl⟩
    | 14 =>
      rw [P_14]
      by_cases c : s.2.2 = true ∧ byV r u e s.1 = 38
      · rw [if_pos c]
        have hlt : s.1 < e := byV_lt fun q => by rw [q] at c; exact absurd c.2 (by decide)
        have h1 := ih 3 0 (s.1 + 1, s.2) hlt
        have h2 := ih 14 (b2 (decide (¬ v = 0) && decide (¬ (P (byV r u e) nam n 3 0 (s.1 + 1, s.2)).1 = 0))) _ h1.1
        exact ⟨h2.1, h2.2.trans h1.2⟩
      · rw [if_neg c]; exact ⟨h, rfl⟩
    | 15 =>
      rw [P_15]
      by_cases c : s.2.2 = true ∧ byV r u e s.1 = 124
      · rw [if_pos c]
        have hlt : s.1 < e := byV_lt fun q => by rw [q] at c; exact absurd c.2 (by decide)
        have h1 := ih 4 0 (s.1 + 1, s.2) hlt
        have h2 := ih 15 (b2 (decide (¬ v = 0) || decide (¬ (P (byV r u e) nam n 4 0 (s.1 + 1, s.2)).1 = 0))) _ h1.1
        exact ⟨h2.1, h2.2.trans h1.2⟩
      · rw [if_neg c]; exact ⟨h, rfl⟩
    | 6 | 7 | 8 | 9 | 10 | 13 => exact ⟨h, rfl⟩
    | k + 16 => exact ⟨h, rfl⟩
theorem numV_up {by_ : Nat → Int32} : ∀ (k a : Nat) (v : Int32), a ≤ (numV by_ k a v).2
  | 0, a, v => Nat.le_refl _
  | k + 1, a, v => by
    unfold numV
    by_cases c : isDg (by_ a) = true
    · rw [if_pos c]; exact Nat.le_trans (Nat.le_succ a) (numV_up k _ _)
    · rw [if_neg c]; exact Nat.le_refl _
/-- it never goes back -/
theorem P_up {by_ : Nat → Int32} {nam : Int32 → Option Int32} : ∀ (n lev : Nat) (v : Int32) (s : PS), s.1 ≤ (P by_ nam n lev v s).2.1
  | 0, lev, v, s => Nat.le_refl _
  | n + 1, lev, v, s => by
    have ih := P_up (by_ := by_) (nam := nam) n
    match lev with
    | 0 =>
      rw [P_0]
      by_cases c1 : isDg (by_ s.1) = true
      · rw [if_pos c1]; exact numV_up 4 _ _
      · rw [if_neg c1]
        by_cases c2 : ¬ by_ s.1 = 33 ∧ ¬ by_ s.1 = 40
        · rw [if_pos c2]
          cases c3 : nam (by_ s.1) with
          | none => exact Nat.le_refl _
          | some w => exact Nat.le_succ _
        · rw [if_neg c2]
          by_cases c4 : s.2.1 = 5
          · rw [if_pos c4]; exact Nat.le_refl _
          · rw [if_neg c4]
            by_cases c5 : by_ s.1 = 33
            · rw [if_pos c5]
              exact Nat.le_trans (Nat.le_succ _) (ih 0 0 (s.1 + 1, s.2.1 + 1, s.2.2))
            · rw [if_neg c5]
              have h1 := ih 5 0 (s.1 + 1, s.2.1 + 1, s.2.2)
              by_cases c6 : (P by_ nam n 5 0 (s.1 + 1, s.2.1 + 1, s.2.2)).2.2.2 = true ∧ by_ (P by_ nam n 5 0 (s.1 + 1, s.2.1 + 1, s.2.2)).2.1 = 41
              · rw [if_pos c6]
                exact Nat.le_trans (Nat.le_succ _) (Nat.le_trans h1 (Nat.le_succ _))
              · rw [if_neg c6]
                exact Nat.le_trans (Nat.le_succ _) h1
    | 1 => rw [P_1]; exact Nat.le_trans (ih 0 0 s) (ih 11 _ _)
    | 2 => rw [P_2]; exact Nat.le_trans (ih 1 0 s) (ih 12 _ _)
    | 3 =>
      rw [P_3]
      by_cases c : (P by_ nam n 2 0 s).2.2.2 = true ∧ (by_ (P by_ nam n 2 0 s).2.1 = 60 ∨ by_ (P by_ nam n 2 0 s).2.1 = 61 ∨ by_ (P by_ nam n 2 0 s).2.1 = 62)
      · rw [if_pos c]
        exact Nat.le_trans (ih 2 0 s) (Nat.le_trans (Nat.le_succ _) (ih 2 0 ((P by_ nam n 2 0 s).2.1 + 1, (P by_ nam n 2 0 s).2.2)))
      · rw [if_neg c]; exact ih 2 0 s
    | 4 => rw [P_4]; exact Nat.le_trans (ih 3 0 s) (ih 14 _ _)
    | 5 => rw [P_5]; exact Nat.le_trans (ih 4 0 s) (ih 15 _ _)
    | 11 =>
      rw [P_11]
      by_cases c : s.2.2 = true ∧ (by_ s.1 = 42 ∨ by_ s.1 = 47 ∨ by_ s.1 = 37)
      · rw [if_pos c]; exact Nat.le_trans (Nat.le_succ _) (Nat.le_trans (ih 0 0 (s.1 + 1, s.2)) (ih 11 _ _))
      · rw [if_neg c]; exact Nat.le_refl _
    | 12 =>
      rw [P_12]
      by_cases c : s.2.2 = true ∧ (by_ s.1 = 43 ∨ by_ s.1 = 45)
      · rw [if_pos c]; exact Nat.le_trans (Nat.le_succ _) (Nat.le_trans (ih 1 0 (s.1 + 1, s.2)) (ih 12 _ _))
      · rw [if_neg c]; exact Nat.le_refl _
    | 14 =>
      rw [P_14]
      by_cases c : s.2.2 = true ∧ by_ s.1 = 38
      · rw [if_pos c]; exact Nat.le_trans (Nat.le_succ _) (Nat.le_trans (ih 3 0 (s.1 + 1, s.2)) (ih 14 _ _))
      · rw [if_neg c]; exact Nat.le_refl _
    | 15 =>
      rw [P_15]
      by_cases c : s.2.2 = true ∧ by_ s.1 = 124
      · rw [if_pos c]; exact Nat.le_trans (Nat.le_succ _) (Nat.le_trans (ih 4 0 (s.1 + 1, s.2)) (ih 15 _ _))
      · rw [if_neg c]; exact Nat.le_refl _
    | 6 | 7 | 8 | 9 | 10 | 13 => exact Nat.le_refl _
    | k + 16 => exact Nat.le_refl _
theorem namV_m {u : Nat} {a b c : Int32} : namV u a b c (-1) = none := by
  unfold namV
  by_cases h : u = 0
  · subst h; rfl
  · rw [if_neg h, if_neg h, if_neg h]; rfl
def mP : Nat → gM
  | 0 => m_X6_factor
  | 1 => m_X6_product
  | 2 => m_X6_sum
  | 3 => m_X6_compared
  | 4 => m_X6_both
  | _ => m_X6_whole
/-- what is supposed, at fuel n, of the six methods -/
def PC (h : Hp) (r : Row) (u e : Nat) (a b c : Int32) (n : Nat) : Prop := ∀ (lev D : Nat) (s : PS) (o : Row), lev ≤ 5 → n + 4 ≤ D → PO o u e a b c s → s.1 ≤ e → s.2.1 ≤ 5 → 7 * (e - s.1) + 1 + lev ≤ n → gC D 0 0 (mP lev) [.ref 66] (MH h r o) (RP h r o u e a b c (P (byV r u e) (namV u a b c) n lev 0 s))
/-- and of a loop -/
def PL (h : Hp) (r : Row) (u e : Nat) (a b c : Int32) (n lev : Nat) (T : List (Option Value) → Prop) : Prop := ∀ (D : Nat) (s : PS) (o : Row) (v : Int32) (xs : List (Option Value)), T xs → n + 4 ≤ D → PO o u e a b c s → s.1 ≤ e → s.2.1 ≤ 5 → 7 * (e - s.1) + 1 ≤ n → gG D 0 0 (mP lev) 5 (some (.ref 66) :: some (.int v) :: xs) [] (MH h r o) (RP h r o u e a b c (P (byV r u e) (namV u a b c) n (lev + 10) v s))
theorem numV_n {by_ : Nat → Int32} {k a : Nat} {v : Int32} (h : isDg (by_ a) = false) : numV by_ (k + 1) a v = (v, a) := by
  show (if isDg (by_ a) = true then numV by_ k (a + 1) (10 * v + by_ a - 48) else (v, a)) = _
  rw [h]; rfl
theorem numV_s {by_ : Nat → Int32} {k a : Nat} {v : Int32} (h : isDg (by_ a) = true) : numV by_ (k + 1) a v = numV by_ k (a + 1) (10 * v + by_ a - 48) := if_pos h
