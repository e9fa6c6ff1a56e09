/-! small rows -/
theorem kM_smax : Cond.static Lib.Math.max.name ∈ lw_all := q583
theorem kM_smin : Cond.static Lib.Math.min.name ∈ lw_all := q580
theorem kM_sabs : Cond.static Lib.Math.abs.name ∈ lw_all := q1049
theorem kM_cmax : Cond.code Lib.Math.max.name Lib.Math.max.code 2 (some .int) ∈ lw_all := q584
theorem kM_cmin : Cond.code Lib.Math.min.name Lib.Math.min.code 2 (some .int) ∈ lw_all := q581
theorem kM_cabs : Cond.code Lib.Math.abs.name Lib.Math.abs.code 1 (some .int) ∈ lw_all := q1050
theorem kM_I : Cond.initialized "java/lang/Math" ∈ lw_all := q101
theorem kO_i : Cond.instanceMethod Lib.objectInit ∈ lw_all := q124
theorem kO_c : Cond.code Lib.objectInit ⟨#[0xb1]⟩ 1 none ∈ lw_all := q125
theorem i_le_nlt {a b : Int32} (h : a ≤ b) : ¬ b < a := Int32.not_lt.mpr h
/-- less is promised -/
theorem gC_mono {d mc ms : Nat} {M : gM} {av : List Value} {h : Hp} {Q Q' : gQ} (hq : ∀ o h', Q o h' → Q' o h') (k : gC d mc ms M av h Q) : gC d mc ms M av h Q' := by
  intro l E p e ha hc hk s m args below hf happ hP hK
  obtain ⟨n, o, h1, h2, h3, h4⟩ := k l E p e ha hc hk s m args below hf happ hP hK
  refine ⟨n, o, h1, h2, h3, ?_⟩
  rcases h4 with ⟨⟨⟨v, h', e1, e2, e3⟩, e4⟩, L, e5⟩ | ⟨q, e0, En, ce, L, ⟨⟨a, ci, C, T0, N, h', e1, e2, e3, e4, e5, e6⟩, e7⟩, e8⟩
  · exact Or.inl ⟨⟨⟨v, h', e1, hq _ _ e2, e3⟩, e4⟩, L, e5⟩
  · exact Or.inr ⟨q, e0, En, ce, L, ⟨⟨a, ci, C, T0, N, h', e1, e2, e3, e4, hq _ _ e5, e6⟩, e7⟩, e8⟩
theorem gOn_f {r : Row} {p : Nat} {t w : Int32} (c : lawV r 0 t (irem w 7) (pv r p 3) = 0) : givenOnB r p t w = false := by
  unfold givenOnB
  rw [c]
  rfl
theorem gOn_t {r : Row} {p : Nat} {t w : Int32} (c : ¬ lawV r 0 t (irem w 7) (pv r p 3) = 0) : givenOnB r p t w = true := by
  unfold givenOnB
  rw [decide_eq_false c]
  rfl
theorem e_iret {d mc ms : Nat} {M : gM} {pc : Nat} {ls : gLs} {h : Hp} {Q : gQ} {x : Int32} (dc : decode (mC M) pc = .ok (.ireturn, 1)) (hrt : mRt M = some .int) (hq : Q (.inl (some (.int x))) h) : gG d mc ms M pc ls [.int x] h Q := r_iret (st := []) dc hrt hq
theorem e_zret {d mc ms : Nat} {M : gM} {pc : Nat} {ls : gLs} {h : Hp} {Q : gQ} {x : Int32} {ty : FieldType} (dc : decode (mC M) pc = .ok (.ireturn, 1)) (hrt : mRt M = some ty) (hn : narrow ty (.int x) = .int x) (hq : Q (.inl (some (.int x))) h) : gG d mc ms M pc ls [.int x] h Q := r_zret (st := []) dc hrt hn hq
theorem e_vret {d mc ms : Nat} {M : gM} {pc : Nat} {ls : gLs} {h : Hp} {Q : gQ} (dc : decode (mC M) pc = .ok (.return_, 1)) (hrt : mRt M = none) (hq : Q (.inl none) h) : gG d mc ms M pc ls [] h Q := r_vret (st := []) dc hrt hq
theorem e_aret {d mc ms : Nat} {M : gM} {pc : Nat} {ls : gLs} {h : Hp} {Q : gQ} {v : Value} {rt : FieldType} (dc : decode (mC M) pc = .ok (.areturn, 1)) (hrt : mRt M = some rt) (ho : (∃ n, rt = .object n) ∨ ∃ t, rt = .array t) (hv : gisv v = true) (hq : Q (.inl (some v)) h) : gG d mc ms M pc ls [v] h Q := r_aret (st := []) dc hrt ho hv hq
theorem np_of {r : Row} {n : Nat} (h : r 2 = nI n) (hn : n < 2147483648) : np r = n := by
  unfold np
  rw [h]
  exact nI_clamp hn
def frI (x : Option Nat) : Int32 := match x with
  | none => -1
  | some w => nI w
def betW (r : Row) (x : Option Nat) (o : Nat) : Bool := match x with
  | none => true
  | some w => decide (pv r w 3 < pv r o 3)
theorem bgo_e (r : Row) (mean : Int32) (p o : Nat) : bgo r mean p (o + 1) = if (lendsB r mean o p && betW r (bgo r mean p o) o) = true then some o else bgo r mean p o := rfl
theorem bgo_lt {r : Row} {mean : Int32} {p : Nat} : ∀ {n w : Nat}, bgo r mean p n = some w → w < n
  | 0, w, h => by cases h
  | n + 1, w, h => by
    rw [bgo_e] at h
    by_cases c : (lendsB r mean n p && betW r (bgo r mean p n) n) = true
    · rw [if_pos c] at h; cases h; omega
    · rw [if_neg c] at h; have := bgo_lt h; omega
theorem bgo_s {r : Row} {mean : Int32} {p o : Nat} (h : lendsB r mean o p = true) (h2 : ∀ w, bgo r mean p o = some w → pv r w 3 < pv r o 3) : bgo r mean p (o + 1) = some o := by
  have e : betW r (bgo r mean p o) o = true := by
    cases hb : bgo r mean p o with
    | none => rfl
    | some w => exact decide_eq_true (h2 w hb)
  rw [bgo_e, h, e]
  rfl
theorem bgo_n1 {r : Row} {mean : Int32} {p o : Nat} (h : lendsB r mean o p = false) : bgo r mean p (o + 1) = bgo r mean p o := by
  rw [bgo_e, h]
  rfl
theorem bgo_n2 {r : Row} {mean : Int32} {p o w : Nat} (hb : bgo r mean p o = some w) (h : ¬ pv r w 3 < pv r o 3) : bgo r mean p (o + 1) = bgo r mean p o := by
  have e : betW r (bgo r mean p o) o = false := by
    rw [hb]
    exact decide_eq_false h
  rw [bgo_e, e, Bool.and_false]
  rfl
/-- what texts a row may hold -/
def RowT (r : Row) : Prop := ∀ u, u < 2 → r (5 + u) = -1 ∨ ∃ e, r (5 + u) = nI e ∧ e ≤ 50
/-- the kinds and the numbers m of the people -/
def RowK (r : Row) : Prop := ∀ p, p < 8 → ∃ k m, pv r p 0 = nI k ∧ k < 7 ∧ pv r p 1 = nI m ∧ m < 10
/-- nothing but waters, thirsts, debts and the day have changed -/
def RS (r r' : Row) : Prop := ∀ k, (0 < k ∧ k < 7) ∨ 111 ≤ k ∨ (∃ p w, p < 8 ∧ w < 3 ∧ k = 7 + 5 * p + w) → r' k = r k
theorem RS.r {r : Row} : RS r r := fun _ _ => rfl
theorem RS.t {a b c : Row} (h1 : RS a b) (h2 : RS b c) : RS a c := fun k hk => (h2 k hk).trans (h1 k hk)
theorem RS.spv {r : Row} {p w : Nat} {v : Int32} (hp : p < 8) (hw : w = 3 ∨ w = 4) : RS r (spv r p w v) := by
  intro k hk
  refine ru_n ?_
  rcases hk with h | h | ⟨q, x, h1, h2, h3⟩ <;> omega
theorem RS.sdv {r : Row} {a b : Nat} {v : Int32} (ha : a < 8) (hb : b < 8) : RS r (sdv r a b v) := by
  intro k hk
  refine ru_n ?_
  rcases hk with h | h | ⟨q, x, h1, h2, h3⟩ <;> omega
theorem RS.day {r : Row} {v : Int32} : RS r (ru r 0 v) := by
  intro k hk
  refine ru_n ?_
  rcases hk with h | h | ⟨q, x, h1, h2, h3⟩ <;> omega
theorem RS.two {r r' : Row} (h : RS r r') : r' 2 = r 2 := h 2 (Or.inl (by omega))
theorem RS.pv {r r' : Row} (h : RS r r') {p w : Nat} (hp : p < 8) (hw : w < 3) : pv r' p w = pv r p w := h _ (Or.inr (Or.inr ⟨p, w, hp, hw, rfl⟩))
theorem RS.T {r r' : Row} (h : RS r r') (ht : RowT r) : RowT r' := by
  intro u hu
  rw [h (5 + u) (Or.inl (by omega))]
  exact ht u hu
theorem RS.K {r r' : Row} (h : RS r r') (ht : RowK r) : RowK r' := by
  intro p hp
  rw [h.pv hp (by decide), h.pv hp (by decide)]
  exact ht p hp
theorem RS.npe {r r' : Row} (h : RS r r') : np r' = np r := by
  unfold np
  rw [h.two]
theorem begR_RS {r : Row} {mn : Int32} {p : Nat} (hp : p < 8) (hn : np r ≤ 8) : RS r (begR r mn p) := by
  unfold begR
  cases hb : bgo r mn p (np r) with
  | none => exact RS.r
  | some w =>
    have hw := bgo_lt hb
    exact (RS.spv (by omega) (Or.inl rfl)).t ((RS.spv hp (Or.inl rfl)).t (RS.sdv hp (by omega)))
theorem goR_RS {r : Row} {mn : Int32} {p : Nat} (hp : p < 8) (hn : np r ≤ 8) : RS r (goR r mn p) := by
  unfold goR
  by_cases h : givenB r p = true
  · rw [if_pos h]; exact RS.spv hp (Or.inl rfl)
  · rw [if_neg h]; exact begR_RS hp hn
theorem goAll_RS {r : Row} {mn : Int32} (hn : np r ≤ 8) : ∀ k, k ≤ 8 → RS r (goAll r mn k)
  | 0, _ => RS.r
  | k + 1, hk => by
    have ih := goAll_RS (mn := mn) hn k (by omega)
    exact ih.t (goR_RS (by omega) (by rw [ih.npe]; exact hn))
theorem drR_RS {r : Row} {p : Nat} (hp : p < 8) : RS r (drR r p) := by
  unfold drR
  exact (RS.spv hp (Or.inl rfl)).t (RS.spv hp (Or.inr rfl))
theorem drAll_RS {r : Row} : ∀ k, k ≤ 8 → RS r (drAll r k)
  | 0, _ => RS.r
  | k + 1, hk => (drAll_RS k (by omega)).t (drR_RS (by omega))
theorem dayR_RS {r : Row} {mn : Int32} (hn : np r ≤ 8) : RS r (dayR r mn) := by
  unfold dayR
  have h1 := goAll_RS (mn := mn) hn (np r) hn
  exact h1.t ((drAll_RS _ hn).t RS.day)
theorem passR_RS {r : Row} {mn : Int32} (hn : np r ≤ 8) : ∀ k, RS r (passR r mn k)
  | 0 => RS.r
  | k + 1 => by
    have ih := passR_RS (mn := mn) hn k
    exact ih.t (dayR_RS (by rw [ih.npe]; exact hn))
theorem kindN_of {r : Row} {p k : Nat} (hk : pv r p 0 = nI k) (h7 : k < 7) : kindN r p = k := by
  unfold kindN
  rw [hk]
  exact nI_clamp (by omega)
theorem goR_t {r : Row} {mn : Int32} {p k : Nat} (hg : givenB r p = true) (hk : pv r p 0 = nI k) (h7 : k < 7) : goR r mn p = spv r p 3 (heldV (pv r p 3 + fillV k (pv r p 1)) 0 999) := by
  unfold goR
  rw [if_pos hg, kindN_of hk h7]
theorem goR_f {r : Row} {mn : Int32} {p : Nat} (hg : givenB r p = false) : goR r mn p = begR r mn p := by
  unfold goR
  rw [if_neg (by rw [hg]; decide)]
theorem drR_1 {r : Row} {p k : Nat} (hk : pv r p 0 = nI k) (h7 : k < 7) (c : pv r p 3 - drinkV k < 0) : drR r p = spv (spv r p 3 0) p 4 (heldV (pv (spv r p 3 0) p 4 - (pv r p 3 - drinkV k)) 0 99) := by
  unfold drR
  rw [kindN_of hk h7]
  simp only [if_pos c]
theorem drR_2 {r : Row} {p k : Nat} (hk : pv r p 0 = nI k) (h7 : k < 7) (c : ¬ pv r p 3 - drinkV k < 0) : drR r p = spv (spv r p 3 (pv r p 3 - drinkV k)) p 4 0 := by
  unfold drR
  rw [kindN_of hk h7]
  simp only [if_neg c]
