/-! the bounds of a row, place by place -/
def limP (x : Nat) : Nat := if x = 0 then 6 else if x = 1 then 9 else if x = 2 then 15 else if x = 3 then 999 else 99
def limI (i : Nat) : Option Nat := if i = 2 then some 8 else if i = 3 then some 50 else if i = 4 then some 20 else if i = 5 ∨ i = 6 then some 50 else if i < 7 then none else if i < 47 then some (limP ((i - 7) % 5)) else if i < 111 then some 99 else if i < 161 then some 255 else if i < 181 then none else if i < 281 then some 255 else none
def okI (i : Nat) (v : Int32) : Prop := ∀ b, limI i = some b → (∃ k, v = nI k ∧ k ≤ b) ∨ ((i = 5 ∨ i = 6) ∧ v = -1)
theorem limI_p {p x : Nat} (hp : p < 8) (hx : x < 5) : limI (7 + 5 * p + x) = some (limP x) := by
  unfold limI
  rw [if_neg (by omega), if_neg (by omega), if_neg (by omega), if_neg (by omega), if_neg (by omega), if_pos (by omega), show (7 + 5 * p + x - 7) % 5 = x by omega]
theorem limI_d {k : Nat} (h : k < 64) : limI (47 + k) = some 99 := by
  unfold limI
  rw [if_neg (by omega), if_neg (by omega), if_neg (by omega), if_neg (by omega), if_neg (by omega), if_neg (by omega), if_pos (by omega)]
theorem limI_b {k : Nat} (h : k < 50) : limI (111 + k) = some 255 := by
  unfold limI
  rw [if_neg (by omega), if_neg (by omega), if_neg (by omega), if_neg (by omega), if_neg (by omega), if_neg (by omega), if_neg (by omega), if_pos (by omega)]
theorem limI_c {k : Nat} (h : k < 100) : limI (181 + k) = some 255 := by
  unfold limI
  rw [if_neg (by omega), if_neg (by omega), if_neg (by omega), if_neg (by omega), if_neg (by omega), if_neg (by omega), if_neg (by omega), if_neg (by omega), if_neg (by omega), if_pos (by omega)]
theorem wf_to {r : Row} (w : WF r) (i : Nat) : okI i (r i) := by
  intro b hb
  by_cases c : 7 ≤ i ∧ i < 47
  · obtain ⟨p, x, hp, hx, rfl⟩ : ∃ p x, p < 8 ∧ x < 5 ∧ i = 7 + 5 * p + x := ⟨(i - 7) / 5, (i - 7) % 5, by omega, by omega, by omega⟩
    rw [limI_p hp hx] at hb
    cases hb
    left
    obtain ⟨k, m, k1, k2, k3, k4⟩ := w.K p hp
    rcases (show x = 0 ∨ x = 1 ∨ x = 2 ∨ x = 3 ∨ x = 4 by omega) with rfl | rfl | rfl | rfl | rfl
    · exact ⟨k, k1, by show k ≤ 6; omega⟩
    · exact ⟨m, k3, by show m ≤ 9; omega⟩
    · obtain ⟨j, e, q⟩ := w.G p hp; exact ⟨j, e, q⟩
    · obtain ⟨j, e, q⟩ := w.W p hp; exact ⟨j, e, q⟩
    · obtain ⟨j, e, q⟩ := w.H p hp; exact ⟨j, e, q⟩
  by_cases c2 : 47 ≤ i ∧ i < 111
  · obtain ⟨k, hk, rfl⟩ : ∃ k, k < 64 ∧ i = 47 + k := ⟨i - 47, by omega, by omega⟩
    rw [limI_d hk] at hb
    cases hb
    obtain ⟨j, e, q⟩ := w.D k hk
    exact Or.inl ⟨j, e, q⟩
  by_cases c3 : 111 ≤ i ∧ i < 161
  · obtain ⟨k, hk, rfl⟩ : ∃ k, k < 50 ∧ i = 111 + k := ⟨i - 111, by omega, by omega⟩
    rw [limI_b hk] at hb
    cases hb
    obtain ⟨j, e, q⟩ := w.B k hk
    exact Or.inl ⟨j, e, q⟩
  by_cases c4 : 181 ≤ i ∧ i < 281
  · obtain ⟨k, hk, rfl⟩ : ∃ k, k < 100 ∧ i = 181 + k := ⟨i - 181, by omega, by omega⟩
    rw [limI_c hk] at hb
    cases hb
    obtain ⟨j, e, q⟩ := w.C k hk
    exact Or.inl ⟨j, e, q⟩
  by_cases c5 : i = 2
  · subst c5; cases hb; exact Or.inl ⟨np r, w.n, w.n8⟩
  by_cases c6 : i = 3
  · subst c6; cases hb; obtain ⟨j, e, q⟩ := w.A; exact Or.inl ⟨j, e, q⟩
  by_cases c7 : i = 4
  · subst c7; cases hb; obtain ⟨j, e, q⟩ := w.Z; exact Or.inl ⟨j, e, q⟩
  by_cases c8 : i = 5
  · subst c8; cases hb
    rcases w.T 0 (by decide) with e | ⟨j, e, q⟩
    · exact Or.inr ⟨Or.inl rfl, e⟩
    · exact Or.inl ⟨j, e, q⟩
  by_cases c9 : i = 6
  · subst c9; cases hb
    rcases w.T 1 (by decide) with e | ⟨j, e, q⟩
    · exact Or.inr ⟨Or.inr rfl, e⟩
    · exact Or.inl ⟨j, e, q⟩
  · exfalso
    unfold limI at hb
    rw [if_neg (by omega), if_neg (by omega), if_neg (by omega), if_neg (by omega)] at hb
    by_cases q : i < 7
    · rw [if_pos q] at hb; cases hb
    · rw [if_neg q, if_neg (by omega), if_neg (by omega), if_neg (by omega)] at hb
      by_cases q : i < 181
      · rw [if_pos q] at hb; cases hb
      · rw [if_neg q, if_neg (by omega)] at hb; cases hb
theorem okI_n {i b : Nat} {v : Int32} (h : okI i v) (e : limI i = some b) (h5 : i ≠ 5) (h6 : i ≠ 6) : ∃ k, v = nI k ∧ k ≤ b := by
  rcases h b e with q | q
  · exact q
  · exact absurd q.1 (by omega)
theorem wf_from {r : Row} (a : ∀ i, okI i (r i)) : WF r := by
  have n2 := okI_n (a 2) (b := 8) rfl (by decide) (by decide)
  have nn : r 2 = nI (np r) ∧ np r ≤ 8 := by
    obtain ⟨k, e, q⟩ := n2
    have : np r = k := by unfold np; rw [e]; exact toN_nI (by omega)
    exact ⟨by rw [this]; exact e, by omega⟩
  refine ⟨nn.1, nn.2, fun u hu => ?_, fun p hp => ?_, fun p hp => ?_, fun p hp => ?_, fun k hk => ?_, fun p hp => ?_, ?_, ?_, fun k hk => ?_, fun k hk => ?_⟩
  · rcases (show u = 0 ∨ u = 1 by omega) with rfl | rfl
    · rcases a 5 50 rfl with q | q
      · exact Or.inr q
      · exact Or.inl q.2
    · rcases a 6 50 rfl with q | q
      · exact Or.inr q
      · exact Or.inl q.2
  · obtain ⟨k, k1, k2⟩ := okI_n (a (7 + 5 * p + 0)) (limI_p hp (by decide)) (by omega) (by omega)
    obtain ⟨m, m1, m2⟩ := okI_n (a (7 + 5 * p + 1)) (limI_p hp (by decide)) (by omega) (by omega)
    have k2 : k ≤ 6 := k2
    have m2 : m ≤ 9 := m2
    exact ⟨k, m, k1, by omega, m1, by omega⟩
  · exact okI_n (a (7 + 5 * p + 3)) (limI_p hp (by decide)) (by omega) (by omega)
  · exact okI_n (a (7 + 5 * p + 4)) (limI_p hp (by decide)) (by omega) (by omega)
  · exact okI_n (a (47 + k)) (limI_d hk) (by omega) (by omega)
  · exact okI_n (a (7 + 5 * p + 2)) (limI_p hp (by decide)) (by omega) (by omega)
  · exact okI_n (a 3) rfl (by decide) (by decide)
  · exact okI_n (a 4) rfl (by decide) (by decide)
  · exact okI_n (a (111 + k)) (limI_b hk) (by omega) (by omega)
  · exact okI_n (a (181 + k)) (limI_c hk) (by omega) (by omega)
theorem wf_ru {r : Row} {i : Nat} {v : Int32} (w : WF r) (h : okI i v) : WF (ru r i v) := wf_from fun j => by
  unfold ru
  by_cases e : j = i
  · rw [if_pos e, e]; exact h
  · rw [if_neg e]; exact wf_to w j
theorem okI_of {i b k : Nat} (e : limI i = some b) (h : k ≤ b) : okI i (nI k) := fun b' q => Or.inl ⟨k, rfl, by rw [e] at q; cases q; exact h⟩
theorem okI_no {i : Nat} {v : Int32} (e : limI i = none) : okI i v := fun b q => by rw [e] at q; cases q
theorem wf_zeroD {r : Row} {p : Nat} (w : WF r) (hp : p < 8) : ∀ k, k ≤ 8 → WF (zeroD r p k)
  | 0, _ => w
  | k + 1, h => wf_ru (wf_ru (wf_zeroD w hp k (by omega)) (by rw [show 47 + 8 * p + k = 47 + (8 * p + k) by omega]; exact okI_of (limI_d (by omega)) (by omega))) (by rw [show 47 + 8 * k + p = 47 + (8 * k + p) by omega]; exact okI_of (limI_d (by omega)) (by omega))
theorem wf_spv {r : Row} {p x k : Nat} {v : Int32} (w : WF r) (hp : p < 8) (hx : x < 5) (e : v = nI k) (hk : k ≤ limP x) : WF (spv r p x v) := wf_ru w (by rw [e]; exact okI_of (limI_p hp hx) hk)
theorem wf_cpR {f t : Row} (wf : WF f) (wt : WF t) (n : Nat) : WF (cpR n f t) := wf_from fun i => by
  unfold cpR
  by_cases h : i < n
  · rw [if_pos h]; exact wf_to wf i
  · rw [if_neg h]; exact wf_to wt i
