theorem one_no {r : Row} {p : Nat} (w : WF r) (h : inB (nI p) 0 (r 2 - 1) = false) : np r ≤ p := by
  rcases Nat.lt_or_ge p (np r) with q | q
  · rw [w.n, inB_of1 q (by have := w.n8; omega)] at h
    cases h
  · exact q
/-- a sheet's array written anew -/
theorem CX.puts {h : Hp} {S : MSt} (x : CX h S) {s : Nat} (hs : s < 4) (hb : ¬ S.bits s = 0) : ∃ a A t n, SAt h S s a A t n ∧ ∀ (G f : Row), (∀ i, i < n → G i = f (40 * s + i)) → (∀ j, (j < 40 * s ∨ 40 * s + 40 ≤ j) → f j = S.sheets j) → CX (bI h A G) (S.s_sheets f) := by
  obtain ⟨A, h1, h2⟩ := x.sh
  obtain ⟨a, t, n, k1, k2, k3, k4, k5⟩ := (h1 s hs).so hb
  refine ⟨a, A s, t, n, ⟨k1, k2, k3, k4, k5⟩, fun G f hG hf => ?_⟩
  have hA := k2.2.2.2.1
  have n8 := x.hN
  have far : ∀ b, b ≠ A s → hI (bI h (A s) G) b = hI h b := fun b q => bI_n q
  have ex : ExtH h (bI h (A s) G) := ⟨Nat.le_refl _, fun b c q1 _ q3 _ => ⟨q3, far b (fun e => by rw [e, k2.2.2.2.2.2.1] at q3; cases q3), rfl⟩⟩
  refine ⟨x.hx, x.hl, x.hl3, x.hl4, n8, x.hold.fr (fun o ho => far _ (by omega)), ?_, x.lw.ext ex rfl rfl, fun hk => ⟨(x.kept hk).1.fr (fun o ho => far _ (by omega)), (x.kept hk).2.ext ex rfl rfl⟩, ?_, fun k q1 q2 => ?_, fun k hk => ?_, ?_, A, fun s' hs' => ?_, h2⟩
  · rw [far 23 (by omega)]; exact x.tight
  · rw [far 21 (by omega)]; exact x.im
  · rw [far 58 (by omega)]; exact x.fnd k q1 q2
  · rw [far 57 (by omega)]; exact x.tr k hk
  · rw [far 56 (by omega)]; exact x.many
  · by_cases e : s' = s
    · subst e
      rcases h1 s' hs' with j | ⟨a', c', t', m', j1, j2, j3, j4, j5, j6, j7, j8, j9, j10, j11, j12⟩
      · exact Or.inl j
      · have em : m' = n := by
          have q1 := k2.2.2.2.2.2.1
          rw [j8] at q1
          cases q1; rfl
        subst em
        exact Or.inr ⟨a', c', t', m', j1, j2, j3, j4, j5, j6, j7, j8, j9, j10, j11, fun i hi => (congrFun (bI_s h (A s') G) i).trans (hG i hi)⟩
    · rcases h1 s' hs' with j | ⟨a', c', t', m', j1, j2, j3, j4, j5, j6, j7, j8, j9, j10, j11, j12⟩
      · exact Or.inl j
      · have hb' : ¬ S.bits s' = 0 := by
          rcases j11 with ⟨-, -, q⟩ | ⟨-, -, q⟩ | ⟨-, -, q⟩ <;> rw [q] <;> decide
        refine Or.inr ⟨a', c', t', m', j1, j2, j3, j4, j5, j6, j7, j8, j9, j10, j11, fun i hi => ?_⟩
        rw [far _ (h2 s' s hs' hs e hb' hb), j12 i hi]
        exact (hf _ (by omega)).symm
theorem i_size1 {z : Nat} {x : Int32} (h : x = nI z) : x - nI 1 = nI z - nI 1 := by rw [h]
theorem put_at {g f : Row} {b c n q : Nat} {v : Int32} (hq : q < n) (h : ∀ q, q < n → g q = f (b + q)) : ru g c v q = ru f (b + c) v (b + q) := by
  unfold ru
  by_cases e : q = c
  · rw [if_pos e, if_pos (by omega)]
  · rw [if_neg e, if_neg (by omega)]
    exact h q hq
theorem one_lt2 {r f : Row} {z s p : Nat} (w : WF r) (z40 : z ≤ 40) (hp : trP r f z s p = true) : p < np r := by
  have h1 : p < z := of_decide_eq_true (an_is hp).1
  exact one_lt w (by omega) (an_is (an_is hp).2).1
