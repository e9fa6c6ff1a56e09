/-! what the acts keep: sheet, judge, rules, traits, move -/
theorem sw_sheet {S : MSt} (s : SW S) {a b n : Int32} : SW (aSheet S a b n).2 := by
  unfold aSheet
  by_cases c : inB a (nI 0) (nI 3) = true
  · rw [if_pos c]
    obtain ⟨x, hx, rfl⟩ := inB_k (by decide) c
    rw [toN_nI (by omega)]
    by_cases c1 : widB b = true
    · rw [if_pos c1]
      by_cases c2 : b = 0
      · rw [if_pos c2]
        exact sw_okS s (by omega) ⟨0, if_pos c2, by decide⟩
      · rw [if_neg c2]
        by_cases c3 : n < 0
        · rw [if_pos c3]; exact sw_err s
        · rw [if_neg c3]
          by_cases c4 : nI 40 < n
          · rw [if_pos c4]; exact sw_err s
          · rw [if_neg c4]
            obtain ⟨z, hz, rfl⟩ := nI_of c3
            exact sw_okS s (by omega) ⟨z, if_neg c2, n_gtn (by omega) (by decide) c4⟩
    · rw [if_neg c1]; exact sw_err s
  · rw [if_neg c]; exact sw_err s
theorem sw_judge {S : MSt} (s : SW S) {a : Int32} : SW (aJudge S a).2 := by
  unfold aJudge
  by_cases c : inB a (nI 0) (nI 3) = true
  · rw [if_pos c]
    by_cases c1 : S.bits (toN a) = 0
    · rw [if_pos c1]; exact sw_err s
    · rw [if_neg c1]; exact s
  · rw [if_neg c]; exact sw_err s
theorem sw_rules {S : MSt} (s : SW S) {a q : Int32} : SW (aRules S a q).2 := by
  unfold aRules
  by_cases c : inB a (nI 0) (nI 3) = true
  · rw [if_pos c]
    by_cases c : inB q (nI 0) (nI 2) = true
    · rw [if_pos c]
      by_cases c : S.bits (toN a) = 0
      · rw [if_pos c]; exact sw_err s
      · rw [if_neg c]
        by_cases c : toN q = 1
        · rw [if_pos c]
          by_cases c : manG (fitN S.r S.sheets (toN (S.size (toN a))) (toN a)) 256 0 = 0
          · rw [if_pos c]; exact sw_err s
          · rw [if_neg c]; exact s
        · rw [if_neg c]
          by_cases c : toN q = 0
          · rw [if_pos c]; exact s
          · rw [if_neg c]; exact s
    · rw [if_neg c]; exact sw_err s
  · rw [if_neg c]; exact sw_err s
theorem whF_all {P : Nat → Bool} : ∀ k p q, p ≤ q → q < whF P k p → P q = true
  | 0, p, q, h1, h2 => absurd h2 (by show ¬ q < p; omega)
  | k + 1, p, q, h1, h2 => by
    by_cases c : P p = true
    · rw [whF_t c] at h2
      by_cases e : q = p
      · subst e; exact c
      · exact whF_all k (p + 1) q (by omega) h2
    · rw [whF_f (by simpa using c)] at h2
      exact absurd h2 (by omega)
theorem wf_trR {r f : Row} {s : Nat} (w : WF r) : ∀ k, k ≤ 8 → (∀ p, p < k → ∃ j, f (40 * s + p) = nI j ∧ j ≤ 15) → WF (trR r f s k)
  | 0, _, _ => w
  | k + 1, h, q => by
    obtain ⟨j, e, hj⟩ := q k (by omega)
    exact wf_spv (wf_trR w k (by omega) (fun p hp => q p (by omega))) (by omega) (by decide) e hj
theorem sw_traits {S : MSt} (s : SW S) {a : Int32} : SW (aTraits S a).2 := by
  unfold aTraits
  by_cases c : inB a (nI 0) (nI 3) = true
  · rw [if_pos c]
    by_cases c1 : S.bits (toN a) = 0
    · rw [if_pos c1]; exact sw_err s
    · rw [if_neg c1]
      have h8 := s.1.n8
      have all := fun q h => whF_all (P := trP S.r S.sheets (toN (S.size (toN a))) (toN a)) 9 0 q (Nat.zero_le q) h
      refine sw_r s (wf_trR s.1 _ ?_ fun p hp => ?_)
      · by_cases q : whF (trP S.r S.sheets (toN (S.size (toN a))) (toN a)) 9 0 ≤ 8
        · exact q
        · have h := all 8 (by omega)
          unfold trP at h
          simp only [Bool.and_eq_true, decide_eq_true_eq] at h
          have h2 := one_lt s.1 (by decide) h.2.1
          omega
      · have h := all p hp
        unfold trP at h
        simp only [Bool.and_eq_true, decide_eq_true_eq] at h
        exact (inB_k (by decide) h.2.2).imp fun j q => ⟨q.2, q.1⟩
  · rw [if_neg c]; exact sw_err s
theorem mvF_in {f : Row} {b c m : Nat} : ∀ k, m < k → mvF f b c k (c + m) = f (b + m)
  | 0, h => absurd h (by omega)
  | k + 1, h => by
    show ru (mvF f b c k) (c + k) (f (b + k)) (c + m) = _
    by_cases e : m = k
    · subst e; exact ru_s _ _ _
    · rw [ru_n (by omega)]; exact mvF_in k (by omega)
theorem sw_mv {S : MSt} (s : SW S) {x y i j n : Nat} (hx : x < 4) (hy : y < 4) (hb : S.bits x = S.bits y) (h1 : i + n ≤ 40) (h2 : j + n ≤ 40) : SW (S.s_sheets (mvF S.sheets (40 * x + i) (40 * y + j) n)) := by
  refine ⟨s.1, s.2.1, s.2.2.1, s.2.2.2.1, fun s' hs q hq => ?_⟩
  show narV (S.bits s') (mvF S.sheets (40 * x + i) (40 * y + j) n (40 * s' + q)) = mvF S.sheets (40 * x + i) (40 * y + j) n (40 * s' + q)
  by_cases e : 40 * y + j ≤ 40 * s' + q ∧ 40 * s' + q < 40 * y + j + n
  · have e1 : s' = y := by omega
    subst e1
    rw [show 40 * s' + q = (40 * s' + j) + (q - j) by omega, mvF_in n (by omega), ← hb, show 40 * x + i + (q - j) = 40 * x + (i + (q - j)) by omega]
    exact s.2.2.2.2 x hx _ (by omega)
  · rw [mvF_n n (by omega)]
    exact s.2.2.2.2 s' hs q hq
theorem sw_move {S : MSt} (s : SW S) {a i t j n : Int32} : SW (aMove S a i t j n).2 := by
  unfold aMove
  by_cases c : inB a (nI 0) (nI 3) = true
  · rw [if_pos c]
    by_cases c1 : inB t (nI 0) (nI 3) = true
    · rw [if_pos c1]
      obtain ⟨x, hx, rfl⟩ := inB_k (by decide) c
      obtain ⟨y, hy, rfl⟩ := inB_k (by decide) c1
      rw [toN_nI (by omega), toN_nI (by omega)]
      by_cases c2 : S.bits x = 0
      · rw [if_pos c2]; exact sw_err s
      rw [if_neg c2]
      by_cases c3 : S.bits y = 0
      · rw [if_pos c3]; exact sw_err s
      rw [if_neg c3]
      by_cases c4 : S.bits x = S.bits y
      · rw [if_pos c4]
        by_cases c5 : n < 0
        · rw [if_pos c5]; exact sw_err s
        rw [if_neg c5]
        by_cases c6 : i < 0
        · rw [if_pos c6]; exact sw_err s
        rw [if_neg c6]
        by_cases c7 : j < 0
        · rw [if_pos c7]; exact sw_err s
        rw [if_neg c7]
        by_cases c8 : S.size x - n < i
        · rw [if_pos c8]; exact sw_err s
        rw [if_neg c8]
        by_cases c9 : S.size y - n < j
        · rw [if_pos c9]; exact sw_err s
        rw [if_neg c9]
        obtain ⟨n, hn, rfl⟩ := nI_of c5
        obtain ⟨i, hi, rfl⟩ := nI_of c6
        obtain ⟨j, hj, rfl⟩ := nI_of c7
        obtain ⟨z1, e1, q1⟩ := s.2.2.1 x (by omega)
        obtain ⟨z2, e2, q2⟩ := s.2.2.1 y (by omega)
        rw [e1] at c8
        rw [e2] at c9
        have k1 := i_sub q1 (by omega) (by omega) c8
        have k2 := i_sub q2 (by omega) (by omega) c9
        rw [toN_nI (by omega), toN_nI (by omega), toN_nI (by omega)]
        exact sw_mv s (by omega) (by omega) c4 (by omega) (by omega)
      · rw [if_neg c4]; exact sw_err s
    · rw [if_neg c1]; exact sw_err s
  · rw [if_neg c]; exact sw_err s
