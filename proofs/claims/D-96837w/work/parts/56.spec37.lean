/-! what the acts keep: sheets, and more that change nothing -/
theorem narV_idem (b v : Int32) : narV b (narV b v) = narV b v := by
  unfold narV
  by_cases h : b = nI 8
  · rw [if_pos h, if_pos h]; simp
  · rw [if_neg h, if_neg h]
    by_cases h2 : b = nI 16
    · rw [if_pos h2, if_pos h2]; simp
    · rw [if_neg h2, if_neg h2]
theorem narV_0 (b : Int32) : narV b (nI 0) = nI 0 := by
  unfold narV
  by_cases h : b = nI 8
  · rw [if_pos h]; rfl
  · rw [if_neg h]
    by_cases h2 : b = nI 16
    · rw [if_pos h2]; rfl
    · rw [if_neg h2]
theorem zeroS_in {f : Row} {s i : Nat} : ∀ k, i < k → zeroS f s k (40 * s + i) = nI 0
  | 0, h => absurd h (by omega)
  | k + 1, h => by
    show ru (zeroS f s k) (40 * s + k) (nI 0) (40 * s + i) = _
    by_cases e : i = k
    · subst e; exact ru_s _ _ _
    · rw [ru_n (by omega)]; exact zeroS_in k (by omega)
theorem zeroS_out {f : Row} {s j : Nat} (h : j < 40 * s ∨ 40 * s + 40 ≤ j) : ∀ k, k ≤ 40 → zeroS f s k j = f j
  | 0, _ => rfl
  | k + 1, q => by
    show ru (zeroS f s k) (40 * s + k) (nI 0) j = _
    rw [ru_n (by omega)]
    exact zeroS_out h k (by omega)
theorem sw_put {S : MSt} (s : SW S) {a i v : Int32} : SW (aPut S a i v).2 := by
  unfold aPut
  by_cases c : inB a (nI 0) (nI 3) = true
  · rw [if_pos c]
    by_cases c1 : S.bits (toN a) = 0
    · rw [if_pos c1]; exact sw_err s
    · rw [if_neg c1]
      by_cases c2 : inB i (nI 0) (S.size (toN a) - nI 1) = true
      · rw [if_pos c2]
        obtain ⟨x, hx, rfl⟩ := inB_k (by decide) c
        rw [toN_nI (by omega)] at c2 ⊢
        obtain ⟨j, e, hj⟩ := s.2.2.1 x (by omega)
        rw [e] at c2
        obtain ⟨k, hk, rfl⟩ := inB_n1 (by omega) c2
        rw [toN_nI (by omega)]
        refine ⟨s.1, s.2.1, s.2.2.1, s.2.2.2.1, fun s' hs i' hi => ?_⟩
        show narV (S.bits s') (ru S.sheets (40 * x + k) (narV (S.bits x) v) (40 * s' + i')) = ru S.sheets (40 * x + k) (narV (S.bits x) v) (40 * s' + i')
        by_cases q : 40 * s' + i' = 40 * x + k
        · have e1 : s' = x := by omega
          subst e1
          rw [q, ru_s, narV_idem]
        · rw [ru_n q]; exact s.2.2.2.2 s' hs i' hi
      · rw [if_neg c2]; exact sw_err s
  · rw [if_neg c]; exact sw_err s
theorem sw_okS {S : MSt} (s : SW S) {x : Nat} {b n : Int32} (hx : x < 4) (hn : ∃ j, (if b = 0 then nI 0 else n) = nI j ∧ j ≤ 40) : SW (okS S x b n).2 := by
  refine ⟨s.1, s.2.1, fun s' hs => ?_, s.2.2.2.1, fun s' hs i hi => ?_⟩
  · show ∃ j, ru S.size x (if b = 0 then nI 0 else n) s' = nI j ∧ j ≤ 40
    by_cases e : s' = x
    · subst e; rw [ru_s]; exact hn
    · rw [ru_n e]; exact s.2.2.1 s' hs
  · show narV (ru S.bits x b s') (zeroS S.sheets x 40 (40 * s' + i)) = zeroS S.sheets x 40 (40 * s' + i)
    by_cases e : s' = x
    · subst e; rw [zeroS_in 40 hi, narV_0]
    · rw [zeroS_out (by omega) 40 (by omega), ru_n e]; exact s.2.2.2.2 s' hs i hi
theorem sw_first {S : MSt} (s : SW S) {x q : Int32} : SW (aFirst S x q).2 := by
  unfold aFirst
  by_cases c : inB x (nI 1) (nI 99) = true
  · rw [if_pos c]
    by_cases c : inB q (nI 0) (nI 1) = true
    · rw [if_pos c]
      by_cases c : 60 < fsV S.r x
      · rw [if_pos c]; exact sw_err s
      · rw [if_neg c]; exact s
    · rw [if_neg c]; exact sw_err s
  · rw [if_neg c]; exact sw_err s
theorem sw_count {S : MSt} (s : SW S) {v : Int32} : SW (aCount S v).2 := by
  unfold aCount
  by_cases c : inB v (nI 0) (nI 9) = true
  · rw [if_pos c]; exact s
  · rw [if_neg c]; exact sw_err s
theorem sw_turn {S : MSt} (s : SW S) {p q : Int32} : SW (aTurn S p q).2 := by
  unfold aTurn
  by_cases c : inB p 0 (S.r 2 - 1) = true
  · rw [if_pos c]
    by_cases c : inB q (nI 0) (nI 1) = true
    · rw [if_pos c]; exact s
    · rw [if_neg c]; exact sw_err s
  · rw [if_neg c]; exact sw_err s
theorem sw_cover {S : MSt} (s : SW S) : SW (aCover S).2 := by
  unfold aCover
  cases coX S.r with
  | none => exact sw_err s
  | some b => exact s
