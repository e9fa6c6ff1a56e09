/-! what every act keeps -/
def SW (S : MSt) : Prop := WF S.r ∧ (S.isK ≠ 0 → WF S.kept) ∧ (∀ s, s < 4 → ∃ j, S.size s = nI j ∧ j ≤ 40) ∧ (∃ t, S.many = nI t ∧ t ≤ 40) ∧ (∀ s, s < 4 → ∀ i, i < 40 → narV (S.bits s) (S.sheets (40 * s + i)) = S.sheets (40 * s + i))
theorem sw_err {S : MSt} (s : SW S) {e : Int32} {k : Nat} : SW (errA S e k).2 := s
theorem sw_r {S : MSt} (s : SW S) {r : Row} (w : WF r) : SW (S.s_r r) := ⟨w, s.2⟩
theorem inB_k {v : Int32} {n : Nat} (hn : n < 2147483648) (h : inB v (nI 0) (nI n) = true) : ∃ k, k ≤ n ∧ v = nI k := inB_n hn h
theorem sw_owe {S : MSt} (s : SW S) {a b v : Int32} : SW (aOwe S a b v).2 := by
  unfold aOwe
  by_cases c : twoB S.r a b = true
  · rw [if_pos c]
    by_cases c2 : inB v (nI 0) (nI 99) = true
    · rw [if_pos c2]
      obtain ⟨i, j, hi, hj, rfl, rfl⟩ := two_of s.1 c
      obtain ⟨k, hk, rfl⟩ := inB_k (by decide) c2
      have h8 := s.1.n8
      refine sw_r s (wf_ru s.1 ?_)
      rw [toN_nI (by omega), toN_nI (by omega), show 47 + 8 * i + j = 47 + (8 * i + j) by omega]
      exact okI_of (limI_d (by omega)) hk
    · rw [if_neg c2]; exact sw_err s
  · rw [if_neg c]; exact sw_err s
theorem sw_change {S : MSt} (s : SW S) {p q v : Int32} : SW (aChange S p q v).2 := by
  unfold aChange
  by_cases c : inB p 0 (S.r 2 - 1) = true
  · rw [if_pos c]
    by_cases c2 : chgB q v = true
    · rw [if_pos c2]
      obtain ⟨k, hk, rfl⟩ := one_of s.1 c
      have h8 := s.1.n8
      refine sw_r s (wf_ru s.1 ?_)
      rw [toN_nI (by omega)]
      unfold chgB at c2
      by_cases q0 : q = 0
      · rw [if_pos q0] at c2
        subst q0
        obtain ⟨j, hj, rfl⟩ := inB_k (by decide) c2
        exact okI_of (limI_p (p := k) (x := 2) (by omega) (by decide)) hj
      · rw [if_neg q0] at c2
        by_cases q1 : q = nI 1
        · rw [if_pos q1] at c2
          subst q1
          obtain ⟨j, hj, rfl⟩ := inB_k (by decide) c2
          exact okI_of (limI_p (p := k) (x := 3) (by omega) (by decide)) hj
        · rw [if_neg q1] at c2
          by_cases q2 : q = nI 2
          · rw [if_pos q2] at c2
            subst q2
            obtain ⟨j, hj, rfl⟩ := inB_k (by decide) c2
            exact okI_of (limI_p (p := k) (x := 4) (by omega) (by decide)) hj
          · rw [if_neg q2] at c2; cases c2
    · rw [if_neg c2]; exact sw_err s
  · rw [if_neg c]; exact sw_err s
theorem rem_69 : ∀ c, c < 70 → irem (nI c) (nI 10) = nI (c % 10) := by decide +kernel
theorem sw_become {S : MSt} (s : SW S) {p km : Int32} : SW (aBecome S p km).2 := by
  unfold aBecome
  by_cases c : inB p 0 (S.r 2 - 1) = true
  · rw [if_pos c]
    by_cases c2 : inB km (nI 0) (nI 69) = true
    · rw [if_pos c2]
      obtain ⟨k, hk, rfl⟩ := one_of s.1 c
      obtain ⟨j, hj, rfl⟩ := inB_k (by decide) c2
      have h8 := s.1.n8
      refine sw_r s ?_
      rw [toN_nI (by omega), rem_69 j (by omega), km_div hj]
      exact wf_ru (wf_spv s.1 (by omega) (by decide) rfl (by show j % 10 ≤ 9; omega)) (okI_of (limI_p (p := k) (x := 0) (by omega) (by decide)) (by show j / 10 ≤ 6; omega))
    · rw [if_neg c2]; exact sw_err s
  · rw [if_neg c]; exact sw_err s
theorem sw_person {S : MSt} (s : SW S) {km tr : Int32} : SW (aPerson S km tr).2 := by
  unfold aPerson
  by_cases c : inB km (nI 0) (nI 69) = true
  · rw [if_pos c]
    by_cases c2 : inB tr (nI 0) (nI 15) = true
    · rw [if_pos c2]
      by_cases c3 : np S.r = 8
      · rw [if_pos c3]; exact sw_err s
      · rw [if_neg c3]
        obtain ⟨j, hj, rfl⟩ := inB_k (by decide) c
        obtain ⟨t, ht, rfl⟩ := inB_k (by decide) c2
        have h8 := s.1.n8
        refine sw_r s ?_
        unfold newP
        rw [rem_69 j (by omega), km_div hj]
        refine wf_ru (wf_zeroD ?_ (by omega) 8 (by omega)) (okI_of (b := 8) rfl (by omega))
        exact wf_spv (wf_spv (wf_spv (wf_spv (wf_spv s.1 (by omega) (by decide) rfl (by show j / 10 ≤ 6; omega)) (by omega) (by decide) rfl (by show j % 10 ≤ 9; omega)) (by omega) (by decide) rfl (by show t ≤ 15; omega)) (by omega) (by decide) rfl (by decide)) (by omega) (by decide) rfl (by decide)
    · rw [if_neg c2]; exact sw_err s
  · rw [if_neg c]; exact sw_err s
theorem sw_seed {S : MSt} (s : SW S) {v : Int32} : SW (aSeed S v).2 := sw_r s (wf_ru s.1 (okI_no rfl))
theorem sw_check {S : MSt} (s : SW S) : SW (aCheck S).2 := sw_r s (wf_ru s.1 (okI_of (b := 20) rfl (by decide)))
theorem limI_w {k : Nat} (h : k < 20) : limI (161 + k) = none := by
  unfold limI
  rw [if_neg (by omega), if_neg (by omega), if_neg (by omega), if_neg (by omega), if_neg (by omega), if_neg (by omega), if_neg (by omega), if_neg (by omega), if_pos (by omega)]
theorem sw_tell {S : MSt} (s : SW S) {v : Int32} : SW (aTell S v).2 := by
  unfold aTell
  obtain ⟨j, e, hj⟩ := s.1.Z
  rw [e, toN_nI (by omega)]
  by_cases c : j = 20
  · rw [if_pos c]; exact sw_err s
  · rw [if_neg c]
    exact sw_r s (wf_ru (wf_ru s.1 (okI_no (limI_w (by omega)))) (okI_of (b := 20) rfl (by omega)))
theorem sw_restore {S : MSt} (s : SW S) : SW (aRestore S).2 := by
  unfold aRestore
  by_cases c : S.isK = 0
  · rw [if_pos c]; exact sw_err s
  · rw [if_neg c]; exact sw_r s (wf_cpR (s.2.1 c) s.1 281)
theorem wf_cp281 {f t : Row} (w : WF f) : WF (cpR 281 f t) := wf_from fun i => by
  unfold cpR
  by_cases h : i < 281
  · rw [if_pos h]; exact wf_to w i
  · rw [if_neg h]
    refine okI_no ?_
    unfold limI
    rw [if_neg (by omega), if_neg (by omega), if_neg (by omega), if_neg (by omega), if_neg (by omega), if_neg (by omega), if_neg (by omega), if_neg (by omega), if_neg (by omega), if_neg (by omega)]
theorem sw_image {S : MSt} (s : SW S) : SW (aImage S).2 := ⟨s.1, fun _ => wf_cp281 s.1, s.2.2⟩
theorem sw_voice {S : MSt} (s : SW S) {p a x : Int32} : SW (aVoice S p a x).2 := by
  unfold aVoice
  by_cases c : inB p 0 (S.r 2 - 1) = true
  · rw [if_pos c]
    by_cases c2 : inB a (nI 0) (nI 3) = true
    · rw [if_pos c2]
      exact ⟨s.1, s.2.1, s.2.2.1, ⟨_, rfl, voiceV_le (by show 0 ≤ 40; omega)⟩, s.2.2.2.2⟩
    · rw [if_neg c2]; exact sw_err s
  · rw [if_neg c]; exact sw_err s
