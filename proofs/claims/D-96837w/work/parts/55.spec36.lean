/-! what the acts keep: days, striking, those that change nothing -/
theorem S0_s {V : HV} : (S0 V).size = hI (c129 V) 73 := by unfold S0; exact mS_s
theorem sw_start {V : HV} : SW (S0 V) := by
  refine ⟨?_, fun hk => ?_, fun s hs => ?_, ⟨0, ?_, by decide⟩, fun s hs i hi => ?_⟩
  · rw [S0_r]; exact c_WF
  · rw [S0_k] at hk; exact absurd c_k0 hk
  · rw [S0_s]; exact c_hz s hs
  · rw [S0_m]; exact c_25
  · rw [S0_b, c_72]
    rfl
theorem wf_rs {r r' : Row} (w : WF r) (x : RS r r') (v : RowV r') : WF r' := by
  have pe : ∀ p y, p < 8 → y < 3 → pv r' p y = pv r p y := fun p y h1 h2 => x _ (Or.inr (Or.inr ⟨p, y, h1, h2, rfl⟩))
  have ne : np r' = np r := by unfold np; rw [x 2 (Or.inl (by omega))]
  refine ⟨by rw [ne, x 2 (Or.inl (by omega))]; exact w.n, by rw [ne]; exact w.n8, fun u hu => ?_, fun p hp => ?_, v.1, v.2.1, v.2.2, fun p hp => ?_, ?_, ?_, fun k hk => ?_, fun k hk => ?_⟩
  · rw [x (5 + u) (Or.inl (by omega))]; exact w.T u hu
  · rw [pe p 0 hp (by decide), pe p 1 hp (by decide)]; exact w.K p hp
  · rw [pe p 2 hp (by decide)]; exact w.G p hp
  · rw [x 3 (Or.inl (by omega))]; exact w.A
  · rw [x 4 (Or.inl (by omega))]; exact w.Z
  · rw [x (111 + k) (Or.inr (Or.inl (by omega)))]; exact w.B k hk
  · rw [x (181 + k) (Or.inr (Or.inl (by omega)))]; exact w.C k hk
theorem sw_days {S : MSt} (s : SW S) {c : Int32} : SW (aDays S c).2 := by
  unfold aDays
  by_cases c1 : inB c (nI 1) (nI 60) = true
  · rw [if_pos c1]
    by_cases c2 : nI 9999 < S.r 0 + c
    · rw [if_pos c2]; exact sw_err s
    · rw [if_neg c2]; exact sw_r s (wf_rs s.1 (passR_RS s.1.n8 _) (passR_V s.1.V s.1.K s.1.n8 _))
  · rw [if_neg c1]; exact sw_err s
theorem sw_strike {S : MSt} (s : SW S) : SW (aStrike S).2 := by
  have q := stF_ok s.1.n8 STK S.r 0 s.1.D
  have e : ∀ j, j < 47 ∨ 111 ≤ j → (stR S.r).1 j = S.r j := q.2
  have h8 := s.1.n8
  refine sw_r s (wf_rs s.1 (fun k hk => e k (by rcases hk with h | h | ⟨p, w, h1, h2, h3⟩ <;> omega)) ⟨fun p hp => ?_, fun p hp => ?_, q.1⟩)
  · obtain ⟨k, k1, k2⟩ := s.1.W p hp
    exact ⟨k, (e (7 + 5 * p + 3) (by omega)).trans k1, k2⟩
  · obtain ⟨k, k1, k2⟩ := s.1.H p hp
    exact ⟨k, (e (7 + 5 * p + 4) (by omega)).trans k1, k2⟩
theorem sw_ofPerson {S : MSt} (s : SW S) {p w : Int32} : SW (aOfPerson S p w).2 := by
  unfold aOfPerson
  repeat' split
  all_goals first | exact s | exact sw_err s
theorem sw_owes {S : MSt} (s : SW S) {a b : Int32} : SW (aOwes S a b).2 := by
  unfold aOwes
  repeat' split
  all_goals first | exact s | exact sw_err s
theorem sw_as {S : MSt} (s : SW S) {p q : Int32} : SW (aAs S p q).2 := by
  unfold aAs
  repeat' split
  all_goals first | exact s | exact sw_err s
theorem sw_law {S : MSt} (s : SW S) {u a b c : Int32} : SW (aLaw S u a b c).2 := by
  unfold aLaw
  repeat' split
  all_goals first | exact s | exact sw_err s
theorem sw_then {S : MSt} (s : SW S) {n p q : Int32} : SW (aThen S n p q).2 := by
  unfold aThen
  repeat' split
  all_goals first | exact s | exact sw_err s
theorem sw_net {S : MSt} (s : SW S) {p : Int32} : SW (aNet S p).2 := by
  unfold aNet
  repeat' split
  all_goals first | exact s | exact sw_err s
theorem sw_trace {S : MSt} (s : SW S) {p : Int32} : SW (aTrace S p).2 := by
  unfold aTrace
  repeat' split
  all_goals first | exact s | exact sw_err s
theorem sw_told {S : MSt} (s : SW S) {p : Int32} : SW (aTold S p).2 := by
  unfold aTold
  repeat' split
  all_goals first | exact s | exact sw_err s
theorem sw_dry {S : MSt} (s : SW S) : SW (aDry S).2 := by
  unfold aDry
  repeat' split
  all_goals first | exact s | exact sw_err s
theorem sw_struck {S : MSt} (s : SW S) {q : Int32} : SW (aStruck S q).2 := by
  unfold aStruck
  repeat' split
  all_goals first | exact s | exact sw_err s
theorem sw_odds {S : MSt} (s : SW S) {p q : Int32} : SW (aOdds S p q).2 := by
  unfold aOdds
  repeat' split
  all_goals first | exact s | exact sw_err s
theorem sw_kept {S : MSt} (s : SW S) {p n : Int32} : SW (aKept S p n).2 := by
  unfold aKept
  repeat' split
  all_goals first | exact s | exact sw_err s
