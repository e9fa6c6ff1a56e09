/-! the start: both things new -/
set_option maxRecDepth 100000
theorem c_r0 {V : HV} : hI (c129 V) 67 = ru (ru (ru (fun _ => 0) 1 (nI 1)) 5 (-1)) 6 (-1) := by
  funext j
  show u2 (u2 (u2 (hI (c126 V)) 67 1 (nI 1)) 67 5 (-1)) 67 6 (-1) 67 j = _
  unfold u2 ru
  have e : hI (c126 V) 67 j = 0 := rfl
  by_cases h6 : j = 6
  · simp [h6]
  · by_cases h5 : j = 5
    · simp [h5]
    · by_cases h1 : j = 1
      · simp [h1]
      · simp [h1, h5, h6, e]
theorem c_rz {V : HV} {j : Nat} (h1 : j ≠ 1) (h5 : j ≠ 5) (h6 : j ≠ 6) : hI (c129 V) 67 j = 0 := by
  rw [c_r0, ru_n h6, ru_n h5, ru_n h1]
theorem c_x {V : HV} : LayX (hS (c129 V)) (hR (c129 V)) := by
  unfold LayX
  repeat' apply And.intro
  all_goals rfl
theorem c_l23 {V : HV} : LayL (hS (c129 V)) (hR (c129 V)) 23 := by
  unfold LayL
  repeat' apply And.intro
  all_goals rfl
theorem c_l34 {V : HV} : LayL (hS (c129 V)) (hR (c129 V)) 34 := by
  unfold LayL
  repeat' apply And.intro
  all_goals rfl
theorem c_l45 {V : HV} : LayL (hS (c129 V)) (hR (c129 V)) 45 := by
  unfold LayL
  repeat' apply And.intro
  all_goals rfl
theorem c_m {V : HV} : LayM (hS (c129 V)) (hR (c129 V)) := by
  unfold LayM
  repeat' apply And.intro
  all_goals rfl
theorem c_np {V : HV} : np (hI (c129 V) 67) = 0 := by
  unfold np
  rw [c_rz (by decide) (by decide) (by decide)]
  rfl
def S0 (V : HV) : MSt := mS (c129 V) (hI (c129 V) 67) (hI (c129 V) 66)
theorem c_WF {V : HV} : WF (hI (c129 V) 67) := by
  refine ⟨?_, by rw [c_np]; omega, fun u hu => ?_, fun p hp => ?_, fun p hp => ?_, fun p hp => ?_, fun k hk => ?_, fun p hp => ?_, ?_, ?_, fun k hk => ?_, fun k hk => ?_⟩
  · rw [c_np, c_rz (by decide) (by decide) (by decide)]; rfl
  · left
    rw [c_r0]
    rcases (show u = 0 ∨ u = 1 by omega) with rfl | rfl <;> rfl
  · exact ⟨0, 0, c_rz (j := 7 + 5 * p + 0) (by omega) (by omega) (by omega), by decide, c_rz (j := 7 + 5 * p + 1) (by omega) (by omega) (by omega), by decide⟩
  · exact ⟨0, c_rz (j := 7 + 5 * p + 3) (by omega) (by omega) (by omega), by decide⟩
  · exact ⟨0, c_rz (j := 7 + 5 * p + 4) (by omega) (by omega) (by omega), by decide⟩
  · exact ⟨0, c_rz (by omega) (by omega) (by omega), by decide⟩
  · exact ⟨0, c_rz (j := 7 + 5 * p + 2) (by omega) (by omega) (by omega), by decide⟩
  · exact ⟨0, c_rz (by omega) (by omega) (by omega), by decide⟩
  · exact ⟨0, c_rz (by omega) (by omega) (by omega), by decide⟩
  · exact ⟨0, c_rz (by omega) (by omega) (by omega), by decide⟩
  · exact ⟨0, c_rz (by omega) (by omega) (by omega), by decide⟩
theorem c_hold {V : HV} : HoldL (c129 V) 23 (hI (c129 V) 67) := fun o k i hi => by
  rcases ix_is hi with ⟨rfl, rfl, rfl⟩ | ⟨rfl, rfl, rfl⟩ | ⟨rfl, rfl, rfl⟩ | ⟨rfl, rfl, rfl⟩ | ⟨rfl, rfl, rfl⟩ | ⟨rfl, h, rfl⟩ | ⟨rfl, h, rfl⟩ | ⟨rfl, h, rfl⟩ | ⟨rfl, h, rfl⟩ | ⟨rfl, h, rfl⟩ | ⟨rfl, h, rfl⟩
  · rw [c_rz (by omega) (by omega) (by omega)]; rfl
  · rw [c_rz (by omega) (by omega) (by omega)]; rfl
  · rw [c_r0]; rfl
  · rw [c_rz (by omega) (by omega) (by omega)]; rfl
  · rw [c_rz (by omega) (by omega) (by omega)]; rfl
  · rw [c_rz (by omega) (by omega) (by omega)]; rfl
  · rw [c_rz (by omega) (by omega) (by omega)]; rfl
  · rw [c_rz (by omega) (by omega) (by omega)]; rfl
  · rw [c_rz (by omega) (by omega) (by omega)]; rfl
  · rw [c_rz (by omega) (by omega) (by omega)]; rfl
  · rw [c_rz (by omega) (by omega) (by omega)]; rfl
theorem c_lw {V : HV} : LW (c129 V) 23 (hI (c129 V) 67) := by
  refine ⟨fun p hp => Or.inl ⟨rfl, by rw [c_np]; omega⟩, fun u hu => Or.inl ⟨?_, rfl⟩⟩
  rw [c_r0]
  rcases (show u = 0 ∨ u = 1 by omega) with rfl | rfl <;> rfl
theorem c_k0 {V : HV} : hI (c129 V) 66 4 = 0 := rfl
theorem c_im {V : HV} : hI (c129 V) 21 4 = 0 := rfl
theorem c_im2 {V : HV} : hI (c129 V) 66 5 = 0 := rfl
theorem c_58 {V : HV} {k : Nat} : hI (c129 V) 58 k = 0 := rfl
theorem c_71 {V : HV} {k : Nat} : hI (c129 V) 71 k = 0 := rfl
theorem c_57 {V : HV} {k : Nat} : hI (c129 V) 57 k = 0 := rfl
theorem c_77 {V : HV} {k : Nat} : hI (c129 V) 77 k = 0 := rfl
theorem c_72 {V : HV} {k : Nat} : hI (c129 V) 72 k = 0 := rfl
theorem c_56 {V : HV} : hI (c129 V) 56 1 = 0 := rfl
theorem c_25 {V : HV} : hI (c129 V) 66 25 = 0 := rfl
theorem mSg_k {h : Hp} {r o : Row} : (mS h r o).isK = o 4 := rfl
theorem mSg_i {h : Hp} {r o : Row} : (mS h r o).images = o 5 := rfl
theorem mSg_f {h : Hp} {r o : Row} : (mS h r o).found = hI h 71 := rfl
theorem mSg_t {h : Hp} {r o : Row} : (mS h r o).traced = hI h 77 := rfl
theorem mSg_b {h : Hp} {r o : Row} : (mS h r o).bits = hI h 72 := rfl
theorem mSg_m {h : Hp} {r o : Row} : (mS h r o).many = o 25 := rfl
theorem mSg_r {h : Hp} {r o : Row} : (mS h r o).r = r := rfl
theorem S0_k {V : HV} : (S0 V).isK = hI (c129 V) 66 4 := by unfold S0; exact mSg_k
theorem S0_i {V : HV} : (S0 V).images = hI (c129 V) 66 5 := by unfold S0; exact mSg_i
theorem S0_f {V : HV} : (S0 V).found = hI (c129 V) 71 := by unfold S0; exact mSg_f
theorem S0_t {V : HV} : (S0 V).traced = hI (c129 V) 77 := by unfold S0; exact mSg_t
theorem S0_b {V : HV} : (S0 V).bits = hI (c129 V) 72 := by unfold S0; exact mSg_b
theorem S0_m {V : HV} : (S0 V).many = hI (c129 V) 66 25 := by unfold S0; exact mSg_m
theorem S0_r {V : HV} : (S0 V).r = hI (c129 V) 67 := by unfold S0; exact mSg_r
theorem c_sh {V : HV} : ∀ s, s < 4 → hR (c129 V) (62 + s) 0 = none := fun s hs => by
  rcases (show s = 0 ∨ s = 1 ∨ s = 2 ∨ s = 3 by omega) with rfl | rfl | rfl | rfl <;> rfl
theorem c_t7 {V : HV} : hI (c129 V) 23 7 = -1 := rfl
theorem c_cx {V : HV} : CX (c129 V) (S0 V) := by
  refine ⟨c_x, c_l23, c_l34, c_l45, Nat.le_of_eq c_N.symm, ?_, c_t7, ?_, fun hk => ?_, ?_, fun k h1 h2 => ?_, fun k hk => ?_, ?_, ⟨fun _ => 0, fun s hs => Or.inl ⟨?_, c_sh s hs⟩, fun s s' _ _ _ hb => ?_⟩⟩
  · rw [S0_r]; exact c_hold
  · rw [S0_r]; exact c_lw
  · rw [S0_k] at hk; exact absurd c_k0 hk
  · rw [S0_i]; exact c_im.trans c_im2.symm
  · rw [S0_f]; exact c_58.trans c_71.symm
  · rw [S0_t]; exact c_57.trans c_77.symm
  · rw [S0_m]; exact c_56.trans c_25.symm
  · rw [S0_b]; exact c_72
  · rw [S0_b] at hb; exact absurd c_72 hb
theorem c_mh {V : HV} : MH (c129 V) (hI (c129 V) 67) (hI (c129 V) 66) = c129 V := MH_self _
theorem c_o15 {V : HV} : hI (c129 V) 66 15 = -1 := rfl
theorem c_o25 {V : HV} : hI (c129 V) 66 25 = nI 0 := rfl
theorem c_hz {V : HV} : ∀ s, s < 4 → ∃ j, hI (c129 V) 73 s = nI j ∧ j ≤ 40 := fun s _ => ⟨0, rfl, by decide⟩
