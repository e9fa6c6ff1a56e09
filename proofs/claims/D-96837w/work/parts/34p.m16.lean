theorem X_in {d : Nat} {h : Hp} {v a b : Int32} : gC (d) (0) (0) m_X0_in [.int v, .int a, .int b] (h) (Ret (some (.int (b2 (inB v a b)))) h) := by
  refine gC.of (ls := [some (.int v), some (.int a), some (.int b)]) (by decide +kernel) rfl rfl rfl rfl (Nat.le_of_ble_eq_true rfl) ?_
  refine r_iload_n 0 dX0_in_0 rfl rfl ?_
  refine r_iload_n 1 dX0_in_1 rfl rfl ?_
  refine r_icmp_lt 14 dX0_in_2 (by decide) (fun c_2 => ?_) (fun c_2 => ?_)
  · skip
    refine r_iconst (v := nI 0) dX0_in_14 rfl ?_
    refine e_zret dX0_in_15 rfl (by decide) ?_
    exact ⟨by rw [inB_f1 c_2]; rfl, rfl⟩
  · skip
    refine r_iload_n 0 dX0_in_5 rfl rfl ?_
    refine r_iload_n 2 dX0_in_6 rfl rfl ?_
    refine r_icmp_gt 14 dX0_in_7 (by decide) (fun c_7 => ?_) (fun c_7 => ?_)
    · skip
      refine r_iconst (v := nI 0) dX0_in_14 rfl ?_
      refine e_zret dX0_in_15 rfl (by decide) ?_
      exact ⟨by rw [inB_f2 c_7]; rfl, rfl⟩
    · skip
      refine r_iconst (v := nI 1) dX0_in_10 rfl ?_
      refine r_goto 15 dX0_in_11 (by decide) ?_
      refine e_zret dX0_in_15 rfl (by decide) ?_
      exact ⟨by rw [inB_t (i_nlt c_2) (i_nlt c_7)]; rfl, rfl⟩
theorem X_of {d : Nat} {h : Hp} (hx : LayX (hS h) (hR h)) {v : Int32} : gC (d) (0) (0) m_X1_of [.ref 22, .int v] (h) (Ret (some (.ref 22)) (wI h 22 6 v)) := by
  refine gC.of (ls := [some (.ref 22), some (.int v)]) (by decide +kernel) rfl rfl rfl rfl (Nat.le_of_ble_eq_true rfl) ?_
  refine r_aload_n 0 dX1_of_0 rfl rfl rfl ?_
  refine r_iload_n 1 dX1_of_1 rfl rfl ?_
  refine r_puti (k := 6) dX1_of_2 hx.s22 rfl (by decide) (Or.inl q178) (Or.inl rfl) (Or.inl rfl) rfl rfl rfl ?_
  refine r_aload_n 0 dX1_of_5 rfl rfl rfl ?_
  refine e_aret dX1_of_6 rfl (Or.inl ⟨_, rfl⟩) rfl ?_
  exact ⟨rfl, rfl⟩
theorem X_need_1 {d : Nat} {h : Hp} (hx : LayX (hS h) (hR h)) {k : Nat} : gC (d + 1) (0) (0) m_X0_need [.ref 21, .int (nI 1), .int (nI k)] (h) (Ret none h) := by
  refine gC.of (ls := [some (.ref 21), some (.int (nI 1)), some (.int (nI k))]) (by decide +kernel) rfl rfl rfl rfl (Nat.le_of_ble_eq_true rfl) ?_
  refine r_iload_n 1 dX0_need_0 rfl rfl ?_
  refine r_if_ne 13 dX0_need_1 (by decide) (fun c_1 => ?_) (fun c_1 => ?_)
  · skip
    have n_1 : ¬ 1 = 0 := n_ne0 (by omega) c_1
    refine e_vret dX0_need_13 rfl ?_
    exact ⟨rfl, rfl⟩
  · skip
    have n_1 : 1 = 0 := n_eq0 (by omega) c_1
    exact absurd n_1 (by decide)
theorem X_need_0 {d : Nat} {h : Hp} (hx : LayX (hS h) (hR h)) {k : Nat} : gC (d + 1) (0) (0) m_X0_need [.ref 21, .int (nI 0), .int (nI k)] (h) ((fun out h' => out = .inr 22 ∧ h' = wI h 22 6 (nI k))) := by
  refine gC.of (ls := [some (.ref 21), some (.int (nI 0)), some (.int (nI k))]) (by decide +kernel) rfl rfl rfl rfl (Nat.le_of_ble_eq_true rfl) ?_
  refine r_iload_n 1 dX0_need_0 rfl rfl ?_
  refine r_if_ne 13 dX0_need_1 (by decide) (fun c_1 => ?_) (fun c_1 => ?_)
  · skip
    have n_1 : ¬ 0 = 0 := n_ne0 (by omega) c_1
    exact absurd n_1 (by decide)
  · skip
    have n_1 : 0 = 0 := n_eq0 (by omega) c_1
    refine r_aload_n 0 dX0_need_4 rfl rfl rfl ?_
    refine r_getr (k := 0) (b := 22) dX0_need_5 hx.s21 rfl (by decide) (Or.inl q305) (Or.inl rfl) rfl hx.r_finding ?_
    refine r_iload_n 2 dX0_need_8 rfl rfl ?_
    refine r_callV_1 dX0_need_9 kX0_7 (X_of hx) (gRecv.of hx.s22 rfl) rfl rfl (Nat.le_of_ble_eq_true rfl) ?_
    refine r_athrow dX0_need_12 hx.s22 rfl ?_
    exact t_out hx.s22 rfl rfl ⟨rfl, rfl⟩
theorem X_finds {d : Nat} {h : Hp} (hx : LayX (hS h) (hR h)) {k : Nat} (h6 : k < 6) : gC (d) (0) (0) m_X0_finds [.ref 21, .ref 22] ((wI h 22 6 (nI k))) (Ret (some (.int (-1000000000 - nI k))) (wI (wI h 22 6 (nI k)) 58 k (hI h 58 k + nI 1))) := by
  refine gC.of (ls := [some (.ref 21), some (.ref 22)]) (by decide +kernel) rfl rfl rfl rfl (Nat.le_of_ble_eq_true rfl) ?_
  refine r_aload_n 0 dX0_finds_0 rfl rfl rfl ?_
  refine r_getr (k := 6) (b := 58) dX0_finds_1 hx.s21 rfl (by decide) (Or.inl q311) (Or.inl rfl) rfl hx.r_errors ?_
  refine r_aload_n 1 dX0_finds_4 rfl rfl rfl ?_
  refine r_geti (k := 6) dX0_finds_5 hx.s22 rfl (by decide) (Or.inr ⟨_, q179⟩) (Or.inl rfl) rfl ?_
  refine r_eqi (show _ = nI (k) from rfl) ?_
  refine r_dup2 dX0_finds_8 rfl rfl ?_
  refine r_ialdN (k) dX0_finds_9 hx.s58 rfl (by omega) (by decide) ?_
  refine r_iconst (v := nI 1) dX0_finds_10 rfl ?_
  refine r_iadd dX0_finds_11 ?_
  refine r_iastN (k) dX0_finds_12 hx.s58 rfl (by omega) (by decide) ?_
  refine r_ldc (v := -1000000000) dX0_finds_13 q457 ?_
  refine r_aload_n 1 dX0_finds_15 rfl rfl rfl ?_
  refine r_geti (k := 6) dX0_finds_16 hx.s22 rfl (by decide) (Or.inr ⟨_, q179⟩) (Or.inl rfl) rfl ?_
  refine r_eqi (show _ = nI (k) from rfl) ?_
  refine r_isub dX0_finds_19 ?_
  refine e_iret dX0_finds_20 rfl ?_
  exact ⟨rfl, rfl⟩
