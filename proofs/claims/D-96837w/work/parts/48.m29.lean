theorem I_X7_init_0 {d : Nat} {h : Hp} {a : Nat} {p m : Int32} (hs : hS h a = .inl 7) (h21 : 21 ≤ a) : gC (d + 1) (0) (0) m_X7_init [.ref a, .ref 56, .int p, .int m] (h) (Ret none (wI (wI (wR h a 0 (some 56)) a 1 p) a 2 m)) := by
  refine gC.of (ls := [some (.ref a), some (.ref 56), some (.int p), some (.int m)]) (by decide +kernel) rfl rfl rfl rfl (Nat.le_of_ble_eq_true rfl) ?_
  refine r_aload_n 0 dX7_init_0 rfl rfl rfl ?_
  refine r_objInit dX7_init_1 kX7_3 kO_i kO_c (by omega) (by decide) ?_
  refine r_aload_n 0 dX7_init_4 rfl rfl rfl ?_
  refine r_aload_n 1 dX7_init_5 rfl rfl rfl ?_
  refine r_putr (k := 0) (some (56)) dX7_init_6 hs rfl (by decide) (Or.inl q363) (Or.inl rfl) (Or.inr ⟨rfl, rfl, rfl, q363⟩) rfl rfl ?_
  refine r_aload_n 0 dX7_init_9 rfl rfl rfl ?_
  refine r_iload_n 2 dX7_init_10 rfl rfl ?_
  refine r_puti (k := 1) dX7_init_11 hs rfl (by decide) (Or.inl q376) (Or.inl rfl) (Or.inr ⟨rfl, rfl, rfl, q376⟩) rfl rfl rfl ?_
  refine r_aload_n 0 dX7_init_14 rfl rfl rfl ?_
  refine r_iload_n 3 dX7_init_15 rfl rfl ?_
  refine r_puti (k := 2) dX7_init_16 hs rfl (by decide) (Or.inl q379) (Or.inl rfl) (Or.inr ⟨rfl, rfl, rfl, q379⟩) rfl rfl rfl ?_
  refine e_vret dX7_init_19 rfl ?_
  exact ⟨rfl, rfl⟩
theorem I_X7_init_1 {d : Nat} {h : Hp} {a : Nat} {p m : Int32} (hs : hS h a = .inl 8) (h21 : 21 ≤ a) : gC (d + 1) (0) (0) m_X7_init [.ref a, .ref 56, .int p, .int m] (h) (Ret none (wI (wI (wR h a 0 (some 56)) a 1 p) a 2 m)) := by
  refine gC.of (ls := [some (.ref a), some (.ref 56), some (.int p), some (.int m)]) (by decide +kernel) rfl rfl rfl rfl (Nat.le_of_ble_eq_true rfl) ?_
  refine r_aload_n 0 dX7_init_0 rfl rfl rfl ?_
  refine r_objInit dX7_init_1 kX7_3 kO_i kO_c (by omega) (by decide) ?_
  refine r_aload_n 0 dX7_init_4 rfl rfl rfl ?_
  refine r_aload_n 1 dX7_init_5 rfl rfl rfl ?_
  refine r_putr (k := 0) (some (56)) dX7_init_6 hs rfl (by decide) (Or.inl q363) (Or.inl rfl) (Or.inr ⟨rfl, rfl, rfl, q363⟩) rfl rfl ?_
  refine r_aload_n 0 dX7_init_9 rfl rfl rfl ?_
  refine r_iload_n 2 dX7_init_10 rfl rfl ?_
  refine r_puti (k := 1) dX7_init_11 hs rfl (by decide) (Or.inl q376) (Or.inl rfl) (Or.inr ⟨rfl, rfl, rfl, q376⟩) rfl rfl rfl ?_
  refine r_aload_n 0 dX7_init_14 rfl rfl rfl ?_
  refine r_iload_n 3 dX7_init_15 rfl rfl ?_
  refine r_puti (k := 2) dX7_init_16 hs rfl (by decide) (Or.inl q379) (Or.inl rfl) (Or.inr ⟨rfl, rfl, rfl, q379⟩) rfl rfl rfl ?_
  refine e_vret dX7_init_19 rfl ?_
  exact ⟨rfl, rfl⟩
theorem I_X8_init_1 {d : Nat} {h : Hp} {a : Nat} {p m : Int32} (hs : hS h a = .inl 8) (h21 : 21 ≤ a) : gC (d + 2) (0) (0) m_X8_init [.ref a, .ref 56, .int p, .int m] (h) (Ret none (wI (wI (wR h a 0 (some 56)) a 1 p) a 2 m)) := by
  refine gC.of (ls := [some (.ref a), some (.ref 56), some (.int p), some (.int m)]) (by decide +kernel) rfl rfl rfl rfl (Nat.le_of_ble_eq_true rfl) ?_
  refine r_aload_n 0 dX8_init_0 rfl rfl rfl ?_
  refine r_aload_n 1 dX8_init_1 rfl rfl rfl ?_
  refine r_iload_n 2 dX8_init_2 rfl rfl ?_
  refine r_iload_n 3 dX8_init_3 rfl rfl ?_
  refine r_callI_0 dX8_init_4 kX8_3 (I_X7_init_1 hs h21) (by omega) rfl rfl (Nat.le_of_ble_eq_true rfl) ?_
  refine e_vret dX8_init_7 rfl ?_
  exact ⟨rfl, rfl⟩
theorem I_X7_init_2 {d : Nat} {h : Hp} {a : Nat} {p m : Int32} (hs : hS h a = .inl 9) (h21 : 21 ≤ a) : gC (d + 1) (0) (0) m_X7_init [.ref a, .ref 56, .int p, .int m] (h) (Ret none (wI (wI (wR h a 0 (some 56)) a 1 p) a 2 m)) := by
  refine gC.of (ls := [some (.ref a), some (.ref 56), some (.int p), some (.int m)]) (by decide +kernel) rfl rfl rfl rfl (Nat.le_of_ble_eq_true rfl) ?_
  refine r_aload_n 0 dX7_init_0 rfl rfl rfl ?_
  refine r_objInit dX7_init_1 kX7_3 kO_i kO_c (by omega) (by decide) ?_
  refine r_aload_n 0 dX7_init_4 rfl rfl rfl ?_
  refine r_aload_n 1 dX7_init_5 rfl rfl rfl ?_
  refine r_putr (k := 0) (some (56)) dX7_init_6 hs rfl (by decide) (Or.inl q363) (Or.inl rfl) (Or.inr ⟨rfl, rfl, rfl, q363⟩) rfl rfl ?_
  refine r_aload_n 0 dX7_init_9 rfl rfl rfl ?_
  refine r_iload_n 2 dX7_init_10 rfl rfl ?_
  refine r_puti (k := 1) dX7_init_11 hs rfl (by decide) (Or.inl q376) (Or.inl rfl) (Or.inr ⟨rfl, rfl, rfl, q376⟩) rfl rfl rfl ?_
  refine r_aload_n 0 dX7_init_14 rfl rfl rfl ?_
  refine r_iload_n 3 dX7_init_15 rfl rfl ?_
  refine r_puti (k := 2) dX7_init_16 hs rfl (by decide) (Or.inl q379) (Or.inl rfl) (Or.inr ⟨rfl, rfl, rfl, q379⟩) rfl rfl rfl ?_
  refine e_vret dX7_init_19 rfl ?_
  exact ⟨rfl, rfl⟩
theorem I_X9_init_2 {d : Nat} {h : Hp} {a : Nat} {p m : Int32} (hs : hS h a = .inl 9) (h21 : 21 ≤ a) : gC (d + 2) (0) (0) m_X9_init [.ref a, .ref 56, .int p, .int m] (h) (Ret none (wI (wI (wR h a 0 (some 56)) a 1 p) a 2 m)) := by
  refine gC.of (ls := [some (.ref a), some (.ref 56), some (.int p), some (.int m)]) (by decide +kernel) rfl rfl rfl rfl (Nat.le_of_ble_eq_true rfl) ?_
  refine r_aload_n 0 dX9_init_0 rfl rfl rfl ?_
  refine r_aload_n 1 dX9_init_1 rfl rfl rfl ?_
  refine r_iload_n 2 dX9_init_2 rfl rfl ?_
  refine r_iload_n 3 dX9_init_3 rfl rfl ?_
  refine r_callI_0 dX9_init_4 kX9_3 (I_X7_init_2 hs h21) (by omega) rfl rfl (Nat.le_of_ble_eq_true rfl) ?_
  refine e_vret dX9_init_7 rfl ?_
  exact ⟨rfl, rfl⟩
theorem I_X7_init_3 {d : Nat} {h : Hp} {a : Nat} {p m : Int32} (hs : hS h a = .inl 10) (h21 : 21 ≤ a) : gC (d + 1) (0) (0) m_X7_init [.ref a, .ref 56, .int p, .int m] (h) (Ret none (wI (wI (wR h a 0 (some 56)) a 1 p) a 2 m)) := by
  refine gC.of (ls := [some (.ref a), some (.ref 56), some (.int p), some (.int m)]) (by decide +kernel) rfl rfl rfl rfl (Nat.le_of_ble_eq_true rfl) ?_
  refine r_aload_n 0 dX7_init_0 rfl rfl rfl ?_
  refine r_objInit dX7_init_1 kX7_3 kO_i kO_c (by omega) (by decide) ?_
  refine r_aload_n 0 dX7_init_4 rfl rfl rfl ?_
  refine r_aload_n 1 dX7_init_5 rfl rfl rfl ?_
  refine r_putr (k := 0) (some (56)) dX7_init_6 hs rfl (by decide) (Or.inl q363) (Or.inl rfl) (Or.inr ⟨rfl, rfl, rfl, q363⟩) rfl rfl ?_
  refine r_aload_n 0 dX7_init_9 rfl rfl rfl ?_
  refine r_iload_n 2 dX7_init_10 rfl rfl ?_
  refine r_puti (k := 1) dX7_init_11 hs rfl (by decide) (Or.inl q376) (Or.inl rfl) (Or.inr ⟨rfl, rfl, rfl, q376⟩) rfl rfl rfl ?_
  refine r_aload_n 0 dX7_init_14 rfl rfl rfl ?_
  refine r_iload_n 3 dX7_init_15 rfl rfl ?_
  refine r_puti (k := 2) dX7_init_16 hs rfl (by decide) (Or.inl q379) (Or.inl rfl) (Or.inr ⟨rfl, rfl, rfl, q379⟩) rfl rfl rfl ?_
  refine e_vret dX7_init_19 rfl ?_
  exact ⟨rfl, rfl⟩
theorem I_X10_init_3 {d : Nat} {h : Hp} {a : Nat} {p m : Int32} (hs : hS h a = .inl 10) (h21 : 21 ≤ a) : gC (d + 2) (0) (0) m_X10_init [.ref a, .ref 56, .int p, .int m] (h) (Ret none (wI (wI (wR h a 0 (some 56)) a 1 p) a 2 m)) := by
  refine gC.of (ls := [some (.ref a), some (.ref 56), some (.int p), some (.int m)]) (by decide +kernel) rfl rfl rfl rfl (Nat.le_of_ble_eq_true rfl) ?_
  refine r_aload_n 0 dX10_init_0 rfl rfl rfl ?_
  refine r_aload_n 1 dX10_init_1 rfl rfl rfl ?_
  refine r_iload_n 2 dX10_init_2 rfl rfl ?_
  refine r_iload_n 3 dX10_init_3 rfl rfl ?_
  refine r_callI_0 dX10_init_4 kX10_3 (I_X7_init_3 hs h21) (by omega) rfl rfl (Nat.le_of_ble_eq_true rfl) ?_
  refine e_vret dX10_init_7 rfl ?_
  exact ⟨rfl, rfl⟩
theorem I_X7_init_4 {d : Nat} {h : Hp} {a : Nat} {p m : Int32} (hs : hS h a = .inl 11) (h21 : 21 ≤ a) : gC (d + 1) (0) (0) m_X7_init [.ref a, .ref 56, .int p, .int m] (h) (Ret none (wI (wI (wR h a 0 (some 56)) a 1 p) a 2 m)) := by
  refine gC.of (ls := [some (.ref a), some (.ref 56), some (.int p), some (.int m)]) (by decide +kernel) rfl rfl rfl rfl (Nat.le_of_ble_eq_true rfl) ?_
  refine r_aload_n 0 dX7_init_0 rfl rfl rfl ?_
  refine r_objInit dX7_init_1 kX7_3 kO_i kO_c (by omega) (by decide) ?_
  refine r_aload_n 0 dX7_init_4 rfl rfl rfl ?_
  refine r_aload_n 1 dX7_init_5 rfl rfl rfl ?_
  refine r_putr (k := 0) (some (56)) dX7_init_6 hs rfl (by decide) (Or.inl q363) (Or.inl rfl) (Or.inr ⟨rfl, rfl, rfl, q363⟩) rfl rfl ?_
  refine r_aload_n 0 dX7_init_9 rfl rfl rfl ?_
  refine r_iload_n 2 dX7_init_10 rfl rfl ?_
  refine r_puti (k := 1) dX7_init_11 hs rfl (by decide) (Or.inl q376) (Or.inl rfl) (Or.inr ⟨rfl, rfl, rfl, q376⟩) rfl rfl rfl ?_
  refine r_aload_n 0 dX7_init_14 rfl rfl rfl ?_
  refine r_iload_n 3 dX7_init_15 rfl rfl ?_
  refine r_puti (k := 2) dX7_init_16 hs rfl (by decide) (Or.inl q379) (Or.inl rfl) (Or.inr ⟨rfl, rfl, rfl, q379⟩) rfl rfl rfl ?_
  refine e_vret dX7_init_19 rfl ?_
  exact ⟨rfl, rfl⟩
theorem I_X8_init_4 {d : Nat} {h : Hp} {a : Nat} {p m : Int32} (hs : hS h a = .inl 11) (h21 : 21 ≤ a) : gC (d + 2) (0) (0) m_X8_init [.ref a, .ref 56, .int p, .int m] (h) (Ret none (wI (wI (wR h a 0 (some 56)) a 1 p) a 2 m)) := by
  refine gC.of (ls := [some (.ref a), some (.ref 56), some (.int p), some (.int m)]) (by decide +kernel) rfl rfl rfl rfl (Nat.le_of_ble_eq_true rfl) ?_
  refine r_aload_n 0 dX8_init_0 rfl rfl rfl ?_
  refine r_aload_n 1 dX8_init_1 rfl rfl rfl ?_
  refine r_iload_n 2 dX8_init_2 rfl rfl ?_
  refine r_iload_n 3 dX8_init_3 rfl rfl ?_
  refine r_callI_0 dX8_init_4 kX8_3 (I_X7_init_4 hs h21) (by omega) rfl rfl (Nat.le_of_ble_eq_true rfl) ?_
  refine e_vret dX8_init_7 rfl ?_
  exact ⟨rfl, rfl⟩
theorem I_X11_init_4 {d : Nat} {h : Hp} {a : Nat} {p m : Int32} (hs : hS h a = .inl 11) (h21 : 21 ≤ a) : gC (d + 3) (0) (0) m_X11_init [.ref a, .ref 56, .int p, .int m] (h) (Ret none (wI (wI (wR h a 0 (some 56)) a 1 p) a 2 m)) := by
  refine gC.of (ls := [some (.ref a), some (.ref 56), some (.int p), some (.int m)]) (by decide +kernel) rfl rfl rfl rfl (Nat.le_of_ble_eq_true rfl) ?_
  refine r_aload_n 0 dX11_init_0 rfl rfl rfl ?_
  refine r_aload_n 1 dX11_init_1 rfl rfl rfl ?_
  refine r_iload_n 2 dX11_init_2 rfl rfl ?_
  refine r_iload_n 3 dX11_init_3 rfl rfl ?_
  refine r_callI_0 dX11_init_4 kX11_3 (I_X8_init_4 hs h21) (by omega) rfl rfl (Nat.le_of_ble_eq_true rfl) ?_
  refine e_vret dX11_init_7 rfl ?_
  exact ⟨rfl, rfl⟩
theorem I_X7_init_5 {d : Nat} {h : Hp} {a : Nat} {p m : Int32} (hs : hS h a = .inl 12) (h21 : 21 ≤ a) : gC (d + 1) (0) (0) m_X7_init [.ref a, .ref 56, .int p, .int m] (h) (Ret none (wI (wI (wR h a 0 (some 56)) a 1 p) a 2 m)) := by
  refine gC.of (ls := [some (.ref a), some (.ref 56), some (.int p), some (.int m)]) (by decide +kernel) rfl rfl rfl rfl (Nat.le_of_ble_eq_true rfl) ?_
  refine r_aload_n 0 dX7_init_0 rfl rfl rfl ?_
  refine r_objInit dX7_init_1 kX7_3 kO_i kO_c (by omega) (by decide) ?_
  refine r_aload_n 0 dX7_init_4 rfl rfl rfl ?_
  refine r_aload_n 1 dX7_init_5 rfl rfl rfl ?_
  refine r_putr (k := 0) (some (56)) dX7_init_6 hs rfl (by decide) (Or.inl q363) (Or.inl rfl) (Or.inr ⟨rfl, rfl, rfl, q363⟩) rfl rfl ?_
  refine r_aload_n 0 dX7_init_9 rfl rfl rfl ?_
  refine r_iload_n 2 dX7_init_10 rfl rfl ?_
  refine r_puti (k := 1) dX7_init_11 hs rfl (by decide) (Or.inl q376) (Or.inl rfl) (Or.inr ⟨rfl, rfl, rfl, q376⟩) rfl rfl rfl ?_
  refine r_aload_n 0 dX7_init_14 rfl rfl rfl ?_
  refine r_iload_n 3 dX7_init_15 rfl rfl ?_
  refine r_puti (k := 2) dX7_init_16 hs rfl (by decide) (Or.inl q379) (Or.inl rfl) (Or.inr ⟨rfl, rfl, rfl, q379⟩) rfl rfl rfl ?_
  refine e_vret dX7_init_19 rfl ?_
  exact ⟨rfl, rfl⟩
theorem I_X9_init_5 {d : Nat} {h : Hp} {a : Nat} {p m : Int32} (hs : hS h a = .inl 12) (h21 : 21 ≤ a) : gC (d + 2) (0) (0) m_X9_init [.ref a, .ref 56, .int p, .int m] (h) (Ret none (wI (wI (wR h a 0 (some 56)) a 1 p) a 2 m)) := by
  refine gC.of (ls := [some (.ref a), some (.ref 56), some (.int p), some (.int m)]) (by decide +kernel) rfl rfl rfl rfl (Nat.le_of_ble_eq_true rfl) ?_
  refine r_aload_n 0 dX9_init_0 rfl rfl rfl ?_
  refine r_aload_n 1 dX9_init_1 rfl rfl rfl ?_
  refine r_iload_n 2 dX9_init_2 rfl rfl ?_
  refine r_iload_n 3 dX9_init_3 rfl rfl ?_
  refine r_callI_0 dX9_init_4 kX9_3 (I_X7_init_5 hs h21) (by omega) rfl rfl (Nat.le_of_ble_eq_true rfl) ?_
  refine e_vret dX9_init_7 rfl ?_
  exact ⟨rfl, rfl⟩
theorem I_X12_init_5 {d : Nat} {h : Hp} {a : Nat} {p m : Int32} (hs : hS h a = .inl 12) (h21 : 21 ≤ a) : gC (d + 3) (0) (0) m_X12_init [.ref a, .ref 56, .int p, .int m] (h) (Ret none (wI (wI (wR h a 0 (some 56)) a 1 p) a 2 m)) := by
  refine gC.of (ls := [some (.ref a), some (.ref 56), some (.int p), some (.int m)]) (by decide +kernel) rfl rfl rfl rfl (Nat.le_of_ble_eq_true rfl) ?_
  refine r_aload_n 0 dX12_init_0 rfl rfl rfl ?_
  refine r_aload_n 1 dX12_init_1 rfl rfl rfl ?_
  refine r_iload_n 2 dX12_init_2 rfl rfl ?_
  refine r_iload_n 3 dX12_init_3 rfl rfl ?_
  refine r_callI_0 dX12_init_4 kX12_3 (I_X9_init_5 hs h21) (by omega) rfl rfl (Nat.le_of_ble_eq_true rfl) ?_
  refine e_vret dX12_init_7 rfl ?_
  exact ⟨rfl, rfl⟩
theorem I_X7_init_6 {d : Nat} {h : Hp} {a : Nat} {p m : Int32} (hs : hS h a = .inl 13) (h21 : 21 ≤ a) : gC (d + 1) (0) (0) m_X7_init [.ref a, .ref 56, .int p, .int m] (h) (Ret none (wI (wI (wR h a 0 (some 56)) a 1 p) a 2 m)) := by
  refine gC.of (ls := [some (.ref a), some (.ref 56), some (.int p), some (.int m)]) (by decide +kernel) rfl rfl rfl rfl (Nat.le_of_ble_eq_true rfl) ?_
  refine r_aload_n 0 dX7_init_0 rfl rfl rfl ?_
  refine r_objInit dX7_init_1 kX7_3 kO_i kO_c (by omega) (by decide) ?_
  refine r_aload_n 0 dX7_init_4 rfl rfl rfl ?_
  refine r_aload_n 1 dX7_init_5 rfl rfl rfl ?_
  refine r_putr (k := 0) (some (56)) dX7_init_6 hs rfl (by decide) (Or.inl q363) (Or.inl rfl) (Or.inr ⟨rfl, rfl, rfl, q363⟩) rfl rfl ?_
  refine r_aload_n 0 dX7_init_9 rfl rfl rfl ?_
  refine r_iload_n 2 dX7_init_10 rfl rfl ?_
  refine r_puti (k := 1) dX7_init_11 hs rfl (by decide) (Or.inl q376) (Or.inl rfl) (Or.inr ⟨rfl, rfl, rfl, q376⟩) rfl rfl rfl ?_
  refine r_aload_n 0 dX7_init_14 rfl rfl rfl ?_
  refine r_iload_n 3 dX7_init_15 rfl rfl ?_
  refine r_puti (k := 2) dX7_init_16 hs rfl (by decide) (Or.inl q379) (Or.inl rfl) (Or.inr ⟨rfl, rfl, rfl, q379⟩) rfl rfl rfl ?_
  refine e_vret dX7_init_19 rfl ?_
  exact ⟨rfl, rfl⟩
theorem I_X10_init_6 {d : Nat} {h : Hp} {a : Nat} {p m : Int32} (hs : hS h a = .inl 13) (h21 : 21 ≤ a) : gC (d + 2) (0) (0) m_X10_init [.ref a, .ref 56, .int p, .int m] (h) (Ret none (wI (wI (wR h a 0 (some 56)) a 1 p) a 2 m)) := by
  refine gC.of (ls := [some (.ref a), some (.ref 56), some (.int p), some (.int m)]) (by decide +kernel) rfl rfl rfl rfl (Nat.le_of_ble_eq_true rfl) ?_
  refine r_aload_n 0 dX10_init_0 rfl rfl rfl ?_
  refine r_aload_n 1 dX10_init_1 rfl rfl rfl ?_
  refine r_iload_n 2 dX10_init_2 rfl rfl ?_
  refine r_iload_n 3 dX10_init_3 rfl rfl ?_
  refine r_callI_0 dX10_init_4 kX10_3 (I_X7_init_6 hs h21) (by omega) rfl rfl (Nat.le_of_ble_eq_true rfl) ?_
  refine e_vret dX10_init_7 rfl ?_
  exact ⟨rfl, rfl⟩
theorem I_X13_init_6 {d : Nat} {h : Hp} {a : Nat} {p m : Int32} (hs : hS h a = .inl 13) (h21 : 21 ≤ a) : gC (d + 3) (0) (0) m_X13_init [.ref a, .ref 56, .int p, .int m] (h) (Ret none (wI (wI (wR h a 0 (some 56)) a 1 p) a 2 m)) := by
  refine gC.of (ls := [some (.ref a), some (.ref 56), some (.int p), some (.int m)]) (by decide +kernel) rfl rfl rfl rfl (Nat.le_of_ble_eq_true rfl) ?_
  refine r_aload_n 0 dX13_init_0 rfl rfl rfl ?_
  refine r_aload_n 1 dX13_init_1 rfl rfl rfl ?_
  refine r_iload_n 2 dX13_init_2 rfl rfl ?_
  refine r_iload_n 3 dX13_init_3 rfl rfl ?_
  refine r_callI_0 dX13_init_4 kX13_3 (I_X10_init_6 hs h21) (by omega) rfl rfl (Nat.le_of_ble_eq_true rfl) ?_
  refine e_vret dX13_init_7 rfl ?_
  exact ⟨rfl, rfl⟩
theorem X_oneOf {d : Nat} {h : Hp} {k : Nat} {p m : Int32} (hk : k < 7) (h78 : 78 ≤ hN h) : gC (d + 4) (1) (3) m_X0_oneOf [.int (nI k), .ref 56, .int p, .int m] (h) (Ret (some (.ref (hN h))) (nP h k p m)) := by
  refine gC.of (ls := [some (.int (nI k)), some (.ref 56), some (.int p), some (.int m)]) (by decide +kernel) rfl rfl rfl rfl (Nat.le_of_ble_eq_true rfl) ?_
  refine r_iload_n 0 dX0_oneOf_0 rfl rfl ?_
  rcases (show k = 0 ∨ k = 1 ∨ k = 2 ∨ k = 3 ∨ k = 4 ∨ k = 5 ∨ k = 6 by omega) with rfl | rfl | rfl | rfl | rfl | rfl | rfl
  · skip
    refine r_tabOut 106 dX0_oneOf_1 (by decide) (by decide) ?_
    refine gG_w (mc := 0 + 1) (ms := 0 + 3) (by omega) (by omega) ?_
    refine r_new (ci := 7) dX0_oneOf_106 rfl (by decide) q443 q444 q92 ?_
    refine r_dup dX0_oneOf_109 rfl ?_
    refine r_aload_n 1 dX0_oneOf_110 rfl rfl rfl ?_
    refine r_iload_n 2 dX0_oneOf_111 rfl rfl ?_
    refine r_iload_n 3 dX0_oneOf_112 rfl rfl ?_
    refine r_callI_0 dX0_oneOf_113 kX0_36 (I_X7_init_0 hM_Sn (by omega)) (by omega) rfl rfl (Nat.le_of_ble_eq_true rfl) ?_
    refine e_aret dX0_oneOf_116 rfl (Or.inl ⟨_, rfl⟩) rfl ?_
    exact ⟨rfl, rfl⟩
  · skip
    refine r_tabIn 40 (off := 39) dX0_oneOf_1 (by decide) (by decide) (by decide +kernel) (by decide) ?_
    refine gG_w (mc := 0 + 1) (ms := 0 + 3) (by omega) (by omega) ?_
    refine r_new (ci := 8) dX0_oneOf_40 rfl (by decide) q354 q355 q93 ?_
    refine r_dup dX0_oneOf_43 rfl ?_
    refine r_aload_n 1 dX0_oneOf_44 rfl rfl rfl ?_
    refine r_iload_n 2 dX0_oneOf_45 rfl rfl ?_
    refine r_iload_n 3 dX0_oneOf_46 rfl rfl ?_
    refine r_callI_0 dX0_oneOf_47 kX0_15 (I_X8_init_1 hM_Sn (by omega)) (by omega) rfl rfl (Nat.le_of_ble_eq_true rfl) ?_
    refine e_aret dX0_oneOf_50 rfl (Or.inl ⟨_, rfl⟩) rfl ?_
    exact ⟨rfl, rfl⟩
  · skip
    refine r_tabIn 51 (off := 50) dX0_oneOf_1 (by decide) (by decide) (by decide +kernel) (by decide) ?_
    refine gG_w (mc := 0 + 1) (ms := 0 + 3) (by omega) (by omega) ?_
    refine r_new (ci := 9) dX0_oneOf_51 rfl (by decide) q393 q394 q94 ?_
    refine r_dup dX0_oneOf_54 rfl ?_
    refine r_aload_n 1 dX0_oneOf_55 rfl rfl rfl ?_
    refine r_iload_n 2 dX0_oneOf_56 rfl rfl ?_
    refine r_iload_n 3 dX0_oneOf_57 rfl rfl ?_
    refine r_callI_0 dX0_oneOf_58 kX0_21 (I_X9_init_2 hM_Sn (by omega)) (by omega) rfl rfl (Nat.le_of_ble_eq_true rfl) ?_
    refine e_aret dX0_oneOf_61 rfl (Or.inl ⟨_, rfl⟩) rfl ?_
    exact ⟨rfl, rfl⟩
  · skip
    refine r_tabIn 62 (off := 61) dX0_oneOf_1 (by decide) (by decide) (by decide +kernel) (by decide) ?_
    refine gG_w (mc := 0 + 1) (ms := 0 + 3) (by omega) (by omega) ?_
    refine r_new (ci := 10) dX0_oneOf_62 rfl (by decide) q403 q404 q95 ?_
    refine r_dup dX0_oneOf_65 rfl ?_
    refine r_aload_n 1 dX0_oneOf_66 rfl rfl rfl ?_
    refine r_iload_n 2 dX0_oneOf_67 rfl rfl ?_
    refine r_iload_n 3 dX0_oneOf_68 rfl rfl ?_
    refine r_callI_0 dX0_oneOf_69 kX0_24 (I_X10_init_3 hM_Sn (by omega)) (by omega) rfl rfl (Nat.le_of_ble_eq_true rfl) ?_
    refine e_aret dX0_oneOf_72 rfl (Or.inl ⟨_, rfl⟩) rfl ?_
    exact ⟨rfl, rfl⟩
  · skip
    refine r_tabIn 73 (off := 72) dX0_oneOf_1 (by decide) (by decide) (by decide +kernel) (by decide) ?_
    refine gG_w (mc := 0 + 1) (ms := 0 + 3) (by omega) (by omega) ?_
    refine r_new (ci := 11) dX0_oneOf_73 rfl (by decide) q413 q414 q96 ?_
    refine r_dup dX0_oneOf_76 rfl ?_
    refine r_aload_n 1 dX0_oneOf_77 rfl rfl rfl ?_
    refine r_iload_n 2 dX0_oneOf_78 rfl rfl ?_
    refine r_iload_n 3 dX0_oneOf_79 rfl rfl ?_
    refine r_callI_0 dX0_oneOf_80 kX0_27 (I_X11_init_4 hM_Sn (by omega)) (by omega) rfl rfl (Nat.le_of_ble_eq_true rfl) ?_
    refine e_aret dX0_oneOf_83 rfl (Or.inl ⟨_, rfl⟩) rfl ?_
    exact ⟨rfl, rfl⟩
  · skip
    refine r_tabIn 84 (off := 83) dX0_oneOf_1 (by decide) (by decide) (by decide +kernel) (by decide) ?_
    refine gG_w (mc := 0 + 1) (ms := 0 + 3) (by omega) (by omega) ?_
    refine r_new (ci := 12) dX0_oneOf_84 rfl (by decide) q423 q424 q97 ?_
    refine r_dup dX0_oneOf_87 rfl ?_
    refine r_aload_n 1 dX0_oneOf_88 rfl rfl rfl ?_
    refine r_iload_n 2 dX0_oneOf_89 rfl rfl ?_
    refine r_iload_n 3 dX0_oneOf_90 rfl rfl ?_
    refine r_callI_0 dX0_oneOf_91 kX0_30 (I_X12_init_5 hM_Sn (by omega)) (by omega) rfl rfl (Nat.le_of_ble_eq_true rfl) ?_
    refine e_aret dX0_oneOf_94 rfl (Or.inl ⟨_, rfl⟩) rfl ?_
    exact ⟨rfl, rfl⟩
  · skip
    refine r_tabIn 95 (off := 94) dX0_oneOf_1 (by decide) (by decide) (by decide +kernel) (by decide) ?_
    refine gG_w (mc := 0 + 1) (ms := 0 + 3) (by omega) (by omega) ?_
    refine r_new (ci := 13) dX0_oneOf_95 rfl (by decide) q433 q434 q98 ?_
    refine r_dup dX0_oneOf_98 rfl ?_
    refine r_aload_n 1 dX0_oneOf_99 rfl rfl rfl ?_
    refine r_iload_n 2 dX0_oneOf_100 rfl rfl ?_
    refine r_iload_n 3 dX0_oneOf_101 rfl rfl ?_
    refine r_callI_0 dX0_oneOf_102 kX0_33 (I_X13_init_6 hM_Sn (by omega)) (by omega) rfl rfl (Nat.le_of_ble_eq_true rfl) ?_
    refine e_aret dX0_oneOf_105 rfl (Or.inl ⟨_, rfl⟩) rfl ?_
    exact ⟨rfl, rfl⟩
theorem r_aastP {d mc ms : Nat} {M : gM} {pc : Nat} {ls : gLs} {st : List Value} {h : Hp} {Q : gQ} {b p q k : Nat} {i m : Int32} (dc : decode (mC M) pc = .ok (.aastore, 1)) (hs : hS h 24 = .inr (4, 8)) (e : i = nI p) (hp : p < 8) (pa : PAt h b q k m) (kk : gG d mc ms M (pc + 1) ls st (wR h 24 p (some b)) Q) : gG d mc ms M pc ls (.ref b :: .int i :: .ref 24 :: st) h Q := by
  have h4 := pa.2.2.2.1
  rcases (show k = 0 ∨ k = 1 ∨ k = 2 ∨ k = 3 ∨ k = 4 ∨ k = 5 ∨ k = 6 by omega) with rfl | rfl | rfl | rfl | rfl | rfl | rfl
  · exact r_aastN p dc hs (Or.inl ⟨rfl, rfl⟩) e hp (by decide) pa.2.2.1 rfl (Or.inl rfl) kk
  · exact r_aastN p dc hs (Or.inl ⟨rfl, rfl⟩) e hp (by decide) pa.2.2.1 rfl (Or.inr q1909) kk
  · exact r_aastN p dc hs (Or.inl ⟨rfl, rfl⟩) e hp (by decide) pa.2.2.1 rfl (Or.inr q1910) kk
  · exact r_aastN p dc hs (Or.inl ⟨rfl, rfl⟩) e hp (by decide) pa.2.2.1 rfl (Or.inr q1911) kk
  · exact r_aastN p dc hs (Or.inl ⟨rfl, rfl⟩) e hp (by decide) pa.2.2.1 rfl (Or.inr q1912) kk
  · exact r_aastN p dc hs (Or.inl ⟨rfl, rfl⟩) e hp (by decide) pa.2.2.1 rfl (Or.inr q1913) kk
  · exact r_aastN p dc hs (Or.inl ⟨rfl, rfl⟩) e hp (by decide) pa.2.2.1 rfl (Or.inr q1914) kk
