theorem K_X7_bucket_0 {d : Nat} {h : Hp} {a p : Nat} {m : Int32} (pa : PAt h a p 0 m) : gC (d) (0) (0) m_X7_bucket [.ref a] (h) (Ret (some (.int (nI 3))) h) := by
  refine gC.of (ls := [some (.ref a)]) (by decide +kernel) rfl rfl rfl rfl (Nat.le_of_ble_eq_true rfl) ?_
  refine r_iconst (v := nI 3) dX7_bucket_0 rfl ?_
  refine e_iret dX7_bucket_1 rfl ?_
  exact ⟨rfl, rfl⟩
theorem K_X7_bucket_1 {d : Nat} {h : Hp} {a p : Nat} {m : Int32} (pa : PAt h a p 1 m) : gC (d) (0) (0) m_X7_bucket [.ref a] (h) (Ret (some (.int (nI 3))) h) := by
  refine gC.of (ls := [some (.ref a)]) (by decide +kernel) rfl rfl rfl rfl (Nat.le_of_ble_eq_true rfl) ?_
  refine r_iconst (v := nI 3) dX7_bucket_0 rfl ?_
  refine e_iret dX7_bucket_1 rfl ?_
  exact ⟨rfl, rfl⟩
theorem K_X7_bucket_2 {d : Nat} {h : Hp} {a p : Nat} {m : Int32} (pa : PAt h a p 2 m) : gC (d) (0) (0) m_X7_bucket [.ref a] (h) (Ret (some (.int (nI 3))) h) := by
  refine gC.of (ls := [some (.ref a)]) (by decide +kernel) rfl rfl rfl rfl (Nat.le_of_ble_eq_true rfl) ?_
  refine r_iconst (v := nI 3) dX7_bucket_0 rfl ?_
  refine e_iret dX7_bucket_1 rfl ?_
  exact ⟨rfl, rfl⟩
theorem K_X7_bucket_3 {d : Nat} {h : Hp} {a p : Nat} {m : Int32} (pa : PAt h a p 3 m) : gC (d) (0) (0) m_X7_bucket [.ref a] (h) (Ret (some (.int (nI 3))) h) := by
  refine gC.of (ls := [some (.ref a)]) (by decide +kernel) rfl rfl rfl rfl (Nat.le_of_ble_eq_true rfl) ?_
  refine r_iconst (v := nI 3) dX7_bucket_0 rfl ?_
  refine e_iret dX7_bucket_1 rfl ?_
  exact ⟨rfl, rfl⟩
theorem K_X7_bucket_4 {d : Nat} {h : Hp} {a p : Nat} {m : Int32} (pa : PAt h a p 4 m) : gC (d) (0) (0) m_X7_bucket [.ref a] (h) (Ret (some (.int (nI 3))) h) := by
  refine gC.of (ls := [some (.ref a)]) (by decide +kernel) rfl rfl rfl rfl (Nat.le_of_ble_eq_true rfl) ?_
  refine r_iconst (v := nI 3) dX7_bucket_0 rfl ?_
  refine e_iret dX7_bucket_1 rfl ?_
  exact ⟨rfl, rfl⟩
theorem K_X7_bucket_5 {d : Nat} {h : Hp} {a p : Nat} {m : Int32} (pa : PAt h a p 5 m) : gC (d) (0) (0) m_X7_bucket [.ref a] (h) (Ret (some (.int (nI 3))) h) := by
  refine gC.of (ls := [some (.ref a)]) (by decide +kernel) rfl rfl rfl rfl (Nat.le_of_ble_eq_true rfl) ?_
  refine r_iconst (v := nI 3) dX7_bucket_0 rfl ?_
  refine e_iret dX7_bucket_1 rfl ?_
  exact ⟨rfl, rfl⟩
theorem K_X7_bucket_6 {d : Nat} {h : Hp} {a p : Nat} {m : Int32} (pa : PAt h a p 6 m) : gC (d) (0) (0) m_X7_bucket [.ref a] (h) (Ret (some (.int (nI 3))) h) := by
  refine gC.of (ls := [some (.ref a)]) (by decide +kernel) rfl rfl rfl rfl (Nat.le_of_ble_eq_true rfl) ?_
  refine r_iconst (v := nI 3) dX7_bucket_0 rfl ?_
  refine e_iret dX7_bucket_1 rfl ?_
  exact ⟨rfl, rfl⟩
theorem K_X8_bucket_1 {d : Nat} {h : Hp} {a p : Nat} {m : Int32} (pa : PAt h a p 1 m) : gC (d + 1) (0) (0) m_X8_bucket [.ref a] (h) (Ret (some (.int (nI 3 + irem m (nI 3)))) h) := by
  refine gC.of (ls := [some (.ref a)]) (by decide +kernel) rfl rfl rfl rfl (Nat.le_of_ble_eq_true rfl) ?_
  refine r_aload_n 0 dX8_bucket_0 rfl rfl rfl ?_
  refine r_callSU_1 (ci := 8) dX8_bucket_1 kX8_13 rfl (K_X7_bucket_1 pa) (gRecv.of pa.2.2.1 rfl) rfl rfl (Nat.le_of_ble_eq_true rfl) ?_
  refine r_aload_n 0 dX8_bucket_4 rfl rfl rfl ?_
  refine r_geti (k := 2) dX8_bucket_5 pa.2.2.1 rfl (by decide) (Or.inl q380) (Or.inr q381) rfl ?_
  refine r_eqi (show _ = m from pa.2.2.2.2.2.2) ?_
  refine r_iconst (v := nI 3) dX8_bucket_8 rfl ?_
  refine r_irem dX8_bucket_9 (by decide) ?_
  refine r_iadd dX8_bucket_10 ?_
  refine e_iret dX8_bucket_11 rfl ?_
  exact ⟨rfl, rfl⟩
theorem K_X8_bucket_4 {d : Nat} {h : Hp} {a p : Nat} {m : Int32} (pa : PAt h a p 4 m) : gC (d + 1) (0) (0) m_X8_bucket [.ref a] (h) (Ret (some (.int (nI 3 + irem m (nI 3)))) h) := by
  refine gC.of (ls := [some (.ref a)]) (by decide +kernel) rfl rfl rfl rfl (Nat.le_of_ble_eq_true rfl) ?_
  refine r_aload_n 0 dX8_bucket_0 rfl rfl rfl ?_
  refine r_callSU_1 (ci := 11) dX8_bucket_1 kX8_13 rfl (K_X7_bucket_4 pa) (gRecv.of pa.2.2.1 rfl) rfl rfl (Nat.le_of_ble_eq_true rfl) ?_
  refine r_aload_n 0 dX8_bucket_4 rfl rfl rfl ?_
  refine r_geti (k := 2) dX8_bucket_5 pa.2.2.1 rfl (by decide) (Or.inl q380) (Or.inr q381) rfl ?_
  refine r_eqi (show _ = m from pa.2.2.2.2.2.2) ?_
  refine r_iconst (v := nI 3) dX8_bucket_8 rfl ?_
  refine r_irem dX8_bucket_9 (by decide) ?_
  refine r_iadd dX8_bucket_10 ?_
  refine e_iret dX8_bucket_11 rfl ?_
  exact ⟨rfl, rfl⟩
theorem K_X9_bucket_2 {d : Nat} {h : Hp} {a p : Nat} {m : Int32} (pa : PAt h a p 2 m) : gC (d + 1) (0) (0) m_X9_bucket [.ref a] (h) (Ret (some (.int (nI 6))) h) := by
  refine gC.of (ls := [some (.ref a)]) (by decide +kernel) rfl rfl rfl rfl (Nat.le_of_ble_eq_true rfl) ?_
  refine r_iconst (v := nI 2) dX9_bucket_0 rfl ?_
  refine r_aload_n 0 dX9_bucket_1 rfl rfl rfl ?_
  refine r_callSU_1 (ci := 9) dX9_bucket_2 kX9_13 rfl (K_X7_bucket_2 pa) (gRecv.of pa.2.2.1 rfl) rfl rfl (Nat.le_of_ble_eq_true rfl) ?_
  refine r_imul dX9_bucket_5 ?_
  refine r_eqi (show _ = nI (2 * 3) from by simp only [pk_mul, nI_add]) ?_
  refine e_iret dX9_bucket_6 rfl ?_
  exact ⟨rfl, rfl⟩
theorem K_X9_bucket_5 {d : Nat} {h : Hp} {a p : Nat} {m : Int32} (pa : PAt h a p 5 m) : gC (d + 1) (0) (0) m_X9_bucket [.ref a] (h) (Ret (some (.int (nI 6))) h) := by
  refine gC.of (ls := [some (.ref a)]) (by decide +kernel) rfl rfl rfl rfl (Nat.le_of_ble_eq_true rfl) ?_
  refine r_iconst (v := nI 2) dX9_bucket_0 rfl ?_
  refine r_aload_n 0 dX9_bucket_1 rfl rfl rfl ?_
  refine r_callSU_1 (ci := 12) dX9_bucket_2 kX9_13 rfl (K_X7_bucket_5 pa) (gRecv.of pa.2.2.1 rfl) rfl rfl (Nat.le_of_ble_eq_true rfl) ?_
  refine r_imul dX9_bucket_5 ?_
  refine r_eqi (show _ = nI (2 * 3) from by simp only [pk_mul, nI_add]) ?_
  refine e_iret dX9_bucket_6 rfl ?_
  exact ⟨rfl, rfl⟩
theorem K_X10_bucket_3 {d : Nat} {h : Hp} {a p : Nat} {m : Int32} (pa : PAt h a p 3 m) : gC (d + 1) (0) (0) m_X10_bucket [.ref a] (h) (Ret (some (.int (nI 9))) h) := by
  refine gC.of (ls := [some (.ref a)]) (by decide +kernel) rfl rfl rfl rfl (Nat.le_of_ble_eq_true rfl) ?_
  refine r_bipush (v := nI 9) dX10_bucket_0 (by decide +kernel) ?_
  refine e_iret dX10_bucket_2 rfl ?_
  exact ⟨rfl, rfl⟩
theorem K_X10_bucket_6 {d : Nat} {h : Hp} {a p : Nat} {m : Int32} (pa : PAt h a p 6 m) : gC (d + 1) (0) (0) m_X10_bucket [.ref a] (h) (Ret (some (.int (nI 9))) h) := by
  refine gC.of (ls := [some (.ref a)]) (by decide +kernel) rfl rfl rfl rfl (Nat.le_of_ble_eq_true rfl) ?_
  refine r_bipush (v := nI 9) dX10_bucket_0 (by decide +kernel) ?_
  refine e_iret dX10_bucket_2 rfl ?_
  exact ⟨rfl, rfl⟩
theorem K_X11_bucket_4 {d : Nat} {h : Hp} {a p : Nat} {m : Int32} (pa : PAt h a p 4 m) : gC (d + 2) (0) (0) m_X11_bucket [.ref a] (h) (Ret (some (.int (8 + irem m 3))) h) := by
  refine gC.of (ls := [some (.ref a)]) (by decide +kernel) rfl rfl rfl rfl (Nat.le_of_ble_eq_true rfl) ?_
  refine r_aload_n 0 dX11_bucket_0 rfl rfl rfl ?_
  refine r_callSU_1 (ci := 11) dX11_bucket_1 kX11_13 rfl (K_X8_bucket_4 pa) (gRecv.of pa.2.2.1 rfl) rfl rfl (Nat.le_of_ble_eq_true rfl) ?_
  refine r_iconst (v := nI 5) dX11_bucket_4 rfl ?_
  refine r_iadd dX11_bucket_5 ?_
  refine e_iret dX11_bucket_6 rfl ?_
  exact ⟨by rw [e_add35]; rfl, rfl⟩
theorem K_X12_bucket_5 {d : Nat} {h : Hp} {a p : Nat} {m : Int32} (pa : PAt h a p 5 m) : gC (d + 2) (0) (0) m_X12_bucket [.ref a] (h) (Ret (some (.int (nI 3))) h) := by
  refine gC.of (ls := [some (.ref a)]) (by decide +kernel) rfl rfl rfl rfl (Nat.le_of_ble_eq_true rfl) ?_
  refine r_aload_n 0 dX12_bucket_0 rfl rfl rfl ?_
  refine r_callSU_1 (ci := 12) dX12_bucket_1 kX12_13 rfl (K_X9_bucket_5 pa) (gRecv.of pa.2.2.1 rfl) rfl rfl (Nat.le_of_ble_eq_true rfl) ?_
  refine r_iconst (v := nI 2) dX12_bucket_4 rfl ?_
  refine r_idiv dX12_bucket_5 (by decide) ?_
  refine e_iret dX12_bucket_6 rfl ?_
  exact ⟨rfl, rfl⟩
theorem K_X13_bucket_6 {d : Nat} {h : Hp} {a p : Nat} {m : Int32} (pa : PAt h a p 6 m) : gC (d + 2) (0) (0) m_X13_bucket [.ref a] (h) (Ret (some (.int (9 - m))) h) := by
  refine gC.of (ls := [some (.ref a)]) (by decide +kernel) rfl rfl rfl rfl (Nat.le_of_ble_eq_true rfl) ?_
  refine r_aload_n 0 dX13_bucket_0 rfl rfl rfl ?_
  refine r_callSU_1 (ci := 13) dX13_bucket_1 kX13_13 rfl (K_X10_bucket_6 pa) (gRecv.of pa.2.2.1 rfl) rfl rfl (Nat.le_of_ble_eq_true rfl) ?_
  refine r_aload_n 0 dX13_bucket_4 rfl rfl rfl ?_
  refine r_geti (k := 2) dX13_bucket_5 pa.2.2.1 rfl (by decide) (Or.inl q382) (Or.inr q383) rfl ?_
  refine r_eqi (show _ = m from pa.2.2.2.2.2.2) ?_
  refine r_isub dX13_bucket_8 ?_
  refine e_iret dX13_bucket_9 rfl ?_
  exact ⟨rfl, rfl⟩
theorem K_X7_drinks_0 {d : Nat} {h : Hp} {a p : Nat} {m : Int32} (pa : PAt h a p 0 m) : gC (d) (0) (0) m_X7_drinks [.ref a] (h) (Ret (some (.int (nI 2))) h) := by
  refine gC.of (ls := [some (.ref a)]) (by decide +kernel) rfl rfl rfl rfl (Nat.le_of_ble_eq_true rfl) ?_
  refine r_iconst (v := nI 2) dX7_drinks_0 rfl ?_
  refine e_iret dX7_drinks_1 rfl ?_
  exact ⟨rfl, rfl⟩
theorem K_X7_drinks_1 {d : Nat} {h : Hp} {a p : Nat} {m : Int32} (pa : PAt h a p 1 m) : gC (d) (0) (0) m_X7_drinks [.ref a] (h) (Ret (some (.int (nI 2))) h) := by
  refine gC.of (ls := [some (.ref a)]) (by decide +kernel) rfl rfl rfl rfl (Nat.le_of_ble_eq_true rfl) ?_
  refine r_iconst (v := nI 2) dX7_drinks_0 rfl ?_
  refine e_iret dX7_drinks_1 rfl ?_
  exact ⟨rfl, rfl⟩
theorem K_X7_drinks_2 {d : Nat} {h : Hp} {a p : Nat} {m : Int32} (pa : PAt h a p 2 m) : gC (d) (0) (0) m_X7_drinks [.ref a] (h) (Ret (some (.int (nI 2))) h) := by
  refine gC.of (ls := [some (.ref a)]) (by decide +kernel) rfl rfl rfl rfl (Nat.le_of_ble_eq_true rfl) ?_
  refine r_iconst (v := nI 2) dX7_drinks_0 rfl ?_
  refine e_iret dX7_drinks_1 rfl ?_
  exact ⟨rfl, rfl⟩
theorem K_X7_drinks_3 {d : Nat} {h : Hp} {a p : Nat} {m : Int32} (pa : PAt h a p 3 m) : gC (d) (0) (0) m_X7_drinks [.ref a] (h) (Ret (some (.int (nI 2))) h) := by
  refine gC.of (ls := [some (.ref a)]) (by decide +kernel) rfl rfl rfl rfl (Nat.le_of_ble_eq_true rfl) ?_
  refine r_iconst (v := nI 2) dX7_drinks_0 rfl ?_
  refine e_iret dX7_drinks_1 rfl ?_
  exact ⟨rfl, rfl⟩
theorem K_X7_drinks_4 {d : Nat} {h : Hp} {a p : Nat} {m : Int32} (pa : PAt h a p 4 m) : gC (d) (0) (0) m_X7_drinks [.ref a] (h) (Ret (some (.int (nI 2))) h) := by
  refine gC.of (ls := [some (.ref a)]) (by decide +kernel) rfl rfl rfl rfl (Nat.le_of_ble_eq_true rfl) ?_
  refine r_iconst (v := nI 2) dX7_drinks_0 rfl ?_
  refine e_iret dX7_drinks_1 rfl ?_
  exact ⟨rfl, rfl⟩
theorem K_X7_drinks_5 {d : Nat} {h : Hp} {a p : Nat} {m : Int32} (pa : PAt h a p 5 m) : gC (d) (0) (0) m_X7_drinks [.ref a] (h) (Ret (some (.int (nI 2))) h) := by
  refine gC.of (ls := [some (.ref a)]) (by decide +kernel) rfl rfl rfl rfl (Nat.le_of_ble_eq_true rfl) ?_
  refine r_iconst (v := nI 2) dX7_drinks_0 rfl ?_
  refine e_iret dX7_drinks_1 rfl ?_
  exact ⟨rfl, rfl⟩
theorem K_X7_drinks_6 {d : Nat} {h : Hp} {a p : Nat} {m : Int32} (pa : PAt h a p 6 m) : gC (d) (0) (0) m_X7_drinks [.ref a] (h) (Ret (some (.int (nI 2))) h) := by
  refine gC.of (ls := [some (.ref a)]) (by decide +kernel) rfl rfl rfl rfl (Nat.le_of_ble_eq_true rfl) ?_
  refine r_iconst (v := nI 2) dX7_drinks_0 rfl ?_
  refine e_iret dX7_drinks_1 rfl ?_
  exact ⟨rfl, rfl⟩
theorem K_X8_drinks_1 {d : Nat} {h : Hp} {a p : Nat} {m : Int32} (pa : PAt h a p 1 m) : gC (d + 1) (0) (0) m_X8_drinks [.ref a] (h) (Ret (some (.int (nI 1))) h) := by
  refine gC.of (ls := [some (.ref a)]) (by decide +kernel) rfl rfl rfl rfl (Nat.le_of_ble_eq_true rfl) ?_
  refine r_iconst (v := nI 1) dX8_drinks_0 rfl ?_
  refine e_iret dX8_drinks_1 rfl ?_
  exact ⟨rfl, rfl⟩
theorem K_X8_drinks_4 {d : Nat} {h : Hp} {a p : Nat} {m : Int32} (pa : PAt h a p 4 m) : gC (d + 1) (0) (0) m_X8_drinks [.ref a] (h) (Ret (some (.int (nI 1))) h) := by
  refine gC.of (ls := [some (.ref a)]) (by decide +kernel) rfl rfl rfl rfl (Nat.le_of_ble_eq_true rfl) ?_
  refine r_iconst (v := nI 1) dX8_drinks_0 rfl ?_
  refine e_iret dX8_drinks_1 rfl ?_
  exact ⟨rfl, rfl⟩
theorem K_X9_drinks_2 {d : Nat} {h : Hp} {a p : Nat} {m : Int32} (pa : PAt h a p 2 m) : gC (d + 1) (0) (0) m_X9_drinks [.ref a] (h) (Ret (some (.int (nI 3))) h) := by
  refine gC.of (ls := [some (.ref a)]) (by decide +kernel) rfl rfl rfl rfl (Nat.le_of_ble_eq_true rfl) ?_
  refine r_aload_n 0 dX9_drinks_0 rfl rfl rfl ?_
  refine r_callSU_1 (ci := 9) dX9_drinks_1 kX9_17 rfl (K_X7_drinks_2 pa) (gRecv.of pa.2.2.1 rfl) rfl rfl (Nat.le_of_ble_eq_true rfl) ?_
  refine r_iconst (v := nI 1) dX9_drinks_4 rfl ?_
  refine r_iadd dX9_drinks_5 ?_
  refine r_eqi (show _ = nI (2 + 1) from by simp only [pk_mul, nI_add]) ?_
  refine e_iret dX9_drinks_6 rfl ?_
  exact ⟨rfl, rfl⟩
theorem K_X9_drinks_5 {d : Nat} {h : Hp} {a p : Nat} {m : Int32} (pa : PAt h a p 5 m) : gC (d + 1) (0) (0) m_X9_drinks [.ref a] (h) (Ret (some (.int (nI 3))) h) := by
  refine gC.of (ls := [some (.ref a)]) (by decide +kernel) rfl rfl rfl rfl (Nat.le_of_ble_eq_true rfl) ?_
  refine r_aload_n 0 dX9_drinks_0 rfl rfl rfl ?_
  refine r_callSU_1 (ci := 12) dX9_drinks_1 kX9_17 rfl (K_X7_drinks_5 pa) (gRecv.of pa.2.2.1 rfl) rfl rfl (Nat.le_of_ble_eq_true rfl) ?_
  refine r_iconst (v := nI 1) dX9_drinks_4 rfl ?_
  refine r_iadd dX9_drinks_5 ?_
  refine r_eqi (show _ = nI (2 + 1) from by simp only [pk_mul, nI_add]) ?_
  refine e_iret dX9_drinks_6 rfl ?_
  exact ⟨rfl, rfl⟩
theorem K_X12_drinks_5 {d : Nat} {h : Hp} {a p : Nat} {m : Int32} (pa : PAt h a p 5 m) : gC (d + 2) (0) (0) m_X12_drinks [.ref a] (h) (Ret (some (.int (nI 2))) h) := by
  refine gC.of (ls := [some (.ref a)]) (by decide +kernel) rfl rfl rfl rfl (Nat.le_of_ble_eq_true rfl) ?_
  refine r_aload_n 0 dX12_drinks_0 rfl rfl rfl ?_
  refine r_callSU_1 (ci := 12) dX12_drinks_1 kX12_17 rfl (K_X9_drinks_5 pa) (gRecv.of pa.2.2.1 rfl) rfl rfl (Nat.le_of_ble_eq_true rfl) ?_
  refine r_iconst (v := nI 1) dX12_drinks_4 rfl ?_
  refine r_isub dX12_drinks_5 ?_
  refine e_iret dX12_drinks_6 rfl ?_
  exact ⟨rfl, rfl⟩
theorem K_X7_kind_0 {d : Nat} {h : Hp} {a p : Nat} {m : Int32} (pa : PAt h a p 0 m) : gC (d) (0) (0) m_X7_kind [.ref a] (h) (Ret (some (.int (nI 0))) h) := by
  refine gC.of (ls := [some (.ref a)]) (by decide +kernel) rfl rfl rfl rfl (Nat.le_of_ble_eq_true rfl) ?_
  refine r_iconst (v := nI 0) dX7_kind_0 rfl ?_
  refine e_iret dX7_kind_1 rfl ?_
  exact ⟨rfl, rfl⟩
theorem K_X7_kind_1 {d : Nat} {h : Hp} {a p : Nat} {m : Int32} (pa : PAt h a p 1 m) : gC (d) (0) (0) m_X7_kind [.ref a] (h) (Ret (some (.int (nI 0))) h) := by
  refine gC.of (ls := [some (.ref a)]) (by decide +kernel) rfl rfl rfl rfl (Nat.le_of_ble_eq_true rfl) ?_
  refine r_iconst (v := nI 0) dX7_kind_0 rfl ?_
  refine e_iret dX7_kind_1 rfl ?_
  exact ⟨rfl, rfl⟩
theorem K_X7_kind_2 {d : Nat} {h : Hp} {a p : Nat} {m : Int32} (pa : PAt h a p 2 m) : gC (d) (0) (0) m_X7_kind [.ref a] (h) (Ret (some (.int (nI 0))) h) := by
  refine gC.of (ls := [some (.ref a)]) (by decide +kernel) rfl rfl rfl rfl (Nat.le_of_ble_eq_true rfl) ?_
  refine r_iconst (v := nI 0) dX7_kind_0 rfl ?_
  refine e_iret dX7_kind_1 rfl ?_
  exact ⟨rfl, rfl⟩
theorem K_X7_kind_3 {d : Nat} {h : Hp} {a p : Nat} {m : Int32} (pa : PAt h a p 3 m) : gC (d) (0) (0) m_X7_kind [.ref a] (h) (Ret (some (.int (nI 0))) h) := by
  refine gC.of (ls := [some (.ref a)]) (by decide +kernel) rfl rfl rfl rfl (Nat.le_of_ble_eq_true rfl) ?_
  refine r_iconst (v := nI 0) dX7_kind_0 rfl ?_
  refine e_iret dX7_kind_1 rfl ?_
  exact ⟨rfl, rfl⟩
theorem K_X7_kind_4 {d : Nat} {h : Hp} {a p : Nat} {m : Int32} (pa : PAt h a p 4 m) : gC (d) (0) (0) m_X7_kind [.ref a] (h) (Ret (some (.int (nI 0))) h) := by
  refine gC.of (ls := [some (.ref a)]) (by decide +kernel) rfl rfl rfl rfl (Nat.le_of_ble_eq_true rfl) ?_
  refine r_iconst (v := nI 0) dX7_kind_0 rfl ?_
  refine e_iret dX7_kind_1 rfl ?_
  exact ⟨rfl, rfl⟩
theorem K_X7_kind_5 {d : Nat} {h : Hp} {a p : Nat} {m : Int32} (pa : PAt h a p 5 m) : gC (d) (0) (0) m_X7_kind [.ref a] (h) (Ret (some (.int (nI 0))) h) := by
  refine gC.of (ls := [some (.ref a)]) (by decide +kernel) rfl rfl rfl rfl (Nat.le_of_ble_eq_true rfl) ?_
  refine r_iconst (v := nI 0) dX7_kind_0 rfl ?_
  refine e_iret dX7_kind_1 rfl ?_
  exact ⟨rfl, rfl⟩
theorem K_X7_kind_6 {d : Nat} {h : Hp} {a p : Nat} {m : Int32} (pa : PAt h a p 6 m) : gC (d) (0) (0) m_X7_kind [.ref a] (h) (Ret (some (.int (nI 0))) h) := by
  refine gC.of (ls := [some (.ref a)]) (by decide +kernel) rfl rfl rfl rfl (Nat.le_of_ble_eq_true rfl) ?_
  refine r_iconst (v := nI 0) dX7_kind_0 rfl ?_
  refine e_iret dX7_kind_1 rfl ?_
  exact ⟨rfl, rfl⟩
theorem K_X8_kind_1 {d : Nat} {h : Hp} {a p : Nat} {m : Int32} (pa : PAt h a p 1 m) : gC (d + 1) (0) (0) m_X8_kind [.ref a] (h) (Ret (some (.int (nI 1))) h) := by
  refine gC.of (ls := [some (.ref a)]) (by decide +kernel) rfl rfl rfl rfl (Nat.le_of_ble_eq_true rfl) ?_
  refine r_iconst (v := nI 1) dX8_kind_0 rfl ?_
  refine e_iret dX8_kind_1 rfl ?_
  exact ⟨rfl, rfl⟩
theorem K_X8_kind_4 {d : Nat} {h : Hp} {a p : Nat} {m : Int32} (pa : PAt h a p 4 m) : gC (d + 1) (0) (0) m_X8_kind [.ref a] (h) (Ret (some (.int (nI 1))) h) := by
  refine gC.of (ls := [some (.ref a)]) (by decide +kernel) rfl rfl rfl rfl (Nat.le_of_ble_eq_true rfl) ?_
  refine r_iconst (v := nI 1) dX8_kind_0 rfl ?_
  refine e_iret dX8_kind_1 rfl ?_
  exact ⟨rfl, rfl⟩
theorem K_X9_kind_2 {d : Nat} {h : Hp} {a p : Nat} {m : Int32} (pa : PAt h a p 2 m) : gC (d + 1) (0) (0) m_X9_kind [.ref a] (h) (Ret (some (.int (nI 2))) h) := by
  refine gC.of (ls := [some (.ref a)]) (by decide +kernel) rfl rfl rfl rfl (Nat.le_of_ble_eq_true rfl) ?_
  refine r_iconst (v := nI 2) dX9_kind_0 rfl ?_
  refine e_iret dX9_kind_1 rfl ?_
  exact ⟨rfl, rfl⟩
theorem K_X9_kind_5 {d : Nat} {h : Hp} {a p : Nat} {m : Int32} (pa : PAt h a p 5 m) : gC (d + 1) (0) (0) m_X9_kind [.ref a] (h) (Ret (some (.int (nI 2))) h) := by
  refine gC.of (ls := [some (.ref a)]) (by decide +kernel) rfl rfl rfl rfl (Nat.le_of_ble_eq_true rfl) ?_
  refine r_iconst (v := nI 2) dX9_kind_0 rfl ?_
  refine e_iret dX9_kind_1 rfl ?_
  exact ⟨rfl, rfl⟩
theorem K_X10_kind_3 {d : Nat} {h : Hp} {a p : Nat} {m : Int32} (pa : PAt h a p 3 m) : gC (d + 1) (0) (0) m_X10_kind [.ref a] (h) (Ret (some (.int (nI 3))) h) := by
  refine gC.of (ls := [some (.ref a)]) (by decide +kernel) rfl rfl rfl rfl (Nat.le_of_ble_eq_true rfl) ?_
  refine r_iconst (v := nI 3) dX10_kind_0 rfl ?_
  refine e_iret dX10_kind_1 rfl ?_
  exact ⟨rfl, rfl⟩
theorem K_X10_kind_6 {d : Nat} {h : Hp} {a p : Nat} {m : Int32} (pa : PAt h a p 6 m) : gC (d + 1) (0) (0) m_X10_kind [.ref a] (h) (Ret (some (.int (nI 3))) h) := by
  refine gC.of (ls := [some (.ref a)]) (by decide +kernel) rfl rfl rfl rfl (Nat.le_of_ble_eq_true rfl) ?_
  refine r_iconst (v := nI 3) dX10_kind_0 rfl ?_
  refine e_iret dX10_kind_1 rfl ?_
  exact ⟨rfl, rfl⟩
theorem K_X11_kind_4 {d : Nat} {h : Hp} {a p : Nat} {m : Int32} (pa : PAt h a p 4 m) : gC (d + 2) (0) (0) m_X11_kind [.ref a] (h) (Ret (some (.int (nI 4))) h) := by
  refine gC.of (ls := [some (.ref a)]) (by decide +kernel) rfl rfl rfl rfl (Nat.le_of_ble_eq_true rfl) ?_
  refine r_iconst (v := nI 4) dX11_kind_0 rfl ?_
  refine e_iret dX11_kind_1 rfl ?_
  exact ⟨rfl, rfl⟩
theorem K_X12_kind_5 {d : Nat} {h : Hp} {a p : Nat} {m : Int32} (pa : PAt h a p 5 m) : gC (d + 2) (0) (0) m_X12_kind [.ref a] (h) (Ret (some (.int (nI 5))) h) := by
  refine gC.of (ls := [some (.ref a)]) (by decide +kernel) rfl rfl rfl rfl (Nat.le_of_ble_eq_true rfl) ?_
  refine r_iconst (v := nI 5) dX12_kind_0 rfl ?_
  refine e_iret dX12_kind_1 rfl ?_
  exact ⟨rfl, rfl⟩
theorem K_X13_kind_6 {d : Nat} {h : Hp} {a p : Nat} {m : Int32} (pa : PAt h a p 6 m) : gC (d + 2) (0) (0) m_X13_kind [.ref a] (h) (Ret (some (.int (nI 6))) h) := by
  refine gC.of (ls := [some (.ref a)]) (by decide +kernel) rfl rfl rfl rfl (Nat.le_of_ble_eq_true rfl) ?_
  refine r_bipush (v := nI 6) dX13_kind_0 (by decide +kernel) ?_
  refine e_iret dX13_kind_2 rfl ?_
  exact ⟨rfl, rfl⟩
theorem isOfB_0 : ∀ {q : Nat}, q < 7 → ¬ q = 0 → isOfB 0 q = false := by decide
theorem isOfB_up1 : ∀ {q : Nat}, q < 7 → ¬ q = 1 → isOfB 1 q = isOfB 0 q := by decide
theorem isOfB_up2 : ∀ {q : Nat}, q < 7 → ¬ q = 2 → isOfB 2 q = isOfB 0 q := by decide
theorem isOfB_up3 : ∀ {q : Nat}, q < 7 → ¬ q = 3 → isOfB 3 q = isOfB 0 q := by decide
theorem isOfB_up4 : ∀ {q : Nat}, q < 7 → ¬ q = 4 → isOfB 4 q = isOfB 1 q := by decide
theorem isOfB_up5 : ∀ {q : Nat}, q < 7 → ¬ q = 5 → isOfB 5 q = isOfB 2 q := by decide
theorem isOfB_up6 : ∀ {q : Nat}, q < 7 → ¬ q = 6 → isOfB 6 q = isOfB 3 q := by decide
theorem K_X7_isOf_0 {d : Nat} {h : Hp} {a p : Nat} {m : Int32} {q : Nat} (hq : q < 7) (pa : PAt h a p 0 m) : gC (d) (0) (0) m_X7_isOf [.ref a, .int (nI q)] (h) (Ret (some (.int (b2 (isOfB 0 q)))) h) := by
  refine gC.of (ls := [some (.ref a), some (.int (nI q))]) (by decide +kernel) rfl rfl rfl rfl (Nat.le_of_ble_eq_true rfl) ?_
  refine r_iload_n 1 dX7_isOf_0 rfl rfl ?_
  refine r_if_ne 8 dX7_isOf_1 (by decide) (fun c_1 => ?_) (fun c_1 => ?_)
  · skip
    have n_1 : ¬ q = 0 := n_ne0 (by omega) c_1
    refine r_iconst (v := nI 0) dX7_isOf_8 rfl ?_
    refine e_zret dX7_isOf_9 rfl (by decide) ?_
    exact ⟨by rw [isOfB_0 hq n_1]; rfl, rfl⟩
  · skip
    have n_1 : q = 0 := n_eq0 (by omega) c_1
    refine r_iconst (v := nI 1) dX7_isOf_4 rfl ?_
    refine r_goto 9 dX7_isOf_5 (by decide) ?_
    refine e_zret dX7_isOf_9 rfl (by decide) ?_
    exact ⟨by rw [show isOfB 0 q = true from by rw [n_1]; rfl]; rfl, rfl⟩
theorem K_X7_isOf_1 {d : Nat} {h : Hp} {a p : Nat} {m : Int32} {q : Nat} (hq : q < 7) (pa : PAt h a p 1 m) : gC (d) (0) (0) m_X7_isOf [.ref a, .int (nI q)] (h) (Ret (some (.int (b2 (isOfB 0 q)))) h) := by
  refine gC.of (ls := [some (.ref a), some (.int (nI q))]) (by decide +kernel) rfl rfl rfl rfl (Nat.le_of_ble_eq_true rfl) ?_
  refine r_iload_n 1 dX7_isOf_0 rfl rfl ?_
  refine r_if_ne 8 dX7_isOf_1 (by decide) (fun c_1 => ?_) (fun c_1 => ?_)
  · skip
    have n_1 : ¬ q = 0 := n_ne0 (by omega) c_1
    refine r_iconst (v := nI 0) dX7_isOf_8 rfl ?_
    refine e_zret dX7_isOf_9 rfl (by decide) ?_
    exact ⟨by rw [isOfB_0 hq n_1]; rfl, rfl⟩
  · skip
    have n_1 : q = 0 := n_eq0 (by omega) c_1
    refine r_iconst (v := nI 1) dX7_isOf_4 rfl ?_
    refine r_goto 9 dX7_isOf_5 (by decide) ?_
    refine e_zret dX7_isOf_9 rfl (by decide) ?_
    exact ⟨by rw [show isOfB 0 q = true from by rw [n_1]; rfl]; rfl, rfl⟩
theorem K_X7_isOf_2 {d : Nat} {h : Hp} {a p : Nat} {m : Int32} {q : Nat} (hq : q < 7) (pa : PAt h a p 2 m) : gC (d) (0) (0) m_X7_isOf [.ref a, .int (nI q)] (h) (Ret (some (.int (b2 (isOfB 0 q)))) h) := by
  refine gC.of (ls := [some (.ref a), some (.int (nI q))]) (by decide +kernel) rfl rfl rfl rfl (Nat.le_of_ble_eq_true rfl) ?_
  refine r_iload_n 1 dX7_isOf_0 rfl rfl ?_
  refine r_if_ne 8 dX7_isOf_1 (by decide) (fun c_1 => ?_) (fun c_1 => ?_)
  · skip
    have n_1 : ¬ q = 0 := n_ne0 (by omega) c_1
    refine r_iconst (v := nI 0) dX7_isOf_8 rfl ?_
    refine e_zret dX7_isOf_9 rfl (by decide) ?_
    exact ⟨by rw [isOfB_0 hq n_1]; rfl, rfl⟩
  · skip
    have n_1 : q = 0 := n_eq0 (by omega) c_1
    refine r_iconst (v := nI 1) dX7_isOf_4 rfl ?_
    refine r_goto 9 dX7_isOf_5 (by decide) ?_
    refine e_zret dX7_isOf_9 rfl (by decide) ?_
    exact ⟨by rw [show isOfB 0 q = true from by rw [n_1]; rfl]; rfl, rfl⟩
theorem K_X7_isOf_3 {d : Nat} {h : Hp} {a p : Nat} {m : Int32} {q : Nat} (hq : q < 7) (pa : PAt h a p 3 m) : gC (d) (0) (0) m_X7_isOf [.ref a, .int (nI q)] (h) (Ret (some (.int (b2 (isOfB 0 q)))) h) := by
  refine gC.of (ls := [some (.ref a), some (.int (nI q))]) (by decide +kernel) rfl rfl rfl rfl (Nat.le_of_ble_eq_true rfl) ?_
  refine r_iload_n 1 dX7_isOf_0 rfl rfl ?_
  refine r_if_ne 8 dX7_isOf_1 (by decide) (fun c_1 => ?_) (fun c_1 => ?_)
  · skip
    have n_1 : ¬ q = 0 := n_ne0 (by omega) c_1
    refine r_iconst (v := nI 0) dX7_isOf_8 rfl ?_
    refine e_zret dX7_isOf_9 rfl (by decide) ?_
    exact ⟨by rw [isOfB_0 hq n_1]; rfl, rfl⟩
  · skip
    have n_1 : q = 0 := n_eq0 (by omega) c_1
    refine r_iconst (v := nI 1) dX7_isOf_4 rfl ?_
    refine r_goto 9 dX7_isOf_5 (by decide) ?_
    refine e_zret dX7_isOf_9 rfl (by decide) ?_
    exact ⟨by rw [show isOfB 0 q = true from by rw [n_1]; rfl]; rfl, rfl⟩
theorem K_X7_isOf_4 {d : Nat} {h : Hp} {a p : Nat} {m : Int32} {q : Nat} (hq : q < 7) (pa : PAt h a p 4 m) : gC (d) (0) (0) m_X7_isOf [.ref a, .int (nI q)] (h) (Ret (some (.int (b2 (isOfB 0 q)))) h) := by
  refine gC.of (ls := [some (.ref a), some (.int (nI q))]) (by decide +kernel) rfl rfl rfl rfl (Nat.le_of_ble_eq_true rfl) ?_
  refine r_iload_n 1 dX7_isOf_0 rfl rfl ?_
  refine r_if_ne 8 dX7_isOf_1 (by decide) (fun c_1 => ?_) (fun c_1 => ?_)
  · skip
    have n_1 : ¬ q = 0 := n_ne0 (by omega) c_1
    refine r_iconst (v := nI 0) dX7_isOf_8 rfl ?_
    refine e_zret dX7_isOf_9 rfl (by decide) ?_
    exact ⟨by rw [isOfB_0 hq n_1]; rfl, rfl⟩
  · skip
    have n_1 : q = 0 := n_eq0 (by omega) c_1
    refine r_iconst (v := nI 1) dX7_isOf_4 rfl ?_
    refine r_goto 9 dX7_isOf_5 (by decide) ?_
    refine e_zret dX7_isOf_9 rfl (by decide) ?_
    exact ⟨by rw [show isOfB 0 q = true from by rw [n_1]; rfl]; rfl, rfl⟩
theorem K_X7_isOf_5 {d : Nat} {h : Hp} {a p : Nat} {m : Int32} {q : Nat} (hq : q < 7) (pa : PAt h a p 5 m) : gC (d) (0) (0) m_X7_isOf [.ref a, .int (nI q)] (h) (Ret (some (.int (b2 (isOfB 0 q)))) h) := by
  refine gC.of (ls := [some (.ref a), some (.int (nI q))]) (by decide +kernel) rfl rfl rfl rfl (Nat.le_of_ble_eq_true rfl) ?_
  refine r_iload_n 1 dX7_isOf_0 rfl rfl ?_
  refine r_if_ne 8 dX7_isOf_1 (by decide) (fun c_1 => ?_) (fun c_1 => ?_)
  · skip
    have n_1 : ¬ q = 0 := n_ne0 (by omega) c_1
    refine r_iconst (v := nI 0) dX7_isOf_8 rfl ?_
    refine e_zret dX7_isOf_9 rfl (by decide) ?_
    exact ⟨by rw [isOfB_0 hq n_1]; rfl, rfl⟩
  · skip
    have n_1 : q = 0 := n_eq0 (by omega) c_1
    refine r_iconst (v := nI 1) dX7_isOf_4 rfl ?_
    refine r_goto 9 dX7_isOf_5 (by decide) ?_
    refine e_zret dX7_isOf_9 rfl (by decide) ?_
    exact ⟨by rw [show isOfB 0 q = true from by rw [n_1]; rfl]; rfl, rfl⟩
theorem K_X7_isOf_6 {d : Nat} {h : Hp} {a p : Nat} {m : Int32} {q : Nat} (hq : q < 7) (pa : PAt h a p 6 m) : gC (d) (0) (0) m_X7_isOf [.ref a, .int (nI q)] (h) (Ret (some (.int (b2 (isOfB 0 q)))) h) := by
  refine gC.of (ls := [some (.ref a), some (.int (nI q))]) (by decide +kernel) rfl rfl rfl rfl (Nat.le_of_ble_eq_true rfl) ?_
  refine r_iload_n 1 dX7_isOf_0 rfl rfl ?_
  refine r_if_ne 8 dX7_isOf_1 (by decide) (fun c_1 => ?_) (fun c_1 => ?_)
  · skip
    have n_1 : ¬ q = 0 := n_ne0 (by omega) c_1
    refine r_iconst (v := nI 0) dX7_isOf_8 rfl ?_
    refine e_zret dX7_isOf_9 rfl (by decide) ?_
    exact ⟨by rw [isOfB_0 hq n_1]; rfl, rfl⟩
  · skip
    have n_1 : q = 0 := n_eq0 (by omega) c_1
    refine r_iconst (v := nI 1) dX7_isOf_4 rfl ?_
    refine r_goto 9 dX7_isOf_5 (by decide) ?_
    refine e_zret dX7_isOf_9 rfl (by decide) ?_
    exact ⟨by rw [show isOfB 0 q = true from by rw [n_1]; rfl]; rfl, rfl⟩
theorem K_X8_isOf_1 {d : Nat} {h : Hp} {a p : Nat} {m : Int32} {q : Nat} (hq : q < 7) (pa : PAt h a p 1 m) : gC (d + 1) (0) (0) m_X8_isOf [.ref a, .int (nI q)] (h) (Ret (some (.int (b2 (isOfB 1 q)))) h) := by
  refine gC.of (ls := [some (.ref a), some (.int (nI q))]) (by decide +kernel) rfl rfl rfl rfl (Nat.le_of_ble_eq_true rfl) ?_
  refine r_iload_n 1 dX8_isOf_0 rfl rfl ?_
  refine r_iconst (v := nI 1) dX8_isOf_1 rfl ?_
  refine r_icmp_eq 13 dX8_isOf_2 (by decide) (fun c_2 => ?_) (fun c_2 => ?_)
  · skip
    have n_2 : q = 1 := n_eq (by omega) (by omega) c_2
    refine r_iconst (v := nI 1) dX8_isOf_13 rfl ?_
    refine r_goto 18 dX8_isOf_14 (by decide) ?_
    refine e_zret dX8_isOf_18 rfl (by decide) ?_
    exact ⟨by rw [show isOfB 1 q = true from by rw [n_2]; rfl]; rfl, rfl⟩
  · skip
    have n_2 : ¬ q = 1 := n_eqn (by omega) (by omega) c_2
    refine r_aload_n 0 dX8_isOf_5 rfl rfl rfl ?_
    refine r_iload_n 1 dX8_isOf_6 rfl rfl ?_
    refine r_callSU_1 (ci := 8) dX8_isOf_7 kX8_9 rfl (K_X7_isOf_1 hq pa) (gRecv.of pa.2.2.1 rfl) rfl rfl (Nat.le_of_ble_eq_true rfl) ?_
    refine r_if_eq 17 dX8_isOf_10 (by decide) (fun c_10 => ?_) (fun c_10 => ?_)
    · skip
      have n_10 : (isOfB 0 q) = false := b2_f c_10
      refine r_iconst (v := nI 0) dX8_isOf_17 rfl ?_
      refine e_zret dX8_isOf_18 rfl (by decide) ?_
      exact ⟨by rw [isOfB_up1 hq n_2, n_10]; rfl, rfl⟩
    · skip
      have n_10 : (isOfB 0 q) = true := b2_t c_10
      refine r_iconst (v := nI 1) dX8_isOf_13 rfl ?_
      refine r_goto 18 dX8_isOf_14 (by decide) ?_
      refine e_zret dX8_isOf_18 rfl (by decide) ?_
      exact ⟨by rw [isOfB_up1 hq n_2, n_10]; rfl, rfl⟩
theorem K_X8_isOf_4 {d : Nat} {h : Hp} {a p : Nat} {m : Int32} {q : Nat} (hq : q < 7) (pa : PAt h a p 4 m) : gC (d + 1) (0) (0) m_X8_isOf [.ref a, .int (nI q)] (h) (Ret (some (.int (b2 (isOfB 1 q)))) h) := by
  refine gC.of (ls := [some (.ref a), some (.int (nI q))]) (by decide +kernel) rfl rfl rfl rfl (Nat.le_of_ble_eq_true rfl) ?_
  refine r_iload_n 1 dX8_isOf_0 rfl rfl ?_
  refine r_iconst (v := nI 1) dX8_isOf_1 rfl ?_
  refine r_icmp_eq 13 dX8_isOf_2 (by decide) (fun c_2 => ?_) (fun c_2 => ?_)
  · skip
    have n_2 : q = 1 := n_eq (by omega) (by omega) c_2
    refine r_iconst (v := nI 1) dX8_isOf_13 rfl ?_
    refine r_goto 18 dX8_isOf_14 (by decide) ?_
    refine e_zret dX8_isOf_18 rfl (by decide) ?_
    exact ⟨by rw [show isOfB 1 q = true from by rw [n_2]; rfl]; rfl, rfl⟩
  · skip
    have n_2 : ¬ q = 1 := n_eqn (by omega) (by omega) c_2
    refine r_aload_n 0 dX8_isOf_5 rfl rfl rfl ?_
    refine r_iload_n 1 dX8_isOf_6 rfl rfl ?_
    refine r_callSU_1 (ci := 11) dX8_isOf_7 kX8_9 rfl (K_X7_isOf_4 hq pa) (gRecv.of pa.2.2.1 rfl) rfl rfl (Nat.le_of_ble_eq_true rfl) ?_
    refine r_if_eq 17 dX8_isOf_10 (by decide) (fun c_10 => ?_) (fun c_10 => ?_)
    · skip
      have n_10 : (isOfB 0 q) = false := b2_f c_10
      refine r_iconst (v := nI 0) dX8_isOf_17 rfl ?_
      refine e_zret dX8_isOf_18 rfl (by decide) ?_
      exact ⟨by rw [isOfB_up1 hq n_2, n_10]; rfl, rfl⟩
    · skip
      have n_10 : (isOfB 0 q) = true := b2_t c_10
      refine r_iconst (v := nI 1) dX8_isOf_13 rfl ?_
      refine r_goto 18 dX8_isOf_14 (by decide) ?_
      refine e_zret dX8_isOf_18 rfl (by decide) ?_
      exact ⟨by rw [isOfB_up1 hq n_2, n_10]; rfl, rfl⟩
theorem K_X9_isOf_2 {d : Nat} {h : Hp} {a p : Nat} {m : Int32} {q : Nat} (hq : q < 7) (pa : PAt h a p 2 m) : gC (d + 1) (0) (0) m_X9_isOf [.ref a, .int (nI q)] (h) (Ret (some (.int (b2 (isOfB 2 q)))) h) := by
  refine gC.of (ls := [some (.ref a), some (.int (nI q))]) (by decide +kernel) rfl rfl rfl rfl (Nat.le_of_ble_eq_true rfl) ?_
  refine r_iload_n 1 dX9_isOf_0 rfl rfl ?_
  refine r_iconst (v := nI 2) dX9_isOf_1 rfl ?_
  refine r_icmp_eq 13 dX9_isOf_2 (by decide) (fun c_2 => ?_) (fun c_2 => ?_)
  · skip
    have n_2 : q = 2 := n_eq (by omega) (by omega) c_2
    refine r_iconst (v := nI 1) dX9_isOf_13 rfl ?_
    refine r_goto 18 dX9_isOf_14 (by decide) ?_
    refine e_zret dX9_isOf_18 rfl (by decide) ?_
    exact ⟨by rw [show isOfB 2 q = true from by rw [n_2]; rfl]; rfl, rfl⟩
  · skip
    have n_2 : ¬ q = 2 := n_eqn (by omega) (by omega) c_2
    refine r_aload_n 0 dX9_isOf_5 rfl rfl rfl ?_
    refine r_iload_n 1 dX9_isOf_6 rfl rfl ?_
    refine r_callSU_1 (ci := 9) dX9_isOf_7 kX9_9 rfl (K_X7_isOf_2 hq pa) (gRecv.of pa.2.2.1 rfl) rfl rfl (Nat.le_of_ble_eq_true rfl) ?_
    refine r_if_eq 17 dX9_isOf_10 (by decide) (fun c_10 => ?_) (fun c_10 => ?_)
    · skip
      have n_10 : (isOfB 0 q) = false := b2_f c_10
      refine r_iconst (v := nI 0) dX9_isOf_17 rfl ?_
      refine e_zret dX9_isOf_18 rfl (by decide) ?_
      exact ⟨by rw [isOfB_up2 hq n_2, n_10]; rfl, rfl⟩
    · skip
      have n_10 : (isOfB 0 q) = true := b2_t c_10
      refine r_iconst (v := nI 1) dX9_isOf_13 rfl ?_
      refine r_goto 18 dX9_isOf_14 (by decide) ?_
      refine e_zret dX9_isOf_18 rfl (by decide) ?_
      exact ⟨by rw [isOfB_up2 hq n_2, n_10]; rfl, rfl⟩
theorem K_X9_isOf_5 {d : Nat} {h : Hp} {a p : Nat} {m : Int32} {q : Nat} (hq : q < 7) (pa : PAt h a p 5 m) : gC (d + 1) (0) (0) m_X9_isOf [.ref a, .int (nI q)] (h) (Ret (some (.int (b2 (isOfB 2 q)))) h) := by
  refine gC.of (ls := [some (.ref a), some (.int (nI q))]) (by decide +kernel) rfl rfl rfl rfl (Nat.le_of_ble_eq_true rfl) ?_
  refine r_iload_n 1 dX9_isOf_0 rfl rfl ?_
  refine r_iconst (v := nI 2) dX9_isOf_1 rfl ?_
  refine r_icmp_eq 13 dX9_isOf_2 (by decide) (fun c_2 => ?_) (fun c_2 => ?_)
  · skip
    have n_2 : q = 2 := n_eq (by omega) (by omega) c_2
    refine r_iconst (v := nI 1) dX9_isOf_13 rfl ?_
    refine r_goto 18 dX9_isOf_14 (by decide) ?_
    refine e_zret dX9_isOf_18 rfl (by decide) ?_
    exact ⟨by rw [show isOfB 2 q = true from by rw [n_2]; rfl]; rfl, rfl⟩
  · skip
    have n_2 : ¬ q = 2 := n_eqn (by omega) (by omega) c_2
    refine r_aload_n 0 dX9_isOf_5 rfl rfl rfl ?_
    refine r_iload_n 1 dX9_isOf_6 rfl rfl ?_
    refine r_callSU_1 (ci := 12) dX9_isOf_7 kX9_9 rfl (K_X7_isOf_5 hq pa) (gRecv.of pa.2.2.1 rfl) rfl rfl (Nat.le_of_ble_eq_true rfl) ?_
    refine r_if_eq 17 dX9_isOf_10 (by decide) (fun c_10 => ?_) (fun c_10 => ?_)
    · skip
      have n_10 : (isOfB 0 q) = false := b2_f c_10
      refine r_iconst (v := nI 0) dX9_isOf_17 rfl ?_
      refine e_zret dX9_isOf_18 rfl (by decide) ?_
      exact ⟨by rw [isOfB_up2 hq n_2, n_10]; rfl, rfl⟩
    · skip
      have n_10 : (isOfB 0 q) = true := b2_t c_10
      refine r_iconst (v := nI 1) dX9_isOf_13 rfl ?_
      refine r_goto 18 dX9_isOf_14 (by decide) ?_
      refine e_zret dX9_isOf_18 rfl (by decide) ?_
      exact ⟨by rw [isOfB_up2 hq n_2, n_10]; rfl, rfl⟩
theorem K_X10_isOf_3 {d : Nat} {h : Hp} {a p : Nat} {m : Int32} {q : Nat} (hq : q < 7) (pa : PAt h a p 3 m) : gC (d + 1) (0) (0) m_X10_isOf [.ref a, .int (nI q)] (h) (Ret (some (.int (b2 (isOfB 3 q)))) h) := by
  refine gC.of (ls := [some (.ref a), some (.int (nI q))]) (by decide +kernel) rfl rfl rfl rfl (Nat.le_of_ble_eq_true rfl) ?_
  refine r_iload_n 1 dX10_isOf_0 rfl rfl ?_
  refine r_iconst (v := nI 3) dX10_isOf_1 rfl ?_
  refine r_icmp_eq 13 dX10_isOf_2 (by decide) (fun c_2 => ?_) (fun c_2 => ?_)
  · skip
    have n_2 : q = 3 := n_eq (by omega) (by omega) c_2
    refine r_iconst (v := nI 1) dX10_isOf_13 rfl ?_
    refine r_goto 18 dX10_isOf_14 (by decide) ?_
    refine e_zret dX10_isOf_18 rfl (by decide) ?_
    exact ⟨by rw [show isOfB 3 q = true from by rw [n_2]; rfl]; rfl, rfl⟩
  · skip
    have n_2 : ¬ q = 3 := n_eqn (by omega) (by omega) c_2
    refine r_aload_n 0 dX10_isOf_5 rfl rfl rfl ?_
    refine r_iload_n 1 dX10_isOf_6 rfl rfl ?_
    refine r_callSU_1 (ci := 10) dX10_isOf_7 kX10_9 rfl (K_X7_isOf_3 hq pa) (gRecv.of pa.2.2.1 rfl) rfl rfl (Nat.le_of_ble_eq_true rfl) ?_
    refine r_if_eq 17 dX10_isOf_10 (by decide) (fun c_10 => ?_) (fun c_10 => ?_)
    · skip
      have n_10 : (isOfB 0 q) = false := b2_f c_10
      refine r_iconst (v := nI 0) dX10_isOf_17 rfl ?_
      refine e_zret dX10_isOf_18 rfl (by decide) ?_
      exact ⟨by rw [isOfB_up3 hq n_2, n_10]; rfl, rfl⟩
    · skip
      have n_10 : (isOfB 0 q) = true := b2_t c_10
      refine r_iconst (v := nI 1) dX10_isOf_13 rfl ?_
      refine r_goto 18 dX10_isOf_14 (by decide) ?_
      refine e_zret dX10_isOf_18 rfl (by decide) ?_
      exact ⟨by rw [isOfB_up3 hq n_2, n_10]; rfl, rfl⟩
theorem K_X10_isOf_6 {d : Nat} {h : Hp} {a p : Nat} {m : Int32} {q : Nat} (hq : q < 7) (pa : PAt h a p 6 m) : gC (d + 1) (0) (0) m_X10_isOf [.ref a, .int (nI q)] (h) (Ret (some (.int (b2 (isOfB 3 q)))) h) := by
  refine gC.of (ls := [some (.ref a), some (.int (nI q))]) (by decide +kernel) rfl rfl rfl rfl (Nat.le_of_ble_eq_true rfl) ?_
  refine r_iload_n 1 dX10_isOf_0 rfl rfl ?_
  refine r_iconst (v := nI 3) dX10_isOf_1 rfl ?_
  refine r_icmp_eq 13 dX10_isOf_2 (by decide) (fun c_2 => ?_) (fun c_2 => ?_)
  · skip
    have n_2 : q = 3 := n_eq (by omega) (by omega) c_2
    refine r_iconst (v := nI 1) dX10_isOf_13 rfl ?_
    refine r_goto 18 dX10_isOf_14 (by decide) ?_
    refine e_zret dX10_isOf_18 rfl (by decide) ?_
    exact ⟨by rw [show isOfB 3 q = true from by rw [n_2]; rfl]; rfl, rfl⟩
  · skip
    have n_2 : ¬ q = 3 := n_eqn (by omega) (by omega) c_2
    refine r_aload_n 0 dX10_isOf_5 rfl rfl rfl ?_
    refine r_iload_n 1 dX10_isOf_6 rfl rfl ?_
    refine r_callSU_1 (ci := 13) dX10_isOf_7 kX10_9 rfl (K_X7_isOf_6 hq pa) (gRecv.of pa.2.2.1 rfl) rfl rfl (Nat.le_of_ble_eq_true rfl) ?_
    refine r_if_eq 17 dX10_isOf_10 (by decide) (fun c_10 => ?_) (fun c_10 => ?_)
    · skip
      have n_10 : (isOfB 0 q) = false := b2_f c_10
      refine r_iconst (v := nI 0) dX10_isOf_17 rfl ?_
      refine e_zret dX10_isOf_18 rfl (by decide) ?_
      exact ⟨by rw [isOfB_up3 hq n_2, n_10]; rfl, rfl⟩
    · skip
      have n_10 : (isOfB 0 q) = true := b2_t c_10
      refine r_iconst (v := nI 1) dX10_isOf_13 rfl ?_
      refine r_goto 18 dX10_isOf_14 (by decide) ?_
      refine e_zret dX10_isOf_18 rfl (by decide) ?_
      exact ⟨by rw [isOfB_up3 hq n_2, n_10]; rfl, rfl⟩
theorem K_X11_isOf_4 {d : Nat} {h : Hp} {a p : Nat} {m : Int32} {q : Nat} (hq : q < 7) (pa : PAt h a p 4 m) : gC (d + 2) (0) (0) m_X11_isOf [.ref a, .int (nI q)] (h) (Ret (some (.int (b2 (isOfB 4 q)))) h) := by
  refine gC.of (ls := [some (.ref a), some (.int (nI q))]) (by decide +kernel) rfl rfl rfl rfl (Nat.le_of_ble_eq_true rfl) ?_
  refine r_iload_n 1 dX11_isOf_0 rfl rfl ?_
  refine r_iconst (v := nI 4) dX11_isOf_1 rfl ?_
  refine r_icmp_eq 13 dX11_isOf_2 (by decide) (fun c_2 => ?_) (fun c_2 => ?_)
  · skip
    have n_2 : q = 4 := n_eq (by omega) (by omega) c_2
    refine r_iconst (v := nI 1) dX11_isOf_13 rfl ?_
    refine r_goto 18 dX11_isOf_14 (by decide) ?_
    refine e_zret dX11_isOf_18 rfl (by decide) ?_
    exact ⟨by rw [show isOfB 4 q = true from by rw [n_2]; rfl]; rfl, rfl⟩
  · skip
    have n_2 : ¬ q = 4 := n_eqn (by omega) (by omega) c_2
    refine r_aload_n 0 dX11_isOf_5 rfl rfl rfl ?_
    refine r_iload_n 1 dX11_isOf_6 rfl rfl ?_
    refine r_callSU_1 (ci := 11) dX11_isOf_7 kX11_9 rfl (K_X8_isOf_4 hq pa) (gRecv.of pa.2.2.1 rfl) rfl rfl (Nat.le_of_ble_eq_true rfl) ?_
    refine r_if_eq 17 dX11_isOf_10 (by decide) (fun c_10 => ?_) (fun c_10 => ?_)
    · skip
      have n_10 : (isOfB 1 q) = false := b2_f c_10
      refine r_iconst (v := nI 0) dX11_isOf_17 rfl ?_
      refine e_zret dX11_isOf_18 rfl (by decide) ?_
      exact ⟨by rw [isOfB_up4 hq n_2, n_10]; rfl, rfl⟩
    · skip
      have n_10 : (isOfB 1 q) = true := b2_t c_10
      refine r_iconst (v := nI 1) dX11_isOf_13 rfl ?_
      refine r_goto 18 dX11_isOf_14 (by decide) ?_
      refine e_zret dX11_isOf_18 rfl (by decide) ?_
      exact ⟨by rw [isOfB_up4 hq n_2, n_10]; rfl, rfl⟩
theorem K_X12_isOf_5 {d : Nat} {h : Hp} {a p : Nat} {m : Int32} {q : Nat} (hq : q < 7) (pa : PAt h a p 5 m) : gC (d + 2) (0) (0) m_X12_isOf [.ref a, .int (nI q)] (h) (Ret (some (.int (b2 (isOfB 5 q)))) h) := by
  refine gC.of (ls := [some (.ref a), some (.int (nI q))]) (by decide +kernel) rfl rfl rfl rfl (Nat.le_of_ble_eq_true rfl) ?_
  refine r_iload_n 1 dX12_isOf_0 rfl rfl ?_
  refine r_iconst (v := nI 5) dX12_isOf_1 rfl ?_
  refine r_icmp_eq 13 dX12_isOf_2 (by decide) (fun c_2 => ?_) (fun c_2 => ?_)
  · skip
    have n_2 : q = 5 := n_eq (by omega) (by omega) c_2
    refine r_iconst (v := nI 1) dX12_isOf_13 rfl ?_
    refine r_goto 18 dX12_isOf_14 (by decide) ?_
    refine e_zret dX12_isOf_18 rfl (by decide) ?_
    exact ⟨by rw [show isOfB 5 q = true from by rw [n_2]; rfl]; rfl, rfl⟩
  · skip
    have n_2 : ¬ q = 5 := n_eqn (by omega) (by omega) c_2
    refine r_aload_n 0 dX12_isOf_5 rfl rfl rfl ?_
    refine r_iload_n 1 dX12_isOf_6 rfl rfl ?_
    refine r_callSU_1 (ci := 12) dX12_isOf_7 kX12_9 rfl (K_X9_isOf_5 hq pa) (gRecv.of pa.2.2.1 rfl) rfl rfl (Nat.le_of_ble_eq_true rfl) ?_
    refine r_if_eq 17 dX12_isOf_10 (by decide) (fun c_10 => ?_) (fun c_10 => ?_)
    · skip
      have n_10 : (isOfB 2 q) = false := b2_f c_10
      refine r_iconst (v := nI 0) dX12_isOf_17 rfl ?_
      refine e_zret dX12_isOf_18 rfl (by decide) ?_
      exact ⟨by rw [isOfB_up5 hq n_2, n_10]; rfl, rfl⟩
    · skip
      have n_10 : (isOfB 2 q) = true := b2_t c_10
      refine r_iconst (v := nI 1) dX12_isOf_13 rfl ?_
      refine r_goto 18 dX12_isOf_14 (by decide) ?_
      refine e_zret dX12_isOf_18 rfl (by decide) ?_
      exact ⟨by rw [isOfB_up5 hq n_2, n_10]; rfl, rfl⟩
theorem K_X13_isOf_6 {d : Nat} {h : Hp} {a p : Nat} {m : Int32} {q : Nat} (hq : q < 7) (pa : PAt h a p 6 m) : gC (d + 2) (0) (0) m_X13_isOf [.ref a, .int (nI q)] (h) (Ret (some (.int (b2 (isOfB 6 q)))) h) := by
  refine gC.of (ls := [some (.ref a), some (.int (nI q))]) (by decide +kernel) rfl rfl rfl rfl (Nat.le_of_ble_eq_true rfl) ?_
  refine r_iload_n 1 dX13_isOf_0 rfl rfl ?_
  refine r_bipush (v := nI 6) dX13_isOf_1 (by decide +kernel) ?_
  refine r_icmp_eq 14 dX13_isOf_3 (by decide) (fun c_3 => ?_) (fun c_3 => ?_)
  · skip
    have n_3 : q = 6 := n_eq (by omega) (by omega) c_3
    refine r_iconst (v := nI 1) dX13_isOf_14 rfl ?_
    refine r_goto 19 dX13_isOf_15 (by decide) ?_
    refine e_zret dX13_isOf_19 rfl (by decide) ?_
    exact ⟨by rw [show isOfB 6 q = true from by rw [n_3]; rfl]; rfl, rfl⟩
  · skip
    have n_3 : ¬ q = 6 := n_eqn (by omega) (by omega) c_3
    refine r_aload_n 0 dX13_isOf_6 rfl rfl rfl ?_
    refine r_iload_n 1 dX13_isOf_7 rfl rfl ?_
    refine r_callSU_1 (ci := 13) dX13_isOf_8 kX13_9 rfl (K_X10_isOf_6 hq pa) (gRecv.of pa.2.2.1 rfl) rfl rfl (Nat.le_of_ble_eq_true rfl) ?_
    refine r_if_eq 18 dX13_isOf_11 (by decide) (fun c_11 => ?_) (fun c_11 => ?_)
    · skip
      have n_11 : (isOfB 3 q) = false := b2_f c_11
      refine r_iconst (v := nI 0) dX13_isOf_18 rfl ?_
      refine e_zret dX13_isOf_19 rfl (by decide) ?_
      exact ⟨by rw [isOfB_up6 hq n_3, n_11]; rfl, rfl⟩
    · skip
      have n_11 : (isOfB 3 q) = true := b2_t c_11
      refine r_iconst (v := nI 1) dX13_isOf_14 rfl ?_
      refine r_goto 19 dX13_isOf_15 (by decide) ?_
      refine e_zret dX13_isOf_19 rfl (by decide) ?_
      exact ⟨by rw [isOfB_up6 hq n_3, n_11]; rfl, rfl⟩
theorem r_bucket_X2_124 {d mc ms : Nat} {M : gM} {pc : Nat} {ls : gLs} {st : List Value} {h : Hp} {Q : gQ} {a p k : Nat} {m : Int32} (hM : mOwn M = RX2) (dc : decode (mC M) pc = .ok (.invokevirtual 124, 3)) (pa : PAt h a p k m) (hcat : (st.map fun v => v.category).sum ≤ 8) (kk : gG (d + 4) mc ms M (pc + 3) ls (.int (fillV k m) :: st) h Q) : gG (d + 4) mc ms M pc ls (.ref a :: st) h Q := by
  have h4 := pa.2.2.2.1
  rcases (show k = 0 ∨ k = 1 ∨ k = 2 ∨ k = 3 ∨ k = 4 ∨ k = 5 ∨ k = 6 by omega) with rfl | rfl | rfl | rfl | rfl | rfl | rfl
  · exact r_callV_1 dc (by rw [hM]; exact kX2_124_X7) (K_X7_bucket_0 pa) (gRecv.pa pa rfl) rfl rfl hcat kk
  · exact r_callU_1 dc (by rw [hM]; exact kX2_124_X8) (K_X8_bucket_1 pa) (gRecv.pa pa rfl) rfl rfl hcat kk
  · exact r_callU_1 dc (by rw [hM]; exact kX2_124_X9) (K_X9_bucket_2 pa) (gRecv.pa pa rfl) rfl rfl hcat kk
  · exact r_callU_1 dc (by rw [hM]; exact kX2_124_X10) (K_X10_bucket_3 pa) (gRecv.pa pa rfl) rfl rfl hcat kk
  · exact r_callU_1 dc (by rw [hM]; exact kX2_124_X11) (K_X11_bucket_4 pa) (gRecv.pa pa rfl) rfl rfl hcat kk
  · exact r_callU_1 dc (by rw [hM]; exact kX2_124_X12) (K_X12_bucket_5 pa) (gRecv.pa pa rfl) rfl rfl hcat kk
  · exact r_callU_1 dc (by rw [hM]; exact kX2_124_X13) (K_X13_bucket_6 pa) (gRecv.pa pa rfl) rfl rfl hcat kk
theorem r_drinks_X2_132 {d mc ms : Nat} {M : gM} {pc : Nat} {ls : gLs} {st : List Value} {h : Hp} {Q : gQ} {a p k : Nat} {m : Int32} (hM : mOwn M = RX2) (dc : decode (mC M) pc = .ok (.invokevirtual 132, 3)) (pa : PAt h a p k m) (hcat : (st.map fun v => v.category).sum ≤ 8) (kk : gG (d + 4) mc ms M (pc + 3) ls (.int (drinkV k) :: st) h Q) : gG (d + 4) mc ms M pc ls (.ref a :: st) h Q := by
  have h4 := pa.2.2.2.1
  rcases (show k = 0 ∨ k = 1 ∨ k = 2 ∨ k = 3 ∨ k = 4 ∨ k = 5 ∨ k = 6 by omega) with rfl | rfl | rfl | rfl | rfl | rfl | rfl
  · exact r_callV_1 dc (by rw [hM]; exact kX2_132_X7) (K_X7_drinks_0 pa) (gRecv.pa pa rfl) rfl rfl hcat kk
  · exact r_callU_1 dc (by rw [hM]; exact kX2_132_X8) (K_X8_drinks_1 pa) (gRecv.pa pa rfl) rfl rfl hcat kk
  · exact r_callU_1 dc (by rw [hM]; exact kX2_132_X9) (K_X9_drinks_2 pa) (gRecv.pa pa rfl) rfl rfl hcat kk
  · exact r_callU_1 dc (by rw [hM]; exact kX2_132_X10) (K_X7_drinks_3 pa) (gRecv.pa pa rfl) rfl rfl hcat kk
  · exact r_callU_1 dc (by rw [hM]; exact kX2_132_X11) (K_X8_drinks_4 pa) (gRecv.pa pa rfl) rfl rfl hcat kk
  · exact r_callU_1 dc (by rw [hM]; exact kX2_132_X12) (K_X12_drinks_5 pa) (gRecv.pa pa rfl) rfl rfl hcat kk
  · exact r_callU_1 dc (by rw [hM]; exact kX2_132_X13) (K_X7_drinks_6 pa) (gRecv.pa pa rfl) rfl rfl hcat kk
theorem M_is_0 {d : Nat} {h : Hp} : gC (d) (0) (0) m_X15_is [.int (nI 0)] (h) (Ret (some (.int (nI 0))) h) := by
  refine gC.of (ls := [some (.int (nI 0))]) (by decide +kernel) rfl rfl rfl rfl (Nat.le_of_ble_eq_true rfl) ?_
  refine r_iload_n 0 dX15_is_0 rfl rfl ?_
  refine r_if_eq 8 dX15_is_1 (by decide) (fun c_1 => ?_) (fun c_1 => ?_)
  · skip
    have n_1 : 0 = 0 := n_eq0 (by omega) c_1
    refine r_iconst (v := nI 0) dX15_is_8 rfl ?_
    refine e_iret dX15_is_9 rfl ?_
    exact ⟨rfl, rfl⟩
  · skip
    have n_1 : ¬ 0 = 0 := n_ne0 (by omega) c_1
    exact absurd n_1 (by decide)
theorem M_is_1 {d : Nat} {h : Hp} : gC (d) (0) (0) m_X15_is [.int (nI 1)] (h) (Ret (some (.int (nI 1))) h) := by
  refine gC.of (ls := [some (.int (nI 1))]) (by decide +kernel) rfl rfl rfl rfl (Nat.le_of_ble_eq_true rfl) ?_
  refine r_iload_n 0 dX15_is_0 rfl rfl ?_
  refine r_if_eq 8 dX15_is_1 (by decide) (fun c_1 => ?_) (fun c_1 => ?_)
  · skip
    have n_1 : 1 = 0 := n_eq0 (by omega) c_1
    exact absurd n_1 (by decide)
  · skip
    have n_1 : ¬ 1 = 0 := n_ne0 (by omega) c_1
    refine r_iconst (v := nI 1) dX15_is_4 rfl ?_
    refine r_goto 9 dX15_is_5 (by decide) ?_
    refine e_iret dX15_is_9 rfl ?_
    exact ⟨rfl, rfl⟩
theorem M_fig {d : Nat} {h : Hp} {a F : Nat} (h3 : hS h a = .inl 20) : gC (d) (0) (0) m_X20_value [.ref a, .ref F] (h) (Ret (some (.int (hI h a 0))) h) := by
  refine gC.of (ls := [some (.ref a), some (.ref F)]) (by decide +kernel) rfl rfl rfl rfl (Nat.le_of_ble_eq_true rfl) ?_
  refine r_aload_n 0 dX20_value_0 rfl rfl rfl ?_
  refine r_geti (k := 0) dX20_value_1 h3 rfl (by decide) (Or.inl q848) (Or.inl rfl) rfl ?_
  refine e_iret dX20_value_4 rfl ?_
  exact ⟨rfl, rfl⟩
theorem M_nam {d : Nat} {h : Hp} {a F N c : Nat} (hF : hS h F = .inl 3) (hFN : hR h F 0 = some N) (hN : hS h N = .inr (0, 128)) (h3 : hS h a = .inl 17) (hc : c < 128) (hi : hI h a 0 = nI c) : gC (d) (0) (0) m_X17_value [.ref a, .ref F] (h) (Ret (some (.int (hI h N c))) h) := by
  refine gC.of (ls := [some (.ref a), some (.ref F)]) (by decide +kernel) rfl rfl rfl rfl (Nat.le_of_ble_eq_true rfl) ?_
  refine r_aload_n 1 dX17_value_0 rfl rfl rfl ?_
  refine r_getr (k := 0) (b := N) dX17_value_1 hF rfl (by decide) (Or.inr ⟨_, q212⟩) (Or.inl rfl) rfl hFN ?_
  refine r_aload_n 0 dX17_value_4 rfl rfl rfl ?_
  refine r_geti (k := 0) dX17_value_5 h3 rfl (by decide) (Or.inl q798) (Or.inl rfl) rfl ?_
  refine r_eqi (show _ = nI (c) from hi) ?_
  refine r_ialdN (c) dX17_value_8 hN rfl (by omega) (by decide) ?_
  refine e_iret dX17_value_9 rfl ?_
  exact ⟨rfl, rfl⟩
theorem r_val_X19_13 {d mc ms : Nat} {M : gM} {pc : Nat} {ls : gLs} {st : List Value} {h : Hp} {Q : gQ} {n a F N : Nat} {v : Row → Int32} (hM : mOwn M = RX19) (dc : decode (mC M) pc = .ok (.invokevirtual 13, 3)) (ok : ValOK d n h F N) (tv : TV n h a v) (hcat : (st.map fun v => v.category).sum ≤ 8) (kk : gG (d + 1) mc ms M (pc + 3) ls (.int (v (hI h N)) :: st) h Q) : gG (d + 1) mc ms M pc ls (.ref F :: .ref a :: st) h Q := by
  obtain ⟨o1, o2, o3, o4⟩ := ok a v tv
  rcases tv.cls with e | e | e | e
  · exact r_callU_1 dc (by rw [hM]; exact kX19_13_X20) (o1 e) (gRecv.of e rfl) rfl rfl hcat kk
  · exact r_callU_1 dc (by rw [hM]; exact kX19_13_X17) (o2 e) (gRecv.of e rfl) rfl rfl hcat kk
  · exact r_callU_1 dc (by rw [hM]; exact kX19_13_X19) (o3 e) (gRecv.of e rfl) rfl rfl hcat kk
  · exact r_callU_1 dc (by rw [hM]; exact kX19_13_X15) (o4 e) (gRecv.of e rfl) rfl rfl hcat kk
theorem r_val_X15_20 {d mc ms : Nat} {M : gM} {pc : Nat} {ls : gLs} {st : List Value} {h : Hp} {Q : gQ} {n a F N : Nat} {v : Row → Int32} (hM : mOwn M = RX15) (dc : decode (mC M) pc = .ok (.invokevirtual 20, 3)) (ok : ValOK d n h F N) (tv : TV n h a v) (hcat : (st.map fun v => v.category).sum ≤ 8) (kk : gG (d + 1) mc ms M (pc + 3) ls (.int (v (hI h N)) :: st) h Q) : gG (d + 1) mc ms M pc ls (.ref F :: .ref a :: st) h Q := by
  obtain ⟨o1, o2, o3, o4⟩ := ok a v tv
  rcases tv.cls with e | e | e | e
  · exact r_callU_1 dc (by rw [hM]; exact kX15_20_X20) (o1 e) (gRecv.of e rfl) rfl rfl hcat kk
  · exact r_callU_1 dc (by rw [hM]; exact kX15_20_X17) (o2 e) (gRecv.of e rfl) rfl rfl hcat kk
  · exact r_callU_1 dc (by rw [hM]; exact kX15_20_X19) (o3 e) (gRecv.of e rfl) rfl rfl hcat kk
  · exact r_callU_1 dc (by rw [hM]; exact kX15_20_X15) (o4 e) (gRecv.of e rfl) rfl rfl hcat kk
theorem r_val_X2_88 {d mc ms : Nat} {M : gM} {pc : Nat} {ls : gLs} {st : List Value} {h : Hp} {Q : gQ} {n a F N : Nat} {v : Row → Int32} (hM : mOwn M = RX2) (dc : decode (mC M) pc = .ok (.invokevirtual 88, 3)) (ok : ValOK d n h F N) (tv : TV n h a v) (hcat : (st.map fun v => v.category).sum ≤ 8) (kk : gG (d + 1) mc ms M (pc + 3) ls (.int (v (hI h N)) :: st) h Q) : gG (d + 1) mc ms M pc ls (.ref F :: .ref a :: st) h Q := by
  obtain ⟨o1, o2, o3, o4⟩ := ok a v tv
  rcases tv.cls with e | e | e | e
  · exact r_callU_1 dc (by rw [hM]; exact kX2_88_X20) (o1 e) (gRecv.of e rfl) rfl rfl hcat kk
  · exact r_callU_1 dc (by rw [hM]; exact kX2_88_X17) (o2 e) (gRecv.of e rfl) rfl rfl hcat kk
  · exact r_callU_1 dc (by rw [hM]; exact kX2_88_X19) (o3 e) (gRecv.of e rfl) rfl rfl hcat kk
  · exact r_callU_1 dc (by rw [hM]; exact kX2_88_X15) (o4 e) (gRecv.of e rfl) rfl rfl hcat kk
theorem M_turn {d n : Nat} {h : Hp} {a F N a1 : Nat} {v1 : Row → Int32} (h3 : hS h a = .inl 19) (hr : hR h a 0 = some a1) (ok : ValOK d n h F N) (tv : TV n h a1 v1) : gC (d + 1) (0) (0) m_X19_value [.ref a, .ref F] (h) (Ret (some (.int (if v1 (hI h N) = 0 then 1 else 0))) h) := by
  refine gC.of (ls := [some (.ref a), some (.ref F)]) (by decide +kernel) rfl rfl rfl rfl (Nat.le_of_ble_eq_true rfl) ?_
  refine r_aload_n 0 dX19_value_0 rfl rfl rfl ?_
  refine r_getr (k := 0) (b := a1) dX19_value_1 h3 rfl (by decide) (Or.inl q836) (Or.inl rfl) rfl hr ?_
  refine r_aload_n 1 dX19_value_4 rfl rfl rfl ?_
  refine r_val_X19_13 rfl dX19_value_5 (ok) (tv) (Nat.le_of_ble_eq_true rfl) ?_
  refine r_if_ne 15 dX19_value_8 (by decide) (fun c_8 => ?_) (fun c_8 => ?_)
  · skip
    refine r_iconst (v := nI 0) dX19_value_15 rfl ?_
    refine e_iret dX19_value_16 rfl ?_
    exact ⟨by rw [if_neg c_8]; rfl, rfl⟩
  · skip
    refine r_iconst (v := nI 1) dX19_value_11 rfl ?_
    refine r_goto 16 dX19_value_12 (by decide) ?_
    refine e_iret dX19_value_16 rfl ?_
    exact ⟨by rw [if_pos c_8]; rfl, rfl⟩
theorem M_two {d n : Nat} {h : Hp} {a F N a1 a2 c : Nat} {v1 v2 : Row → Int32} (h3 : hS h a = .inl 15) (hc : hI h a 0 = nI c) (hs : sgn c) (hr1 : hR h a 1 = some a1) (hr2 : hR h a 2 = some a2) (ok : ValOK d n h F N) (t1 : TV n h a1 v1) (t2 : TV n h a2 v2) : gC (d + 1) (0) (0) m_X15_value [.ref a, .ref F] (h) (Ret (some (.int (twoV c (v1 (hI h N)) (v2 (hI h N))))) h) := by
  refine gC.of (ls := [some (.ref a), some (.ref F), none, none]) (by decide +kernel) rfl rfl rfl rfl (Nat.le_of_ble_eq_true rfl) ?_
  refine r_aload_n 0 dX15_value_0 rfl rfl rfl ?_
  refine r_getr (k := 1) (b := a1) dX15_value_1 h3 rfl (by decide) (Or.inl q860) (Or.inl rfl) rfl hr1 ?_
  refine r_aload_n 1 dX15_value_4 rfl rfl rfl ?_
  refine r_val_X15_20 rfl dX15_value_5 (ok) (t1) (Nat.le_of_ble_eq_true rfl) ?_
  refine r_istore_n 2 dX15_value_8 rfl (by decide) rfl ?_
  refine gG_ls (ls' := [_, _, _, _]) rfl ?_
  refine r_aload_n 0 dX15_value_9 rfl rfl rfl ?_
  refine r_getr (k := 2) (b := a2) dX15_value_10 h3 rfl (by decide) (Or.inl q861) (Or.inl rfl) rfl hr2 ?_
  refine r_aload_n 1 dX15_value_13 rfl rfl rfl ?_
  refine r_val_X15_20 rfl dX15_value_14 (ok) (t2) (Nat.le_of_ble_eq_true rfl) ?_
  refine r_istore_n 3 dX15_value_17 rfl (by decide) rfl ?_
  refine gG_ls (ls' := [_, _, _, _]) rfl ?_
  refine r_aload_n 0 dX15_value_18 rfl rfl rfl ?_
  refine r_geti (k := 0) dX15_value_19 h3 rfl (by decide) (Or.inl q859) (Or.inl rfl) rfl ?_
  refine r_eqi (show _ = nI (c) from hc) ?_
  rcases hs with rfl | rfl | rfl | rfl | rfl | rfl | rfl | rfl | rfl | rfl
  · skip
    refine r_tabIn 140 (off := 118) dX15_value_22 (by decide) (by decide) (by decide +kernel) (by decide) ?_
    refine r_iload_n 2 dX15_value_140 rfl rfl ?_
    refine r_iload_n 3 dX15_value_141 rfl rfl ?_
    refine r_iadd dX15_value_142 ?_
    refine e_iret dX15_value_143 rfl ?_
    exact ⟨rfl, rfl⟩
  · skip
    refine r_tabIn 144 (off := 122) dX15_value_22 (by decide) (by decide) (by decide +kernel) (by decide) ?_
    refine r_iload_n 2 dX15_value_144 rfl rfl ?_
    refine r_iload_n 3 dX15_value_145 rfl rfl ?_
    refine r_isub dX15_value_146 ?_
    refine e_iret dX15_value_147 rfl ?_
    exact ⟨rfl, rfl⟩
  · skip
    refine r_tabIn 148 (off := 126) dX15_value_22 (by decide) (by decide) (by decide +kernel) (by decide) ?_
    refine r_iload_n 2 dX15_value_148 rfl rfl ?_
    refine r_iload_n 3 dX15_value_149 rfl rfl ?_
    refine r_imul dX15_value_150 ?_
    refine e_iret dX15_value_151 rfl ?_
    exact ⟨rfl, rfl⟩
  · skip
    refine r_tabIn 152 (off := 130) dX15_value_22 (by decide) (by decide) (by decide +kernel) (by decide) ?_
    refine r_iload_n 3 dX15_value_152 rfl rfl ?_
    refine r_if_ne 160 dX15_value_153 (by decide) (fun c_153 => ?_) (fun c_153 => ?_)
    · skip
      refine r_iload_n 2 dX15_value_160 rfl rfl ?_
      refine r_iload_n 3 dX15_value_161 rfl rfl ?_
      refine r_idiv dX15_value_162 c_153 ?_
      refine e_iret dX15_value_163 rfl ?_
      exact ⟨by rw [tw47 c_153] <;> rfl, rfl⟩
    · skip
      refine r_iconst (v := nI 0) dX15_value_156 rfl ?_
      refine r_goto 163 dX15_value_157 (by decide) ?_
      refine e_iret dX15_value_163 rfl ?_
      exact ⟨by rw [tw47n c_153] <;> rfl, rfl⟩
  · skip
    refine r_tabIn 164 (off := 142) dX15_value_22 (by decide) (by decide) (by decide +kernel) (by decide) ?_
    refine r_iload_n 3 dX15_value_164 rfl rfl ?_
    refine r_if_ne 172 dX15_value_165 (by decide) (fun c_165 => ?_) (fun c_165 => ?_)
    · skip
      refine r_iload_n 2 dX15_value_172 rfl rfl ?_
      refine r_iload_n 3 dX15_value_173 rfl rfl ?_
      refine r_irem dX15_value_174 c_165 ?_
      refine e_iret dX15_value_175 rfl ?_
      exact ⟨by rw [tw37 c_165] <;> rfl, rfl⟩
    · skip
      refine r_iconst (v := nI 0) dX15_value_168 rfl ?_
      refine r_goto 175 dX15_value_169 (by decide) ?_
      refine e_iret dX15_value_175 rfl ?_
      exact ⟨by rw [tw37n c_165] <;> rfl, rfl⟩
  · skip
    refine r_tabIn 176 (off := 154) dX15_value_22 (by decide) (by decide) (by decide +kernel) (by decide) ?_
    refine r_iload_n 2 dX15_value_176 rfl rfl ?_
    refine r_iload_n 3 dX15_value_177 rfl rfl ?_
    refine r_icmp_ge 185 dX15_value_178 (by decide) (fun c_178 => ?_) (fun c_178 => ?_)
    · skip
      refine r_iconst (v := nI 0) dX15_value_185 rfl ?_
      refine r_callS_1 dX15_value_186 kX15_24 (M_is_0)  rfl rfl (Nat.le_of_ble_eq_true rfl) ?_
      refine e_iret dX15_value_189 rfl ?_
      exact ⟨by rw [tw60f (i_le_nlt c_178)] <;> rfl, rfl⟩
    · skip
      refine r_iconst (v := nI 1) dX15_value_181 rfl ?_
      refine r_goto 186 dX15_value_182 (by decide) ?_
      refine r_callS_1 dX15_value_186 kX15_24 (M_is_1)  rfl rfl (Nat.le_of_ble_eq_true rfl) ?_
      refine e_iret dX15_value_189 rfl ?_
      exact ⟨by rw [tw60t (i_nle c_178)] <;> rfl, rfl⟩
  · skip
    refine r_tabIn 190 (off := 168) dX15_value_22 (by decide) (by decide) (by decide +kernel) (by decide) ?_
    refine r_iload_n 2 dX15_value_190 rfl rfl ?_
    refine r_iload_n 3 dX15_value_191 rfl rfl ?_
    refine r_icmp_ne 199 dX15_value_192 (by decide) (fun c_192 => ?_) (fun c_192 => ?_)
    · skip
      refine r_iconst (v := nI 0) dX15_value_199 rfl ?_
      refine r_callS_1 dX15_value_200 kX15_24 (M_is_0)  rfl rfl (Nat.le_of_ble_eq_true rfl) ?_
      refine e_iret dX15_value_203 rfl ?_
      exact ⟨by rw [tw61f c_192] <;> rfl, rfl⟩
    · skip
      refine r_iconst (v := nI 1) dX15_value_195 rfl ?_
      refine r_goto 200 dX15_value_196 (by decide) ?_
      refine r_callS_1 dX15_value_200 kX15_24 (M_is_1)  rfl rfl (Nat.le_of_ble_eq_true rfl) ?_
      refine e_iret dX15_value_203 rfl ?_
      exact ⟨by rw [tw61t (Decidable.not_not.mp fun q => q c_192)] <;> rfl, rfl⟩
  · skip
    refine r_tabIn 204 (off := 182) dX15_value_22 (by decide) (by decide) (by decide +kernel) (by decide) ?_
    refine r_iload_n 2 dX15_value_204 rfl rfl ?_
    refine r_iload_n 3 dX15_value_205 rfl rfl ?_
    refine r_icmp_le 213 dX15_value_206 (by decide) (fun c_206 => ?_) (fun c_206 => ?_)
    · skip
      refine r_iconst (v := nI 0) dX15_value_213 rfl ?_
      refine r_callS_1 dX15_value_214 kX15_24 (M_is_0)  rfl rfl (Nat.le_of_ble_eq_true rfl) ?_
      refine e_iret dX15_value_217 rfl ?_
      exact ⟨by rw [tw62f (i_le_nlt c_206)] <;> rfl, rfl⟩
    · skip
      refine r_iconst (v := nI 1) dX15_value_209 rfl ?_
      refine r_goto 214 dX15_value_210 (by decide) ?_
      refine r_callS_1 dX15_value_214 kX15_24 (M_is_1)  rfl rfl (Nat.le_of_ble_eq_true rfl) ?_
      refine e_iret dX15_value_217 rfl ?_
      exact ⟨by rw [tw62t (i_nle c_206)] <;> rfl, rfl⟩
  · skip
    refine r_tabIn 218 (off := 196) dX15_value_22 (by decide) (by decide) (by decide +kernel) (by decide) ?_
    refine r_iload_n 2 dX15_value_218 rfl rfl ?_
    refine r_if_eq 230 dX15_value_219 (by decide) (fun c_219 => ?_) (fun c_219 => ?_)
    · skip
      refine r_iconst (v := nI 0) dX15_value_230 rfl ?_
      refine r_callS_1 dX15_value_231 kX15_24 (M_is_0)  rfl rfl (Nat.le_of_ble_eq_true rfl) ?_
      refine e_iret dX15_value_234 rfl ?_
      exact ⟨by rw [tw38f c_219] <;> rfl, rfl⟩
    · skip
      refine r_iload_n 3 dX15_value_222 rfl rfl ?_
      refine r_if_eq 230 dX15_value_223 (by decide) (fun c_223 => ?_) (fun c_223 => ?_)
      · skip
        refine r_iconst (v := nI 0) dX15_value_230 rfl ?_
        refine r_callS_1 dX15_value_231 kX15_24 (M_is_0)  rfl rfl (Nat.le_of_ble_eq_true rfl) ?_
        refine e_iret dX15_value_234 rfl ?_
        exact ⟨by rw [tw38g c_223] <;> rfl, rfl⟩
      · skip
        refine r_iconst (v := nI 1) dX15_value_226 rfl ?_
        refine r_goto 231 dX15_value_227 (by decide) ?_
        refine r_callS_1 dX15_value_231 kX15_24 (M_is_1)  rfl rfl (Nat.le_of_ble_eq_true rfl) ?_
        refine e_iret dX15_value_234 rfl ?_
        exact ⟨by rw [tw38t c_219 c_223] <;> rfl, rfl⟩
  · skip
    refine r_tabOut 235 dX15_value_22 (by decide) (by decide) ?_
    refine r_iload_n 2 dX15_value_235 rfl rfl ?_
    refine r_if_ne 243 dX15_value_236 (by decide) (fun c_236 => ?_) (fun c_236 => ?_)
    · skip
      refine r_iconst (v := nI 1) dX15_value_243 rfl ?_
      refine r_goto 248 dX15_value_244 (by decide) ?_
      refine r_callS_1 dX15_value_248 kX15_24 (M_is_1)  rfl rfl (Nat.le_of_ble_eq_true rfl) ?_
      refine e_iret dX15_value_251 rfl ?_
      exact ⟨by rw [tw124t c_236] <;> rfl, rfl⟩
    · skip
      refine r_iload_n 3 dX15_value_239 rfl rfl ?_
      refine r_if_eq 247 dX15_value_240 (by decide) (fun c_240 => ?_) (fun c_240 => ?_)
      · skip
        refine r_iconst (v := nI 0) dX15_value_247 rfl ?_
        refine r_callS_1 dX15_value_248 kX15_24 (M_is_0)  rfl rfl (Nat.le_of_ble_eq_true rfl) ?_
        refine e_iret dX15_value_251 rfl ?_
        exact ⟨by rw [tw124f (Decidable.not_not.mp fun q => q c_236) c_240] <;> rfl, rfl⟩
      · skip
        refine r_iconst (v := nI 1) dX15_value_243 rfl ?_
        refine r_goto 248 dX15_value_244 (by decide) ?_
        refine r_callS_1 dX15_value_248 kX15_24 (M_is_1)  rfl rfl (Nat.le_of_ble_eq_true rfl) ?_
        refine e_iret dX15_value_251 rfl ?_
        exact ⟨by rw [tw124u c_240] <;> rfl, rfl⟩
theorem val_ok {h : Hp} {F N : Nat} (hF : hS h F = .inl 3) (hFN : hR h F 0 = some N) (hN : hS h N = .inr (0, 128)) {d : Nat} : ∀ n, ValOK (d + n) n h F N
  | 0 => fun a v t => by cases t
  | n + 1 => fun a v t => by
    have ih := val_ok hF hFN hN (d := d) n
    obtain ⟨t1, t2, ⟨k1, k2⟩ | ⟨k1, c, k2, k3, k4⟩ | ⟨k1, a1, v1, k2, k3, k4⟩ | ⟨k1, c, a1, v1, a2, v2, k2, k3, k4, k5, k6, k7, k8⟩⟩ := t
    · subst k2
      exact ⟨fun _ => M_fig k1, fun e => (by rw [k1] at e; cases e), fun e => (by rw [k1] at e; cases e), fun e => (by rw [k1] at e; cases e)⟩
    · subst k4
      exact ⟨fun e => (by rw [k1] at e; cases e), fun _ => M_nam hF hFN hN k1 k2 k3, fun e => (by rw [k1] at e; cases e), fun e => (by rw [k1] at e; cases e)⟩
    · subst k4
      exact ⟨fun e => (by rw [k1] at e; cases e), fun e => (by rw [k1] at e; cases e), fun _ => M_turn k1 k2 ih k3, fun e => (by rw [k1] at e; cases e)⟩
    · subst k8
      exact ⟨fun e => (by rw [k1] at e; cases e), fun e => (by rw [k1] at e; cases e), fun e => (by rw [k1] at e; cases e), fun _ => M_two k1 k2 k3 k4 k5 ih k6 k7⟩
