theorem ZX22_size {d : Nat} {h : Hp} {a A n : Nat} (e1 : hS h a = .inl 22) (h3 : hR h a 0 = some A) (h6 : hS h A = .inr (1, n)) (hn : n < 1000) : gC (d) (0) (0) m_X22_size [.ref a] (h) (Ret (some (.int (nI n))) h) := by
  refine gC.of (ls := [some (.ref a)]) (by decide +kernel) rfl rfl rfl rfl (Nat.le_of_ble_eq_true rfl) ?_
  refine r_aload_n 0 dX22_size_0 rfl rfl rfl ?_
  refine r_getr (k := 0) (b := A) dX22_size_1 e1 rfl (by decide) (Or.inl q1319) (Or.inl rfl) rfl h3 ?_
  refine r_alen dX22_size_4 h6 (by decide) ?_
  refine r_eqi (show _ = nI (n) from rfl) ?_
  refine e_iret dX22_size_5 rfl ?_
  exact ⟨rfl, rfl⟩
theorem ZX22_get {d : Nat} {h : Hp} {a A n : Nat} (e1 : hS h a = .inl 22) (h3 : hR h a 0 = some A) (h6 : hS h A = .inr (1, n)) (hn : n < 1000) {i : Nat} (hi : i < n) : gC (d) (0) (0) m_X22_get [.ref a, .int (nI i)] (h) (Ret (some (.int (hI h A i))) h) := by
  refine gC.of (ls := [some (.ref a), some (.int (nI i))]) (by decide +kernel) rfl rfl rfl rfl (Nat.le_of_ble_eq_true rfl) ?_
  refine r_aload_n 0 dX22_get_0 rfl rfl rfl ?_
  refine r_getr (k := 0) (b := A) dX22_get_1 e1 rfl (by decide) (Or.inl q1319) (Or.inl rfl) rfl h3 ?_
  refine r_iload_n 1 dX22_get_4 rfl rfl ?_
  refine r_baldN (i) dX22_get_5 h6 rfl (by omega) (by omega) ?_
  refine e_iret dX22_get_6 rfl ?_
  exact ⟨rfl, rfl⟩
theorem ZX22_put {d : Nat} {h : Hp} {a A n : Nat} (e1 : hS h a = .inl 22) (h3 : hR h a 0 = some A) (h6 : hS h A = .inr (1, n)) (hn : n < 1000) {i : Nat} {v : Int32} (hi : i < n) : gC (d) (0) (0) m_X22_put [.ref a, .int (nI i), .int v] (h) (Ret none (wI h A i (narV (nI 8) v))) := by
  refine gC.of (ls := [some (.ref a), some (.int (nI i)), some (.int v)]) (by decide +kernel) rfl rfl rfl rfl (Nat.le_of_ble_eq_true rfl) ?_
  refine r_aload_n 0 dX22_put_0 rfl rfl rfl ?_
  refine r_getr (k := 0) (b := A) dX22_put_1 e1 rfl (by decide) (Or.inl q1319) (Or.inl rfl) rfl h3 ?_
  refine r_iload_n 1 dX22_put_4 rfl rfl ?_
  refine r_iload_n 2 dX22_put_5 rfl rfl ?_
  refine r_i2b dX22_put_6 ?_
  refine r_bastN (i) dX22_put_7 h6 rfl (by omega) (by omega) ?_
  refine e_vret dX22_put_8 rfl ?_
  exact ⟨rfl, by rw [nar_8]⟩
theorem ZX22_width {d : Nat} {h : Hp} {a : Nat} : gC (d) (0) (0) m_X22_width [.ref a] (h) (Ret (some (.int (nI 8))) h) := by
  refine gC.of (ls := [some (.ref a)]) (by decide +kernel) rfl rfl rfl rfl (Nat.le_of_ble_eq_true rfl) ?_
  refine r_bipush (v := nI 8) dX22_width_0 (by decide +kernel) ?_
  refine e_iret dX22_width_2 rfl ?_
  exact ⟨rfl, rfl⟩
theorem ZX23_size {d : Nat} {h : Hp} {a A n : Nat} (e1 : hS h a = .inl 23) (h3 : hR h a 0 = some A) (h6 : hS h A = .inr (2, n)) (hn : n < 1000) : gC (d) (0) (0) m_X23_size [.ref a] (h) (Ret (some (.int (nI n))) h) := by
  refine gC.of (ls := [some (.ref a)]) (by decide +kernel) rfl rfl rfl rfl (Nat.le_of_ble_eq_true rfl) ?_
  refine r_aload_n 0 dX23_size_0 rfl rfl rfl ?_
  refine r_getr (k := 0) (b := A) dX23_size_1 e1 rfl (by decide) (Or.inl q1329) (Or.inl rfl) rfl h3 ?_
  refine r_alen dX23_size_4 h6 (by decide) ?_
  refine r_eqi (show _ = nI (n) from rfl) ?_
  refine e_iret dX23_size_5 rfl ?_
  exact ⟨rfl, rfl⟩
theorem ZX23_get {d : Nat} {h : Hp} {a A n : Nat} (e1 : hS h a = .inl 23) (h3 : hR h a 0 = some A) (h6 : hS h A = .inr (2, n)) (hn : n < 1000) {i : Nat} (hi : i < n) : gC (d) (0) (0) m_X23_get [.ref a, .int (nI i)] (h) (Ret (some (.int (hI h A i))) h) := by
  refine gC.of (ls := [some (.ref a), some (.int (nI i))]) (by decide +kernel) rfl rfl rfl rfl (Nat.le_of_ble_eq_true rfl) ?_
  refine r_aload_n 0 dX23_get_0 rfl rfl rfl ?_
  refine r_getr (k := 0) (b := A) dX23_get_1 e1 rfl (by decide) (Or.inl q1329) (Or.inl rfl) rfl h3 ?_
  refine r_iload_n 1 dX23_get_4 rfl rfl ?_
  refine r_saldN (i) dX23_get_5 h6 rfl (by omega) (by omega) ?_
  refine e_iret dX23_get_6 rfl ?_
  exact ⟨rfl, rfl⟩
theorem ZX23_put {d : Nat} {h : Hp} {a A n : Nat} (e1 : hS h a = .inl 23) (h3 : hR h a 0 = some A) (h6 : hS h A = .inr (2, n)) (hn : n < 1000) {i : Nat} {v : Int32} (hi : i < n) : gC (d) (0) (0) m_X23_put [.ref a, .int (nI i), .int v] (h) (Ret none (wI h A i (narV (nI 16) v))) := by
  refine gC.of (ls := [some (.ref a), some (.int (nI i)), some (.int v)]) (by decide +kernel) rfl rfl rfl rfl (Nat.le_of_ble_eq_true rfl) ?_
  refine r_aload_n 0 dX23_put_0 rfl rfl rfl ?_
  refine r_getr (k := 0) (b := A) dX23_put_1 e1 rfl (by decide) (Or.inl q1329) (Or.inl rfl) rfl h3 ?_
  refine r_iload_n 1 dX23_put_4 rfl rfl ?_
  refine r_iload_n 2 dX23_put_5 rfl rfl ?_
  refine r_i2s dX23_put_6 ?_
  refine r_sastN (i) dX23_put_7 h6 rfl (by omega) (by omega) ?_
  refine e_vret dX23_put_8 rfl ?_
  exact ⟨rfl, by rw [nar_16]⟩
theorem ZX23_width {d : Nat} {h : Hp} {a : Nat} : gC (d) (0) (0) m_X23_width [.ref a] (h) (Ret (some (.int (nI 16))) h) := by
  refine gC.of (ls := [some (.ref a)]) (by decide +kernel) rfl rfl rfl rfl (Nat.le_of_ble_eq_true rfl) ?_
  refine r_bipush (v := nI 16) dX23_width_0 (by decide +kernel) ?_
  refine e_iret dX23_width_2 rfl ?_
  exact ⟨rfl, rfl⟩
theorem ZX24_size {d : Nat} {h : Hp} {a A n : Nat} (e1 : hS h a = .inl 24) (h3 : hR h a 0 = some A) (h6 : hS h A = .inr (0, n)) (hn : n < 1000) : gC (d) (0) (0) m_X24_size [.ref a] (h) (Ret (some (.int (nI n))) h) := by
  refine gC.of (ls := [some (.ref a)]) (by decide +kernel) rfl rfl rfl rfl (Nat.le_of_ble_eq_true rfl) ?_
  refine r_aload_n 0 dX24_size_0 rfl rfl rfl ?_
  refine r_getr (k := 0) (b := A) dX24_size_1 e1 rfl (by decide) (Or.inl q1340) (Or.inl rfl) rfl h3 ?_
  refine r_alen dX24_size_4 h6 (by decide) ?_
  refine r_eqi (show _ = nI (n) from rfl) ?_
  refine e_iret dX24_size_5 rfl ?_
  exact ⟨rfl, rfl⟩
theorem ZX24_get {d : Nat} {h : Hp} {a A n : Nat} (e1 : hS h a = .inl 24) (h3 : hR h a 0 = some A) (h6 : hS h A = .inr (0, n)) (hn : n < 1000) {i : Nat} (hi : i < n) : gC (d) (0) (0) m_X24_get [.ref a, .int (nI i)] (h) (Ret (some (.int (hI h A i))) h) := by
  refine gC.of (ls := [some (.ref a), some (.int (nI i))]) (by decide +kernel) rfl rfl rfl rfl (Nat.le_of_ble_eq_true rfl) ?_
  refine r_aload_n 0 dX24_get_0 rfl rfl rfl ?_
  refine r_getr (k := 0) (b := A) dX24_get_1 e1 rfl (by decide) (Or.inl q1340) (Or.inl rfl) rfl h3 ?_
  refine r_iload_n 1 dX24_get_4 rfl rfl ?_
  refine r_ialdN (i) dX24_get_5 h6 rfl (by omega) (by omega) ?_
  refine e_iret dX24_get_6 rfl ?_
  exact ⟨rfl, rfl⟩
theorem ZX24_put {d : Nat} {h : Hp} {a A n : Nat} (e1 : hS h a = .inl 24) (h3 : hR h a 0 = some A) (h6 : hS h A = .inr (0, n)) (hn : n < 1000) {i : Nat} {v : Int32} (hi : i < n) : gC (d) (0) (0) m_X24_put [.ref a, .int (nI i), .int v] (h) (Ret none (wI h A i (narV (nI 32) v))) := by
  refine gC.of (ls := [some (.ref a), some (.int (nI i)), some (.int v)]) (by decide +kernel) rfl rfl rfl rfl (Nat.le_of_ble_eq_true rfl) ?_
  refine r_aload_n 0 dX24_put_0 rfl rfl rfl ?_
  refine r_getr (k := 0) (b := A) dX24_put_1 e1 rfl (by decide) (Or.inl q1340) (Or.inl rfl) rfl h3 ?_
  refine r_iload_n 1 dX24_put_4 rfl rfl ?_
  refine r_iload_n 2 dX24_put_5 rfl rfl ?_
  refine r_iastN (i) dX24_put_6 h6 rfl (by omega) (by omega) ?_
  refine e_vret dX24_put_7 rfl ?_
  exact ⟨rfl, rfl⟩
theorem ZX24_width {d : Nat} {h : Hp} {a : Nat} : gC (d) (0) (0) m_X24_width [.ref a] (h) (Ret (some (.int (nI 32))) h) := by
  refine gC.of (ls := [some (.ref a)]) (by decide +kernel) rfl rfl rfl rfl (Nat.le_of_ble_eq_true rfl) ?_
  refine r_bipush (v := nI 32) dX24_width_0 (by decide +kernel) ?_
  refine e_iret dX24_width_2 rfl ?_
  exact ⟨rfl, rfl⟩
