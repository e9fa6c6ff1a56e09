theorem M_in {d : Nat} {h : Hp} {v a b : Int32} : gC (d) (0) (0) m_X6_in [.int v, .int a, .int b] (h) (Ret (some (.int (b2 (inB v a b)))) h) := by
  refine gC.of (ls := [some (.int v), some (.int a), some (.int b)]) (by decide +kernel) rfl rfl rfl rfl (Nat.le_of_ble_eq_true rfl) ?_
  refine r_iload_n 0 dX6_in_0 rfl rfl ?_
  refine r_iload_n 1 dX6_in_1 rfl rfl ?_
  refine r_icmp_lt 14 dX6_in_2 (by decide) (fun c_2 => ?_) (fun c_2 => ?_)
  · skip
    refine r_iconst (v := nI 0) dX6_in_14 rfl ?_
    refine e_zret dX6_in_15 rfl (by decide) ?_
    exact ⟨by rw [inB_f1 c_2]; rfl, rfl⟩
  · skip
    refine r_iload_n 0 dX6_in_5 rfl rfl ?_
    refine r_iload_n 2 dX6_in_6 rfl rfl ?_
    refine r_icmp_gt 14 dX6_in_7 (by decide) (fun c_7 => ?_) (fun c_7 => ?_)
    · skip
      refine r_iconst (v := nI 0) dX6_in_14 rfl ?_
      refine e_zret dX6_in_15 rfl (by decide) ?_
      exact ⟨by rw [inB_f2 c_7]; rfl, rfl⟩
    · skip
      refine r_iconst (v := nI 1) dX6_in_10 rfl ?_
      refine r_goto 15 dX6_in_11 (by decide) ?_
      refine e_zret dX6_in_15 rfl (by decide) ?_
      exact ⟨by rw [inB_t (i_nlt c_2) (i_nlt c_7)]; rfl, rfl⟩
theorem M_held {d : Nat} {h : Hp} {v a b : Int32} : gC (d) (0) (0) m_X6_held [.int v, .int a, .int b] (h) (Ret (some (.int (heldV v a b))) h) := by
  refine gC.of (ls := [some (.int v), some (.int a), some (.int b)]) (by decide +kernel) rfl rfl rfl rfl (Nat.le_of_ble_eq_true rfl) ?_
  refine r_iload_n 0 dX6_held_0 rfl rfl ?_
  refine r_iload_n 1 dX6_held_1 rfl rfl ?_
  refine r_icmp_ge 9 dX6_held_2 (by decide) (fun c_2 => ?_) (fun c_2 => ?_)
  · skip
    refine r_iload_n 0 dX6_held_9 rfl rfl ?_
    refine r_iload_n 2 dX6_held_10 rfl rfl ?_
    refine r_icmp_le 18 dX6_held_11 (by decide) (fun c_11 => ?_) (fun c_11 => ?_)
    · skip
      refine r_iload_n 0 dX6_held_18 rfl rfl ?_
      refine e_iret dX6_held_19 rfl ?_
      exact ⟨by rw [heldV_3 (i_le_nlt c_2) (i_le_nlt c_11)], rfl⟩
    · skip
      refine r_iload_n 2 dX6_held_14 rfl rfl ?_
      refine r_goto 19 dX6_held_15 (by decide) ?_
      refine e_iret dX6_held_19 rfl ?_
      exact ⟨by rw [heldV_2 (i_le_nlt c_2) (i_nle c_11)], rfl⟩
  · skip
    refine r_iload_n 1 dX6_held_5 rfl rfl ?_
    refine r_goto 19 dX6_held_6 (by decide) ?_
    refine e_iret dX6_held_19 rfl ?_
    exact ⟨by rw [heldV_1 (i_nle c_2)], rfl⟩
theorem M_its {d : Nat} {h : Hp} {r o : Row} (hm : LayM (hS h) (hR h)) {p w : Nat} (hb : 7 + 5 * p + w < 281) : gC (d) (0) (0) m_X6_its [.ref 66, .int (nI p), .int (nI w)] (MH h r o) (Ret (some (.int (pv r p w))) (MH h r o)) := by
  refine gC.of (ls := [some (.ref 66), some (.int (nI p)), some (.int (nI w))]) (by decide +kernel) rfl rfl rfl rfl (Nat.le_of_ble_eq_true rfl) ?_
  refine r_aload_n 0 dX6_its_0 rfl rfl rfl ?_
  refine r_getr (k := 0) (b := 67) dX6_its_1 hm.s66 rfl (by decide) (Or.inl q1416) (Or.inl rfl) rfl hm.r_row ?_
  refine r_bipush (v := nI 7) dX6_its_4 (by decide +kernel) ?_
  refine r_iconst (v := nI 5) dX6_its_6 rfl ?_
  refine r_iload_n 1 dX6_its_7 rfl rfl ?_
  refine r_imul dX6_its_8 ?_
  refine r_iadd dX6_its_9 ?_
  refine r_eqi (show _ = nI (7 + (5 * p)) from by simp only [pk_mul, nI_add]) ?_
  refine r_iload_n 2 dX6_its_10 rfl rfl ?_
  refine r_iadd dX6_its_11 ?_
  refine r_ialdN (((7 + (5 * p)) + w)) dX6_its_12 hm.s67 (by simp only [pk_mul, nI_add]) (by omega) (by decide) ?_
  refine e_iret dX6_its_13 rfl ?_
  exact ⟨rfl, rfl⟩
theorem M_gets {d : Nat} {h : Hp} {r o : Row} (hm : LayM (hS h) (hR h)) {p w : Nat} {v : Int32} (hb : 7 + 5 * p + w < 281) : gC (d) (0) (0) m_X6_gets [.ref 66, .int (nI p), .int (nI w), .int v] (MH h r o) (Ret none (MH h (spv r p w v) o)) := by
  refine gC.of (ls := [some (.ref 66), some (.int (nI p)), some (.int (nI w)), some (.int v)]) (by decide +kernel) rfl rfl rfl rfl (Nat.le_of_ble_eq_true rfl) ?_
  refine r_aload_n 0 dX6_gets_0 rfl rfl rfl ?_
  refine r_getr (k := 0) (b := 67) dX6_gets_1 hm.s66 rfl (by decide) (Or.inl q1416) (Or.inl rfl) rfl hm.r_row ?_
  refine r_bipush (v := nI 7) dX6_gets_4 (by decide +kernel) ?_
  refine r_iconst (v := nI 5) dX6_gets_6 rfl ?_
  refine r_iload_n 1 dX6_gets_7 rfl rfl ?_
  refine r_imul dX6_gets_8 ?_
  refine r_iadd dX6_gets_9 ?_
  refine r_eqi (show _ = nI (7 + (5 * p)) from by simp only [pk_mul, nI_add]) ?_
  refine r_iload_n 2 dX6_gets_10 rfl rfl ?_
  refine r_iadd dX6_gets_11 ?_
  refine r_eqi (show _ = nI ((7 + (5 * p)) + w) from by simp only [pk_mul, nI_add]) ?_
  refine r_iload_n 3 dX6_gets_12 rfl rfl ?_
  refine r_iastN (((7 + (5 * p)) + w)) dX6_gets_13 hm.s67 rfl (by omega) (by decide) ?_
  refine gG_h (MH_67 _ _ _ _ _) ?_
  refine e_vret dX6_gets_14 rfl ?_
  exact ⟨rfl, rfl⟩
theorem M_debt {d : Nat} {h : Hp} {r o : Row} (hm : LayM (hS h) (hR h)) {p w : Nat} (hb : 47 + 8 * p + w < 281) : gC (d) (0) (0) m_X6_debt [.ref 66, .int (nI p), .int (nI w)] (MH h r o) (Ret (some (.int (dv r p w))) (MH h r o)) := by
  refine gC.of (ls := [some (.ref 66), some (.int (nI p)), some (.int (nI w))]) (by decide +kernel) rfl rfl rfl rfl (Nat.le_of_ble_eq_true rfl) ?_
  refine r_aload_n 0 dX6_debt_0 rfl rfl rfl ?_
  refine r_getr (k := 0) (b := 67) dX6_debt_1 hm.s66 rfl (by decide) (Or.inl q1416) (Or.inl rfl) rfl hm.r_row ?_
  refine r_bipush (v := nI 47) dX6_debt_4 (by decide +kernel) ?_
  refine r_bipush (v := nI 8) dX6_debt_6 (by decide +kernel) ?_
  refine r_iload_n 1 dX6_debt_8 rfl rfl ?_
  refine r_imul dX6_debt_9 ?_
  refine r_iadd dX6_debt_10 ?_
  refine r_eqi (show _ = nI (47 + (8 * p)) from by simp only [pk_mul, nI_add]) ?_
  refine r_iload_n 2 dX6_debt_11 rfl rfl ?_
  refine r_iadd dX6_debt_12 ?_
  refine r_ialdN (((47 + (8 * p)) + w)) dX6_debt_13 hm.s67 (by simp only [pk_mul, nI_add]) (by omega) (by decide) ?_
  refine e_iret dX6_debt_14 rfl ?_
  exact ⟨rfl, rfl⟩
theorem M_isOne {d : Nat} {h : Hp} {r o : Row} (hm : LayM (hS h) (hR h)) {v : Int32} : gC (d + 1) (0) (0) m_X6_isOne [.ref 66, .int v] (MH h r o) (Ret (some (.int (b2 (inB v 0 (r 2 - 1))))) (MH h r o)) := by
  refine gC.of (ls := [some (.ref 66), some (.int v)]) (by decide +kernel) rfl rfl rfl rfl (Nat.le_of_ble_eq_true rfl) ?_
  refine r_iload_n 1 dX6_isOne_0 rfl rfl ?_
  refine r_iconst (v := nI 0) dX6_isOne_1 rfl ?_
  refine r_aload_n 0 dX6_isOne_2 rfl rfl rfl ?_
  refine r_getr (k := 0) (b := 67) dX6_isOne_3 hm.s66 rfl (by decide) (Or.inl q1416) (Or.inl rfl) rfl hm.r_row ?_
  refine r_iconst (v := nI 2) dX6_isOne_6 rfl ?_
  refine r_ialdN (2) dX6_isOne_7 hm.s67 rfl (by omega) (by decide) ?_
  refine r_iconst (v := nI 1) dX6_isOne_8 rfl ?_
  refine r_isub dX6_isOne_9 ?_
  refine r_callS_1 dX6_isOne_10 kX6_48 (M_in)  rfl rfl (Nat.le_of_ble_eq_true rfl) ?_
  refine e_zret dX6_isOne_13 rfl (nar_b2 _) ?_
  exact ⟨rfl, rfl⟩
theorem M_becomes {d : Nat} {h : Hp} {r o : Row} (hm : LayM (hS h) (hR h)) {k : Nat} {v : Int32} (hk : k < 281) : gC (d) (0) (0) m_X6_becomes [.ref 66, .int (nI k), .int v] (MH h r o) (Ret (some (.int (r k))) (MH h (ru r k v) o)) := by
  refine gC.of (ls := [some (.ref 66), some (.int (nI k)), some (.int v), none]) (by decide +kernel) rfl rfl rfl rfl (Nat.le_of_ble_eq_true rfl) ?_
  refine r_aload_n 0 dX6_becomes_0 rfl rfl rfl ?_
  refine r_getr (k := 0) (b := 67) dX6_becomes_1 hm.s66 rfl (by decide) (Or.inl q1416) (Or.inl rfl) rfl hm.r_row ?_
  refine r_iload_n 1 dX6_becomes_4 rfl rfl ?_
  refine r_ialdN (k) dX6_becomes_5 hm.s67 rfl (by omega) (by decide) ?_
  refine r_istore_n 3 dX6_becomes_6 rfl (by decide) rfl ?_
  refine gG_ls (ls' := [_, _, _, _]) rfl ?_
  refine r_aload_n 0 dX6_becomes_7 rfl rfl rfl ?_
  refine r_getr (k := 0) (b := 67) dX6_becomes_8 hm.s66 rfl (by decide) (Or.inl q1416) (Or.inl rfl) rfl hm.r_row ?_
  refine r_iload_n 1 dX6_becomes_11 rfl rfl ?_
  refine r_iload_n 2 dX6_becomes_12 rfl rfl ?_
  refine r_iastN (k) dX6_becomes_13 hm.s67 rfl (by omega) (by decide) ?_
  refine gG_h (MH_67 _ _ _ _ _) ?_
  refine r_iload_n 3 dX6_becomes_14 rfl rfl ?_
  refine e_iret dX6_becomes_15 rfl ?_
  exact ⟨rfl, rfl⟩
theorem M_errs {d : Nat} {h : Hp} {r o : Row} (hm : LayM (hS h) (hR h)) {e : Int32} (k : Nat) (he : -1000000000 - e = nI k) (hk : k < 6) : gC (d) (0) (0) m_X6_errs [.ref 66, .int e] (MH h r o) (Ret (some (.int e)) (MH (bI h 71 (ru (hI h 71) k (hI h 71 k + nI 1))) r o)) := by
  refine gC.of (ls := [some (.ref 66), some (.int e)]) (by decide +kernel) rfl rfl rfl rfl (Nat.le_of_ble_eq_true rfl) ?_
  refine r_aload_n 0 dX6_errs_0 rfl rfl rfl ?_
  refine r_getr (k := 6) (b := 71) dX6_errs_1 hm.s66 rfl (by decide) (Or.inl q1422) (Or.inl rfl) rfl hm.r_found ?_
  refine r_ldc (v := -1000000000) dX6_errs_4 q1516 ?_
  refine r_iload_n 1 dX6_errs_6 rfl rfl ?_
  refine r_isub dX6_errs_7 ?_
  refine r_eqi (show _ = nI (k) from he) ?_
  refine r_dup2 dX6_errs_8 rfl rfl ?_
  refine r_ialdN (k) dX6_errs_9 hm.s71 rfl (by omega) (by decide) ?_
  refine r_iconst (v := nI 1) dX6_errs_10 rfl ?_
  refine r_iadd dX6_errs_11 ?_
  refine r_iastN (k) dX6_errs_12 hm.s71 rfl (by omega) (by decide) ?_
  refine gG_h (MH_bI' _ _ _ _ _ _ (by decide) (by decide)) ?_
  refine r_iload_n 1 dX6_errs_13 rfl rfl ?_
  refine e_iret dX6_errs_14 rfl ?_
  exact ⟨rfl, rfl⟩
theorem M_fills {d : Nat} {h : Hp} {r o : Row} (hm : LayM (hS h) (hR h)) {p k : Nat} (hp : p < 8) (hk : pv r p 0 = nI k) (h7 : k < 7) : gC (d + 1) (0) (0) m_X6_fills [.ref 66, .int (nI p)] (MH h r o) (Ret (some (.int (fillV k (pv r p 1)))) (MH h r o)) := by
  refine gC.of (ls := [some (.ref 66), some (.int (nI p)), none]) (by decide +kernel) rfl rfl rfl rfl (Nat.le_of_ble_eq_true rfl) ?_
  refine r_aload_n 0 dX6_fills_0 rfl rfl rfl ?_
  refine r_iload_n 1 dX6_fills_1 rfl rfl ?_
  refine r_iconst (v := nI 1) dX6_fills_2 rfl ?_
  refine r_callV_1 dX6_fills_3 kX6_75 (M_its (p := p) (w := 1) hm (by omega)) (gRecv.of hm.s66 rfl) rfl rfl (Nat.le_of_ble_eq_true rfl) ?_
  refine r_istore_n 2 dX6_fills_6 rfl (by decide) rfl ?_
  refine gG_ls (ls' := [_, _, _]) rfl ?_
  refine r_aload_n 0 dX6_fills_7 rfl rfl rfl ?_
  refine r_iload_n 1 dX6_fills_8 rfl rfl ?_
  refine r_iconst (v := nI 0) dX6_fills_9 rfl ?_
  refine r_callV_1 dX6_fills_10 kX6_75 (M_its (p := p) (w := 0) hm (by omega)) (gRecv.of hm.s66 rfl) rfl rfl (Nat.le_of_ble_eq_true rfl) ?_
  refine r_eqi (show _ = nI (k) from hk) ?_
  rcases (show k = 0 ∨ k = 1 ∨ k = 2 ∨ k = 3 ∨ k = 4 ∨ k = 5 ∨ k = 6 by omega) with rfl | rfl | rfl | rfl | rfl | rfl | rfl
  · skip
    refine r_tabOut 76 dX6_fills_13 (by decide) (by decide) ?_
    refine r_iconst (v := nI 3) dX6_fills_76 rfl ?_
    refine e_iret dX6_fills_77 rfl ?_
    exact ⟨rfl, rfl⟩
  · skip
    refine r_tabIn 52 (off := 39) dX6_fills_13 (by decide) (by decide) (by decide +kernel) (by decide) ?_
    refine r_iconst (v := nI 3) dX6_fills_52 rfl ?_
    refine r_iload_n 2 dX6_fills_53 rfl rfl ?_
    refine r_iconst (v := nI 3) dX6_fills_54 rfl ?_
    refine r_irem dX6_fills_55 (by decide) ?_
    refine r_iadd dX6_fills_56 ?_
    refine e_iret dX6_fills_57 rfl ?_
    exact ⟨rfl, rfl⟩
  · skip
    refine r_tabIn 65 (off := 52) dX6_fills_13 (by decide) (by decide) (by decide +kernel) (by decide) ?_
    refine r_bipush (v := nI 6) dX6_fills_65 (by decide +kernel) ?_
    refine e_iret dX6_fills_67 rfl ?_
    exact ⟨rfl, rfl⟩
  · skip
    refine r_tabIn 68 (off := 55) dX6_fills_13 (by decide) (by decide) (by decide +kernel) (by decide) ?_
    refine r_bipush (v := nI 9) dX6_fills_68 (by decide +kernel) ?_
    refine e_iret dX6_fills_70 rfl ?_
    exact ⟨rfl, rfl⟩
  · skip
    refine r_tabIn 58 (off := 45) dX6_fills_13 (by decide) (by decide) (by decide +kernel) (by decide) ?_
    refine r_bipush (v := nI 8) dX6_fills_58 (by decide +kernel) ?_
    refine r_iload_n 2 dX6_fills_60 rfl rfl ?_
    refine r_iconst (v := nI 3) dX6_fills_61 rfl ?_
    refine r_irem dX6_fills_62 (by decide) ?_
    refine r_iadd dX6_fills_63 ?_
    refine e_iret dX6_fills_64 rfl ?_
    exact ⟨rfl, rfl⟩
  · skip
    refine r_tabIn 76 (off := 63) dX6_fills_13 (by decide) (by decide) (by decide +kernel) (by decide) ?_
    refine r_iconst (v := nI 3) dX6_fills_76 rfl ?_
    refine e_iret dX6_fills_77 rfl ?_
    exact ⟨rfl, rfl⟩
  · skip
    refine r_tabIn 71 (off := 58) dX6_fills_13 (by decide) (by decide) (by decide +kernel) (by decide) ?_
    refine r_bipush (v := nI 9) dX6_fills_71 (by decide +kernel) ?_
    refine r_iload_n 2 dX6_fills_73 rfl rfl ?_
    refine r_isub dX6_fills_74 ?_
    refine e_iret dX6_fills_75 rfl ?_
    exact ⟨rfl, rfl⟩
theorem M_drinks {d : Nat} {h : Hp} {r o : Row} (hm : LayM (hS h) (hR h)) {p k : Nat} (hp : p < 8) (hk : pv r p 0 = nI k) (h7 : k < 7) : gC (d + 1) (0) (0) m_X6_drinks [.ref 66, .int (nI p)] (MH h r o) (Ret (some (.int (drinkV k))) (MH h r o)) := by
  refine gC.of (ls := [some (.ref 66), some (.int (nI p))]) (by decide +kernel) rfl rfl rfl rfl (Nat.le_of_ble_eq_true rfl) ?_
  refine r_aload_n 0 dX6_drinks_0 rfl rfl rfl ?_
  refine r_iload_n 1 dX6_drinks_1 rfl rfl ?_
  refine r_iconst (v := nI 0) dX6_drinks_2 rfl ?_
  refine r_callV_1 dX6_drinks_3 kX6_75 (M_its (p := p) (w := 0) hm (by omega)) (gRecv.of hm.s66 rfl) rfl rfl (Nat.le_of_ble_eq_true rfl) ?_
  refine r_eqi (show _ = nI (k) from hk) ?_
  rcases (show k = 0 ∨ k = 1 ∨ k = 2 ∨ k = 3 ∨ k = 4 ∨ k = 5 ∨ k = 6 by omega) with rfl | rfl | rfl | rfl | rfl | rfl | rfl
  · skip
    refine r_tabOut 40 dX6_drinks_6 (by decide) (by decide) ?_
    refine r_iconst (v := nI 2) dX6_drinks_40 rfl ?_
    refine e_iret dX6_drinks_41 rfl ?_
    exact ⟨rfl, rfl⟩
  · skip
    refine r_tabIn 36 (off := 30) dX6_drinks_6 (by decide) (by decide) (by decide +kernel) (by decide) ?_
    refine r_iconst (v := nI 1) dX6_drinks_36 rfl ?_
    refine e_iret dX6_drinks_37 rfl ?_
    exact ⟨rfl, rfl⟩
  · skip
    refine r_tabIn 38 (off := 32) dX6_drinks_6 (by decide) (by decide) (by decide +kernel) (by decide) ?_
    refine r_iconst (v := nI 3) dX6_drinks_38 rfl ?_
    refine e_iret dX6_drinks_39 rfl ?_
    exact ⟨rfl, rfl⟩
  · skip
    refine r_tabIn 40 (off := 34) dX6_drinks_6 (by decide) (by decide) (by decide +kernel) (by decide) ?_
    refine r_iconst (v := nI 2) dX6_drinks_40 rfl ?_
    refine e_iret dX6_drinks_41 rfl ?_
    exact ⟨rfl, rfl⟩
  · skip
    refine r_tabIn 36 (off := 30) dX6_drinks_6 (by decide) (by decide) (by decide +kernel) (by decide) ?_
    refine r_iconst (v := nI 1) dX6_drinks_36 rfl ?_
    refine e_iret dX6_drinks_37 rfl ?_
    exact ⟨rfl, rfl⟩
  · skip
    refine r_tabOut 40 dX6_drinks_6 (by decide) (by decide) ?_
    refine r_iconst (v := nI 2) dX6_drinks_40 rfl ?_
    refine e_iret dX6_drinks_41 rfl ?_
    exact ⟨rfl, rfl⟩
  · skip
    refine r_tabOut 40 dX6_drinks_6 (by decide) (by decide) ?_
    refine r_iconst (v := nI 2) dX6_drinks_40 rfl ?_
    refine e_iret dX6_drinks_41 rfl ?_
    exact ⟨rfl, rfl⟩
