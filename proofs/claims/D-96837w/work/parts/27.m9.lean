theorem M_ran {d : Nat} {h : Hp} (hm : LayM (hS h) (hR h)) {r o : Row} {t : TR} (ht : t.2 ≤ 40) {b : Int32} : gC (d) (0) (0) m_X6_ran [.ref 66, .int b] (VH h r o t) (Ret none (VH h r o (ranT t b))) := by
  refine gC.of (ls := [some (.ref 66), some (.int b)]) (by decide +kernel) rfl rfl rfl rfl (Nat.le_of_ble_eq_true rfl) ?_
  refine r_aload_n 0 dX6_ran_0 rfl rfl rfl ?_
  refine r_geti (k := 25) dX6_ran_1 hm.s66 rfl (by decide) (Or.inl q1441) (Or.inl rfl) rfl ?_
  refine r_eqi (show _ = nI (t.2) from rfl) ?_
  refine r_bipush (v := nI 40) dX6_ran_4 (by decide +kernel) ?_
  refine r_icmp_ge 29 dX6_ran_6 (by decide) (fun c_6 => ?_) (fun c_6 => ?_)
  · skip
    have n_6 : 40 ≤ t.2 := n_ge (by omega) (by omega) c_6
    refine e_vret dX6_ran_29 rfl ?_
    exact ⟨rfl, by rw [show ranT t b = t from if_neg (by omega)]⟩
  · skip
    have n_6 : t.2 < 40 := n_gen (by omega) (by omega) c_6
    refine r_aload_n 0 dX6_ran_9 rfl rfl rfl ?_
    refine r_getr (k := 24) (b := 77) dX6_ran_10 hm.s66 rfl (by decide) (Or.inl q1440) (Or.inl rfl) rfl hm.r_traced ?_
    refine r_aload_n 0 dX6_ran_13 rfl rfl rfl ?_
    refine r_geti (k := 25) dX6_ran_14 hm.s66 rfl (by decide) (Or.inl q1441) (Or.inl rfl) rfl ?_
    refine r_eqi (show _ = nI (t.2) from rfl) ?_
    refine r_iload_n 1 dX6_ran_17 rfl rfl ?_
    refine r_iastN (t.2) dX6_ran_18 hm.s77 rfl (by omega) (by decide) ?_
    refine gG_h (MH_bI' _ _ _ _ _ _ (by decide) (by decide)) ?_
    refine r_aload_n 0 dX6_ran_19 rfl rfl rfl ?_
    refine r_dup dX6_ran_20 rfl ?_
    refine r_geti (k := 25) dX6_ran_21 hm.s66 rfl (by decide) (Or.inl q1441) (Or.inl rfl) rfl ?_
    refine r_eqi (show _ = nI (t.2) from rfl) ?_
    refine r_iconst (v := nI 1) dX6_ran_24 rfl ?_
    refine r_iadd dX6_ran_25 ?_
    refine r_eqi (show _ = nI ((t.2 + 1)) from (by simp only [nI_add])) ?_
    refine r_puti (k := 25) dX6_ran_26 hm.s66 rfl (by decide) (Or.inl q1441) (Or.inl rfl) (Or.inl rfl) rfl rfl rfl ?_
    refine gG_h (MH_66 _ _ _ _ _) ?_
    refine e_vret dX6_ran_29 rfl ?_
    exact ⟨rfl, VH_ran (by omega)⟩
theorem M_letsIn_0 {d : Nat} {h : Hp} (hm : LayM (hS h) (hR h)) {r o : Row} {n : Int32} (hn : o 27 = n) {t : TR} (ht : t.2 ≤ 40) {x : Int32} : gC (d + 1) (0) (0) m_X6_letsIn [.ref 66, .int (nI 0), .int x] (VH h r o t) (Ret (some (.int (letsV 0 n (x) t).1)) (VH h r o (letsV 0 n (x) t).2)) := by
  refine gC.of (ls := [some (.ref 66), some (.int (nI 0)), some (.int x)]) (by decide +kernel) rfl rfl rfl rfl (Nat.le_of_ble_eq_true rfl) ?_
  refine r_iload_n 1 dX6_letsIn_0 rfl rfl ?_
  refine r_if_ne 17 dX6_letsIn_1 (by decide) (fun c_1 => ?_) (fun c_1 => ?_)
  · skip
    have n_1 : ¬ 0 = 0 := n_ne0 (by omega) c_1
    exact absurd n_1 (by decide)
  · skip
    have n_1 : 0 = 0 := n_eq0 (by omega) c_1
    refine r_aload_n 0 dX6_letsIn_4 rfl rfl rfl ?_
    refine r_bipush (v := nI 10) dX6_letsIn_5 (by decide +kernel) ?_
    refine r_callV_0 dX6_letsIn_7 kX6_252 (M_ran hm ht) (gRecv.of hm.s66 rfl) rfl rfl (Nat.le_of_ble_eq_true rfl) ?_
    refine r_iload_n 2 dX6_letsIn_10 rfl rfl ?_
    refine r_aload_n 0 dX6_letsIn_11 rfl rfl rfl ?_
    refine r_geti (k := 27) dX6_letsIn_12 hm.s66 rfl (by decide) (Or.inl q1443) (Or.inl rfl) rfl ?_
    refine r_eqi (show _ = n from hn) ?_
    refine r_iadd dX6_letsIn_15 ?_
    refine e_iret dX6_letsIn_16 rfl ?_
    exact ⟨rfl, rfl⟩
theorem M_letsIn_1 {d : Nat} {h : Hp} (hm : LayM (hS h) (hR h)) {r o : Row} {n : Int32} (hn : o 27 = n) {t : TR} (ht : t.2 ≤ 40) {x : Int32} : gC (d + 2) (0) (0) m_X6_letsIn [.ref 66, .int (nI 1), .int x] (VH h r o t) (Ret (some (.int (letsV 1 n (x) t).1)) (VH h r o (letsV 1 n (x) t).2)) := by
  refine gC.of (ls := [some (.ref 66), some (.int (nI 1)), some (.int x)]) (by decide +kernel) rfl rfl rfl rfl (Nat.le_of_ble_eq_true rfl) ?_
  refine r_iload_n 1 dX6_letsIn_0 rfl rfl ?_
  refine r_if_ne 17 dX6_letsIn_1 (by decide) (fun c_1 => ?_) (fun c_1 => ?_)
  · skip
    have n_1 : ¬ 1 = 0 := n_ne0 (by omega) c_1
    refine r_iload_n 1 dX6_letsIn_17 rfl rfl ?_
    refine r_iconst (v := nI 1) dX6_letsIn_18 rfl ?_
    refine r_icmp_ne 37 dX6_letsIn_19 (by decide) (fun c_19 => ?_) (fun c_19 => ?_)
    · skip
      have n_19 : ¬ 1 = 1 := n_ne (by omega) (by omega) c_19
      exact absurd n_19 (by decide)
    · skip
      have n_19 : 1 = 1 := n_nen (by omega) (by omega) c_19
      refine r_aload_n 0 dX6_letsIn_22 rfl rfl rfl ?_
      refine r_bipush (v := nI 20) dX6_letsIn_23 (by decide +kernel) ?_
      refine r_callV_0 dX6_letsIn_25 kX6_252 (M_ran hm ht) (gRecv.of hm.s66 rfl) rfl rfl (Nat.le_of_ble_eq_true rfl) ?_
      refine r_aload_n 0 dX6_letsIn_28 rfl rfl rfl ?_
      refine r_iconst (v := nI 0) dX6_letsIn_29 rfl ?_
      refine r_iload_n 2 dX6_letsIn_30 rfl rfl ?_
      refine r_callV_1 dX6_letsIn_31 kX6_258 (M_letsIn_0 hm hn (ranT_le ht)) (gRecv.of hm.s66 rfl) rfl rfl (Nat.le_of_ble_eq_true rfl) ?_
      refine r_iconst (v := nI 3) dX6_letsIn_34 rfl ?_
      refine r_imul dX6_letsIn_35 ?_
      refine e_iret dX6_letsIn_36 rfl ?_
      exact ⟨rfl, rfl⟩
  · skip
    have n_1 : 1 = 0 := n_eq0 (by omega) c_1
    exact absurd n_1 (by decide)
theorem M_letsIn_2 {d : Nat} {h : Hp} (hm : LayM (hS h) (hR h)) {r o : Row} {n : Int32} (hn : o 27 = n) {t : TR} (ht : t.2 ≤ 40) {x : Int32} : gC (d + 2) (0) (0) m_X6_letsIn [.ref 66, .int (nI 2), .int x] (VH h r o t) (Ret (some (.int (letsV 2 n (x) t).1)) (VH h r o (letsV 2 n (x) t).2)) := by
  refine gC.of (ls := [some (.ref 66), some (.int (nI 2)), some (.int x)]) (by decide +kernel) rfl rfl rfl rfl (Nat.le_of_ble_eq_true rfl) ?_
  refine r_iload_n 1 dX6_letsIn_0 rfl rfl ?_
  refine r_if_ne 17 dX6_letsIn_1 (by decide) (fun c_1 => ?_) (fun c_1 => ?_)
  · skip
    have n_1 : ¬ 2 = 0 := n_ne0 (by omega) c_1
    refine r_iload_n 1 dX6_letsIn_17 rfl rfl ?_
    refine r_iconst (v := nI 1) dX6_letsIn_18 rfl ?_
    refine r_icmp_ne 37 dX6_letsIn_19 (by decide) (fun c_19 => ?_) (fun c_19 => ?_)
    · skip
      have n_19 : ¬ 2 = 1 := n_ne (by omega) (by omega) c_19
      refine r_aload_n 0 dX6_letsIn_37 rfl rfl rfl ?_
      refine r_iload_n 1 dX6_letsIn_38 rfl rfl ?_
      refine r_callS_1 dX6_letsIn_39 kX6_89 (M_above_2)  rfl rfl (Nat.le_of_ble_eq_true rfl) ?_
      refine r_iload_n 2 dX6_letsIn_42 rfl rfl ?_
      refine r_callV_1 dX6_letsIn_43 kX6_258 (M_letsIn_0 hm hn ht) (gRecv.of hm.s66 rfl) rfl rfl (Nat.le_of_ble_eq_true rfl) ?_
      refine e_iret dX6_letsIn_46 rfl ?_
      exact ⟨rfl, rfl⟩
    · skip
      have n_19 : 2 = 1 := n_nen (by omega) (by omega) c_19
      exact absurd n_19 (by decide)
  · skip
    have n_1 : 2 = 0 := n_eq0 (by omega) c_1
    exact absurd n_1 (by decide)
theorem M_letsIn_3 {d : Nat} {h : Hp} (hm : LayM (hS h) (hR h)) {r o : Row} {n : Int32} (hn : o 27 = n) {t : TR} (ht : t.2 ≤ 40) {x : Int32} : gC (d + 2) (0) (0) m_X6_letsIn [.ref 66, .int (nI 3), .int x] (VH h r o t) (Ret (some (.int (letsV 3 n (x) t).1)) (VH h r o (letsV 3 n (x) t).2)) := by
  refine gC.of (ls := [some (.ref 66), some (.int (nI 3)), some (.int x)]) (by decide +kernel) rfl rfl rfl rfl (Nat.le_of_ble_eq_true rfl) ?_
  refine r_iload_n 1 dX6_letsIn_0 rfl rfl ?_
  refine r_if_ne 17 dX6_letsIn_1 (by decide) (fun c_1 => ?_) (fun c_1 => ?_)
  · skip
    have n_1 : ¬ 3 = 0 := n_ne0 (by omega) c_1
    refine r_iload_n 1 dX6_letsIn_17 rfl rfl ?_
    refine r_iconst (v := nI 1) dX6_letsIn_18 rfl ?_
    refine r_icmp_ne 37 dX6_letsIn_19 (by decide) (fun c_19 => ?_) (fun c_19 => ?_)
    · skip
      have n_19 : ¬ 3 = 1 := n_ne (by omega) (by omega) c_19
      refine r_aload_n 0 dX6_letsIn_37 rfl rfl rfl ?_
      refine r_iload_n 1 dX6_letsIn_38 rfl rfl ?_
      refine r_callS_1 dX6_letsIn_39 kX6_89 (M_above_3)  rfl rfl (Nat.le_of_ble_eq_true rfl) ?_
      refine r_iload_n 2 dX6_letsIn_42 rfl rfl ?_
      refine r_callV_1 dX6_letsIn_43 kX6_258 (M_letsIn_0 hm hn ht) (gRecv.of hm.s66 rfl) rfl rfl (Nat.le_of_ble_eq_true rfl) ?_
      refine e_iret dX6_letsIn_46 rfl ?_
      exact ⟨rfl, rfl⟩
    · skip
      have n_19 : 3 = 1 := n_nen (by omega) (by omega) c_19
      exact absurd n_19 (by decide)
  · skip
    have n_1 : 3 = 0 := n_eq0 (by omega) c_1
    exact absurd n_1 (by decide)
theorem M_letsIn_4 {d : Nat} {h : Hp} (hm : LayM (hS h) (hR h)) {r o : Row} {n : Int32} (hn : o 27 = n) {t : TR} (ht : t.2 ≤ 40) {x : Int32} : gC (d + 3) (0) (0) m_X6_letsIn [.ref 66, .int (nI 4), .int x] (VH h r o t) (Ret (some (.int (letsV 4 n (x) t).1)) (VH h r o (letsV 4 n (x) t).2)) := by
  refine gC.of (ls := [some (.ref 66), some (.int (nI 4)), some (.int x)]) (by decide +kernel) rfl rfl rfl rfl (Nat.le_of_ble_eq_true rfl) ?_
  refine r_iload_n 1 dX6_letsIn_0 rfl rfl ?_
  refine r_if_ne 17 dX6_letsIn_1 (by decide) (fun c_1 => ?_) (fun c_1 => ?_)
  · skip
    have n_1 : ¬ 4 = 0 := n_ne0 (by omega) c_1
    refine r_iload_n 1 dX6_letsIn_17 rfl rfl ?_
    refine r_iconst (v := nI 1) dX6_letsIn_18 rfl ?_
    refine r_icmp_ne 37 dX6_letsIn_19 (by decide) (fun c_19 => ?_) (fun c_19 => ?_)
    · skip
      have n_19 : ¬ 4 = 1 := n_ne (by omega) (by omega) c_19
      refine r_aload_n 0 dX6_letsIn_37 rfl rfl rfl ?_
      refine r_iload_n 1 dX6_letsIn_38 rfl rfl ?_
      refine r_callS_1 dX6_letsIn_39 kX6_89 (M_above_4)  rfl rfl (Nat.le_of_ble_eq_true rfl) ?_
      refine r_iload_n 2 dX6_letsIn_42 rfl rfl ?_
      refine r_callV_1 dX6_letsIn_43 kX6_258 (M_letsIn_1 hm hn ht) (gRecv.of hm.s66 rfl) rfl rfl (Nat.le_of_ble_eq_true rfl) ?_
      refine e_iret dX6_letsIn_46 rfl ?_
      exact ⟨rfl, rfl⟩
    · skip
      have n_19 : 4 = 1 := n_nen (by omega) (by omega) c_19
      exact absurd n_19 (by decide)
  · skip
    have n_1 : 4 = 0 := n_eq0 (by omega) c_1
    exact absurd n_1 (by decide)
theorem M_letsIn_5 {d : Nat} {h : Hp} (hm : LayM (hS h) (hR h)) {r o : Row} {n : Int32} (hn : o 27 = n) {t : TR} (ht : t.2 ≤ 40) {x : Int32} : gC (d + 3) (0) (0) m_X6_letsIn [.ref 66, .int (nI 5), .int x] (VH h r o t) (Ret (some (.int (letsV 5 n (x) t).1)) (VH h r o (letsV 5 n (x) t).2)) := by
  refine gC.of (ls := [some (.ref 66), some (.int (nI 5)), some (.int x)]) (by decide +kernel) rfl rfl rfl rfl (Nat.le_of_ble_eq_true rfl) ?_
  refine r_iload_n 1 dX6_letsIn_0 rfl rfl ?_
  refine r_if_ne 17 dX6_letsIn_1 (by decide) (fun c_1 => ?_) (fun c_1 => ?_)
  · skip
    have n_1 : ¬ 5 = 0 := n_ne0 (by omega) c_1
    refine r_iload_n 1 dX6_letsIn_17 rfl rfl ?_
    refine r_iconst (v := nI 1) dX6_letsIn_18 rfl ?_
    refine r_icmp_ne 37 dX6_letsIn_19 (by decide) (fun c_19 => ?_) (fun c_19 => ?_)
    · skip
      have n_19 : ¬ 5 = 1 := n_ne (by omega) (by omega) c_19
      refine r_aload_n 0 dX6_letsIn_37 rfl rfl rfl ?_
      refine r_iload_n 1 dX6_letsIn_38 rfl rfl ?_
      refine r_callS_1 dX6_letsIn_39 kX6_89 (M_above_5)  rfl rfl (Nat.le_of_ble_eq_true rfl) ?_
      refine r_iload_n 2 dX6_letsIn_42 rfl rfl ?_
      refine r_callV_1 dX6_letsIn_43 kX6_258 (M_letsIn_2 hm hn ht) (gRecv.of hm.s66 rfl) rfl rfl (Nat.le_of_ble_eq_true rfl) ?_
      refine e_iret dX6_letsIn_46 rfl ?_
      exact ⟨rfl, rfl⟩
    · skip
      have n_19 : 5 = 1 := n_nen (by omega) (by omega) c_19
      exact absurd n_19 (by decide)
  · skip
    have n_1 : 5 = 0 := n_eq0 (by omega) c_1
    exact absurd n_1 (by decide)
theorem M_letsIn_6 {d : Nat} {h : Hp} (hm : LayM (hS h) (hR h)) {r o : Row} {n : Int32} (hn : o 27 = n) {t : TR} (ht : t.2 ≤ 40) {x : Int32} : gC (d + 3) (0) (0) m_X6_letsIn [.ref 66, .int (nI 6), .int x] (VH h r o t) (Ret (some (.int (letsV 6 n (x) t).1)) (VH h r o (letsV 6 n (x) t).2)) := by
  refine gC.of (ls := [some (.ref 66), some (.int (nI 6)), some (.int x)]) (by decide +kernel) rfl rfl rfl rfl (Nat.le_of_ble_eq_true rfl) ?_
  refine r_iload_n 1 dX6_letsIn_0 rfl rfl ?_
  refine r_if_ne 17 dX6_letsIn_1 (by decide) (fun c_1 => ?_) (fun c_1 => ?_)
  · skip
    have n_1 : ¬ 6 = 0 := n_ne0 (by omega) c_1
    refine r_iload_n 1 dX6_letsIn_17 rfl rfl ?_
    refine r_iconst (v := nI 1) dX6_letsIn_18 rfl ?_
    refine r_icmp_ne 37 dX6_letsIn_19 (by decide) (fun c_19 => ?_) (fun c_19 => ?_)
    · skip
      have n_19 : ¬ 6 = 1 := n_ne (by omega) (by omega) c_19
      refine r_aload_n 0 dX6_letsIn_37 rfl rfl rfl ?_
      refine r_iload_n 1 dX6_letsIn_38 rfl rfl ?_
      refine r_callS_1 dX6_letsIn_39 kX6_89 (M_above_6)  rfl rfl (Nat.le_of_ble_eq_true rfl) ?_
      refine r_iload_n 2 dX6_letsIn_42 rfl rfl ?_
      refine r_callV_1 dX6_letsIn_43 kX6_258 (M_letsIn_3 hm hn ht) (gRecv.of hm.s66 rfl) rfl rfl (Nat.le_of_ble_eq_true rfl) ?_
      refine e_iret dX6_letsIn_46 rfl ?_
      exact ⟨rfl, rfl⟩
    · skip
      have n_19 : 6 = 1 := n_nen (by omega) (by omega) c_19
      exact absurd n_19 (by decide)
  · skip
    have n_1 : 6 = 0 := n_eq0 (by omega) c_1
    exact absurd n_1 (by decide)
theorem M_letsInG {d : Nat} {h : Hp} (hm : LayM (hS h) (hR h)) {r o : Row} {q : Nat} (hq7 : q < 7) {n : Int32} (hn : o 27 = n) {t : TR} (ht : t.2 ≤ 40) {x : Int32} : gC (d + 3) 0 0 m_X6_letsIn [.ref 66, .int (nI q), .int x] (VH h r o t) (Ret (some (.int (letsV q n (x) t).1)) (VH h r o (letsV q n (x) t).2)) := by
  rcases (show q = 0 ∨ q = 1 ∨ q = 2 ∨ q = 3 ∨ q = 4 ∨ q = 5 ∨ q = 6 by omega) with rfl | rfl | rfl | rfl | rfl | rfl | rfl
  · exact M_letsIn_0 hm hn ht
  · exact M_letsIn_1 hm hn ht
  · exact M_letsIn_2 hm hn ht
  · exact M_letsIn_3 hm hn ht
  · exact M_letsIn_4 hm hn ht
  · exact M_letsIn_5 hm hn ht
  · exact M_letsIn_6 hm hn ht
theorem M_lendsIn_0 {d : Nat} {h : Hp} (hm : LayM (hS h) (hR h)) {r o : Row} {n : Int32} (hn : o 27 = n) {m : Int32} (hmm : o 28 = m) {t : TR} (ht : t.2 ≤ 40) {x : Int32} : gC (d + 1) (0) (0) m_X6_lendsIn [.ref 66, .int (nI 0), .int x] (VH h r o t) (Ret (some (.int (lendsV 0 n m (x) t).1)) (VH h r o (lendsV 0 n m (x) t).2)) := by
  refine gC.of (ls := [some (.ref 66), some (.int (nI 0)), some (.int x)]) (by decide +kernel) rfl rfl rfl rfl (Nat.le_of_ble_eq_true rfl) ?_
  refine r_iload_n 1 dX6_lendsIn_0 rfl rfl ?_
  refine r_if_ne 17 dX6_lendsIn_1 (by decide) (fun c_1 => ?_) (fun c_1 => ?_)
  · skip
    have n_1 : ¬ 0 = 0 := n_ne0 (by omega) c_1
    exact absurd n_1 (by decide)
  · skip
    have n_1 : 0 = 0 := n_eq0 (by omega) c_1
    refine r_aload_n 0 dX6_lendsIn_4 rfl rfl rfl ?_
    refine r_bipush (v := nI 12) dX6_lendsIn_5 (by decide +kernel) ?_
    refine r_callV_0 dX6_lendsIn_7 kX6_252 (M_ran hm ht) (gRecv.of hm.s66 rfl) rfl rfl (Nat.le_of_ble_eq_true rfl) ?_
    refine r_iload_n 2 dX6_lendsIn_10 rfl rfl ?_
    refine r_aload_n 0 dX6_lendsIn_11 rfl rfl rfl ?_
    refine r_geti (k := 28) dX6_lendsIn_12 hm.s66 rfl (by decide) (Or.inl q1444) (Or.inl rfl) rfl ?_
    refine r_eqi (show _ = m from hmm) ?_
    refine r_isub dX6_lendsIn_15 ?_
    refine e_iret dX6_lendsIn_16 rfl ?_
    exact ⟨rfl, rfl⟩
theorem M_lendsIn_1 {d : Nat} {h : Hp} (hm : LayM (hS h) (hR h)) {r o : Row} {n : Int32} (hn : o 27 = n) {m : Int32} (hmm : o 28 = m) {t : TR} (ht : t.2 ≤ 40) {x : Int32} : gC (d + 2) (0) (0) m_X6_lendsIn [.ref 66, .int (nI 1), .int x] (VH h r o t) (Ret (some (.int (lendsV 1 n m (x) t).1)) (VH h r o (lendsV 1 n m (x) t).2)) := by
  refine gC.of (ls := [some (.ref 66), some (.int (nI 1)), some (.int x)]) (by decide +kernel) rfl rfl rfl rfl (Nat.le_of_ble_eq_true rfl) ?_
  refine r_iload_n 1 dX6_lendsIn_0 rfl rfl ?_
  refine r_if_ne 17 dX6_lendsIn_1 (by decide) (fun c_1 => ?_) (fun c_1 => ?_)
  · skip
    have n_1 : ¬ 1 = 0 := n_ne0 (by omega) c_1
    refine r_iload_n 1 dX6_lendsIn_17 rfl rfl ?_
    refine r_iconst (v := nI 3) dX6_lendsIn_18 rfl ?_
    refine r_icmp_ne 36 dX6_lendsIn_19 (by decide) (fun c_19 => ?_) (fun c_19 => ?_)
    · skip
      have n_19 : ¬ 1 = 3 := n_ne (by omega) (by omega) c_19
      refine r_iload_n 1 dX6_lendsIn_36 rfl rfl ?_
      refine r_bipush (v := nI 6) dX6_lendsIn_37 (by decide +kernel) ?_
      refine r_icmp_ne 60 dX6_lendsIn_39 (by decide) (fun c_39 => ?_) (fun c_39 => ?_)
      · skip
        have n_39 : ¬ 1 = 6 := n_ne (by omega) (by omega) c_39
        refine r_aload_n 0 dX6_lendsIn_60 rfl rfl rfl ?_
        refine r_iload_n 1 dX6_lendsIn_61 rfl rfl ?_
        refine r_callS_1 dX6_lendsIn_62 kX6_89 (M_above_1)  rfl rfl (Nat.le_of_ble_eq_true rfl) ?_
        refine r_iload_n 2 dX6_lendsIn_65 rfl rfl ?_
        refine r_callV_1 dX6_lendsIn_66 kX6_264 (M_lendsIn_0 hm hn hmm ht) (gRecv.of hm.s66 rfl) rfl rfl (Nat.le_of_ble_eq_true rfl) ?_
        refine e_iret dX6_lendsIn_69 rfl ?_
        exact ⟨rfl, rfl⟩
      · skip
        have n_39 : 1 = 6 := n_nen (by omega) (by omega) c_39
        exact absurd n_39 (by decide)
    · skip
      have n_19 : 1 = 3 := n_nen (by omega) (by omega) c_19
      exact absurd n_19 (by decide)
  · skip
    have n_1 : 1 = 0 := n_eq0 (by omega) c_1
    exact absurd n_1 (by decide)
theorem M_lendsIn_2 {d : Nat} {h : Hp} (hm : LayM (hS h) (hR h)) {r o : Row} {n : Int32} (hn : o 27 = n) {m : Int32} (hmm : o 28 = m) {t : TR} (ht : t.2 ≤ 40) {x : Int32} : gC (d + 2) (0) (0) m_X6_lendsIn [.ref 66, .int (nI 2), .int x] (VH h r o t) (Ret (some (.int (lendsV 2 n m (x) t).1)) (VH h r o (lendsV 2 n m (x) t).2)) := by
  refine gC.of (ls := [some (.ref 66), some (.int (nI 2)), some (.int x)]) (by decide +kernel) rfl rfl rfl rfl (Nat.le_of_ble_eq_true rfl) ?_
  refine r_iload_n 1 dX6_lendsIn_0 rfl rfl ?_
  refine r_if_ne 17 dX6_lendsIn_1 (by decide) (fun c_1 => ?_) (fun c_1 => ?_)
  · skip
    have n_1 : ¬ 2 = 0 := n_ne0 (by omega) c_1
    refine r_iload_n 1 dX6_lendsIn_17 rfl rfl ?_
    refine r_iconst (v := nI 3) dX6_lendsIn_18 rfl ?_
    refine r_icmp_ne 36 dX6_lendsIn_19 (by decide) (fun c_19 => ?_) (fun c_19 => ?_)
    · skip
      have n_19 : ¬ 2 = 3 := n_ne (by omega) (by omega) c_19
      refine r_iload_n 1 dX6_lendsIn_36 rfl rfl ?_
      refine r_bipush (v := nI 6) dX6_lendsIn_37 (by decide +kernel) ?_
      refine r_icmp_ne 60 dX6_lendsIn_39 (by decide) (fun c_39 => ?_) (fun c_39 => ?_)
      · skip
        have n_39 : ¬ 2 = 6 := n_ne (by omega) (by omega) c_39
        refine r_aload_n 0 dX6_lendsIn_60 rfl rfl rfl ?_
        refine r_iload_n 1 dX6_lendsIn_61 rfl rfl ?_
        refine r_callS_1 dX6_lendsIn_62 kX6_89 (M_above_2)  rfl rfl (Nat.le_of_ble_eq_true rfl) ?_
        refine r_iload_n 2 dX6_lendsIn_65 rfl rfl ?_
        refine r_callV_1 dX6_lendsIn_66 kX6_264 (M_lendsIn_0 hm hn hmm ht) (gRecv.of hm.s66 rfl) rfl rfl (Nat.le_of_ble_eq_true rfl) ?_
        refine e_iret dX6_lendsIn_69 rfl ?_
        exact ⟨rfl, rfl⟩
      · skip
        have n_39 : 2 = 6 := n_nen (by omega) (by omega) c_39
        exact absurd n_39 (by decide)
    · skip
      have n_19 : 2 = 3 := n_nen (by omega) (by omega) c_19
      exact absurd n_19 (by decide)
  · skip
    have n_1 : 2 = 0 := n_eq0 (by omega) c_1
    exact absurd n_1 (by decide)
theorem M_lendsIn_3 {d : Nat} {h : Hp} (hm : LayM (hS h) (hR h)) {r o : Row} {n : Int32} (hn : o 27 = n) {m : Int32} (hmm : o 28 = m) {t : TR} (ht : t.2 ≤ 40) {x : Int32} : gC (d + 2) (0) (0) m_X6_lendsIn [.ref 66, .int (nI 3), .int x] (VH h r o t) (Ret (some (.int (lendsV 3 n m (x) t).1)) (VH h r o (lendsV 3 n m (x) t).2)) := by
  refine gC.of (ls := [some (.ref 66), some (.int (nI 3)), some (.int x)]) (by decide +kernel) rfl rfl rfl rfl (Nat.le_of_ble_eq_true rfl) ?_
  refine r_iload_n 1 dX6_lendsIn_0 rfl rfl ?_
  refine r_if_ne 17 dX6_lendsIn_1 (by decide) (fun c_1 => ?_) (fun c_1 => ?_)
  · skip
    have n_1 : ¬ 3 = 0 := n_ne0 (by omega) c_1
    refine r_iload_n 1 dX6_lendsIn_17 rfl rfl ?_
    refine r_iconst (v := nI 3) dX6_lendsIn_18 rfl ?_
    refine r_icmp_ne 36 dX6_lendsIn_19 (by decide) (fun c_19 => ?_) (fun c_19 => ?_)
    · skip
      have n_19 : ¬ 3 = 3 := n_ne (by omega) (by omega) c_19
      exact absurd n_19 (by decide)
    · skip
      have n_19 : 3 = 3 := n_nen (by omega) (by omega) c_19
      refine r_aload_n 0 dX6_lendsIn_22 rfl rfl rfl ?_
      refine r_bipush (v := nI 40) dX6_lendsIn_23 (by decide +kernel) ?_
      refine r_callV_0 dX6_lendsIn_25 kX6_252 (M_ran hm ht) (gRecv.of hm.s66 rfl) rfl rfl (Nat.le_of_ble_eq_true rfl) ?_
      refine r_aload_n 0 dX6_lendsIn_28 rfl rfl rfl ?_
      refine r_iconst (v := nI 0) dX6_lendsIn_29 rfl ?_
      refine r_iload_n 2 dX6_lendsIn_30 rfl rfl ?_
      refine r_callV_1 dX6_lendsIn_31 kX6_264 (M_lendsIn_0 hm hn hmm (ranT_le ht)) (gRecv.of hm.s66 rfl) rfl rfl (Nat.le_of_ble_eq_true rfl) ?_
      refine r_ineg dX6_lendsIn_34 ?_
      refine e_iret dX6_lendsIn_35 rfl ?_
      exact ⟨rfl, rfl⟩
  · skip
    have n_1 : 3 = 0 := n_eq0 (by omega) c_1
    exact absurd n_1 (by decide)
theorem M_lendsIn_4 {d : Nat} {h : Hp} (hm : LayM (hS h) (hR h)) {r o : Row} {n : Int32} (hn : o 27 = n) {m : Int32} (hmm : o 28 = m) {t : TR} (ht : t.2 ≤ 40) {x : Int32} : gC (d + 3) (0) (0) m_X6_lendsIn [.ref 66, .int (nI 4), .int x] (VH h r o t) (Ret (some (.int (lendsV 4 n m (x) t).1)) (VH h r o (lendsV 4 n m (x) t).2)) := by
  refine gC.of (ls := [some (.ref 66), some (.int (nI 4)), some (.int x)]) (by decide +kernel) rfl rfl rfl rfl (Nat.le_of_ble_eq_true rfl) ?_
  refine r_iload_n 1 dX6_lendsIn_0 rfl rfl ?_
  refine r_if_ne 17 dX6_lendsIn_1 (by decide) (fun c_1 => ?_) (fun c_1 => ?_)
  · skip
    have n_1 : ¬ 4 = 0 := n_ne0 (by omega) c_1
    refine r_iload_n 1 dX6_lendsIn_17 rfl rfl ?_
    refine r_iconst (v := nI 3) dX6_lendsIn_18 rfl ?_
    refine r_icmp_ne 36 dX6_lendsIn_19 (by decide) (fun c_19 => ?_) (fun c_19 => ?_)
    · skip
      have n_19 : ¬ 4 = 3 := n_ne (by omega) (by omega) c_19
      refine r_iload_n 1 dX6_lendsIn_36 rfl rfl ?_
      refine r_bipush (v := nI 6) dX6_lendsIn_37 (by decide +kernel) ?_
      refine r_icmp_ne 60 dX6_lendsIn_39 (by decide) (fun c_39 => ?_) (fun c_39 => ?_)
      · skip
        have n_39 : ¬ 4 = 6 := n_ne (by omega) (by omega) c_39
        refine r_aload_n 0 dX6_lendsIn_60 rfl rfl rfl ?_
        refine r_iload_n 1 dX6_lendsIn_61 rfl rfl ?_
        refine r_callS_1 dX6_lendsIn_62 kX6_89 (M_above_4)  rfl rfl (Nat.le_of_ble_eq_true rfl) ?_
        refine r_iload_n 2 dX6_lendsIn_65 rfl rfl ?_
        refine r_callV_1 dX6_lendsIn_66 kX6_264 (M_lendsIn_1 hm hn hmm ht) (gRecv.of hm.s66 rfl) rfl rfl (Nat.le_of_ble_eq_true rfl) ?_
        refine e_iret dX6_lendsIn_69 rfl ?_
        exact ⟨rfl, rfl⟩
      · skip
        have n_39 : 4 = 6 := n_nen (by omega) (by omega) c_39
        exact absurd n_39 (by decide)
    · skip
      have n_19 : 4 = 3 := n_nen (by omega) (by omega) c_19
      exact absurd n_19 (by decide)
  · skip
    have n_1 : 4 = 0 := n_eq0 (by omega) c_1
    exact absurd n_1 (by decide)
theorem M_lendsIn_5 {d : Nat} {h : Hp} (hm : LayM (hS h) (hR h)) {r o : Row} {n : Int32} (hn : o 27 = n) {m : Int32} (hmm : o 28 = m) {t : TR} (ht : t.2 ≤ 40) {x : Int32} : gC (d + 3) (0) (0) m_X6_lendsIn [.ref 66, .int (nI 5), .int x] (VH h r o t) (Ret (some (.int (lendsV 5 n m (x) t).1)) (VH h r o (lendsV 5 n m (x) t).2)) := by
  refine gC.of (ls := [some (.ref 66), some (.int (nI 5)), some (.int x)]) (by decide +kernel) rfl rfl rfl rfl (Nat.le_of_ble_eq_true rfl) ?_
  refine r_iload_n 1 dX6_lendsIn_0 rfl rfl ?_
  refine r_if_ne 17 dX6_lendsIn_1 (by decide) (fun c_1 => ?_) (fun c_1 => ?_)
  · skip
    have n_1 : ¬ 5 = 0 := n_ne0 (by omega) c_1
    refine r_iload_n 1 dX6_lendsIn_17 rfl rfl ?_
    refine r_iconst (v := nI 3) dX6_lendsIn_18 rfl ?_
    refine r_icmp_ne 36 dX6_lendsIn_19 (by decide) (fun c_19 => ?_) (fun c_19 => ?_)
    · skip
      have n_19 : ¬ 5 = 3 := n_ne (by omega) (by omega) c_19
      refine r_iload_n 1 dX6_lendsIn_36 rfl rfl ?_
      refine r_bipush (v := nI 6) dX6_lendsIn_37 (by decide +kernel) ?_
      refine r_icmp_ne 60 dX6_lendsIn_39 (by decide) (fun c_39 => ?_) (fun c_39 => ?_)
      · skip
        have n_39 : ¬ 5 = 6 := n_ne (by omega) (by omega) c_39
        refine r_aload_n 0 dX6_lendsIn_60 rfl rfl rfl ?_
        refine r_iload_n 1 dX6_lendsIn_61 rfl rfl ?_
        refine r_callS_1 dX6_lendsIn_62 kX6_89 (M_above_5)  rfl rfl (Nat.le_of_ble_eq_true rfl) ?_
        refine r_iload_n 2 dX6_lendsIn_65 rfl rfl ?_
        refine r_callV_1 dX6_lendsIn_66 kX6_264 (M_lendsIn_2 hm hn hmm ht) (gRecv.of hm.s66 rfl) rfl rfl (Nat.le_of_ble_eq_true rfl) ?_
        refine e_iret dX6_lendsIn_69 rfl ?_
        exact ⟨rfl, rfl⟩
      · skip
        have n_39 : 5 = 6 := n_nen (by omega) (by omega) c_39
        exact absurd n_39 (by decide)
    · skip
      have n_19 : 5 = 3 := n_nen (by omega) (by omega) c_19
      exact absurd n_19 (by decide)
  · skip
    have n_1 : 5 = 0 := n_eq0 (by omega) c_1
    exact absurd n_1 (by decide)
theorem M_lendsIn_6 {d : Nat} {h : Hp} (hm : LayM (hS h) (hR h)) {r o : Row} {n : Int32} (hn : o 27 = n) {m : Int32} (hmm : o 28 = m) {t : TR} (ht : t.2 ≤ 40) {x : Int32} : gC (d + 3) (0) (0) m_X6_lendsIn [.ref 66, .int (nI 6), .int x] (VH h r o t) (Ret (some (.int (lendsV 6 n m (x) t).1)) (VH h r o (lendsV 6 n m (x) t).2)) := by
  refine gC.of (ls := [some (.ref 66), some (.int (nI 6)), some (.int x)]) (by decide +kernel) rfl rfl rfl rfl (Nat.le_of_ble_eq_true rfl) ?_
  refine r_iload_n 1 dX6_lendsIn_0 rfl rfl ?_
  refine r_if_ne 17 dX6_lendsIn_1 (by decide) (fun c_1 => ?_) (fun c_1 => ?_)
  · skip
    have n_1 : ¬ 6 = 0 := n_ne0 (by omega) c_1
    refine r_iload_n 1 dX6_lendsIn_17 rfl rfl ?_
    refine r_iconst (v := nI 3) dX6_lendsIn_18 rfl ?_
    refine r_icmp_ne 36 dX6_lendsIn_19 (by decide) (fun c_19 => ?_) (fun c_19 => ?_)
    · skip
      have n_19 : ¬ 6 = 3 := n_ne (by omega) (by omega) c_19
      refine r_iload_n 1 dX6_lendsIn_36 rfl rfl ?_
      refine r_bipush (v := nI 6) dX6_lendsIn_37 (by decide +kernel) ?_
      refine r_icmp_ne 60 dX6_lendsIn_39 (by decide) (fun c_39 => ?_) (fun c_39 => ?_)
      · skip
        have n_39 : ¬ 6 = 6 := n_ne (by omega) (by omega) c_39
        exact absurd n_39 (by decide)
      · skip
        have n_39 : 6 = 6 := n_nen (by omega) (by omega) c_39
        refine r_aload_n 0 dX6_lendsIn_42 rfl rfl rfl ?_
        refine r_bipush (v := nI 70) dX6_lendsIn_43 (by decide +kernel) ?_
        refine r_callV_0 dX6_lendsIn_45 kX6_252 (M_ran hm ht) (gRecv.of hm.s66 rfl) rfl rfl (Nat.le_of_ble_eq_true rfl) ?_
        refine r_aload_n 0 dX6_lendsIn_48 rfl rfl rfl ?_
        refine r_iconst (v := nI 3) dX6_lendsIn_49 rfl ?_
        refine r_iload_n 2 dX6_lendsIn_50 rfl rfl ?_
        refine r_callV_1 dX6_lendsIn_51 kX6_264 (M_lendsIn_3 hm hn hmm (ranT_le ht)) (gRecv.of hm.s66 rfl) rfl rfl (Nat.le_of_ble_eq_true rfl) ?_
        refine r_aload_n 0 dX6_lendsIn_54 rfl rfl rfl ?_
        refine r_geti (k := 27) dX6_lendsIn_55 hm.s66 rfl (by decide) (Or.inl q1443) (Or.inl rfl) rfl ?_
        refine r_eqi (show _ = n from hn) ?_
        refine r_ixor dX6_lendsIn_58 ?_
        refine e_iret dX6_lendsIn_59 rfl ?_
        exact ⟨rfl, rfl⟩
    · skip
      have n_19 : 6 = 3 := n_nen (by omega) (by omega) c_19
      exact absurd n_19 (by decide)
  · skip
    have n_1 : 6 = 0 := n_eq0 (by omega) c_1
    exact absurd n_1 (by decide)
theorem M_lendsInG {d : Nat} {h : Hp} (hm : LayM (hS h) (hR h)) {r o : Row} {q : Nat} (hq7 : q < 7) {n : Int32} (hn : o 27 = n) {m : Int32} (hmm : o 28 = m) {t : TR} (ht : t.2 ≤ 40) {x : Int32} : gC (d + 3) 0 0 m_X6_lendsIn [.ref 66, .int (nI q), .int x] (VH h r o t) (Ret (some (.int (lendsV q n m (x) t).1)) (VH h r o (lendsV q n m (x) t).2)) := by
  rcases (show q = 0 ∨ q = 1 ∨ q = 2 ∨ q = 3 ∨ q = 4 ∨ q = 5 ∨ q = 6 by omega) with rfl | rfl | rfl | rfl | rfl | rfl | rfl
  · exact M_lendsIn_0 hm hn hmm ht
  · exact M_lendsIn_1 hm hn hmm ht
  · exact M_lendsIn_2 hm hn hmm ht
  · exact M_lendsIn_3 hm hn hmm ht
  · exact M_lendsIn_4 hm hn hmm ht
  · exact M_lendsIn_5 hm hn hmm ht
  · exact M_lendsIn_6 hm hn hmm ht
theorem M_fillsIn_0 {d : Nat} {h : Hp} (hm : LayM (hS h) (hR h)) {r o : Row} {vk : Nat} (hv : o 26 = nI vk) (hv7 : vk < 7) {n : Int32} (hn : o 27 = n) {m : Int32} (hmm : o 28 = m) {t : TR} (ht : t.2 ≤ 40) {x : Int32} : gC (d + 4) (0) (0) m_X6_fillsIn [.ref 66, .int (nI 0), .int x] (VH h r o t) (Ret (some (.int (fillsV 0 vk n m (x) t).1)) (VH h r o (fillsV 0 vk n m (x) t).2)) := by
  refine gC.of (ls := [some (.ref 66), some (.int (nI 0)), some (.int x), none]) (by decide +kernel) rfl rfl rfl rfl (Nat.le_of_ble_eq_true rfl) ?_
  refine r_iload_n 1 dX6_fillsIn_0 rfl rfl ?_
  refine r_if_ne 22 dX6_fillsIn_1 (by decide) (fun c_1 => ?_) (fun c_1 => ?_)
  · skip
    have n_1 : ¬ 0 = 0 := n_ne0 (by omega) c_1
    exact absurd n_1 (by decide)
  · skip
    have n_1 : 0 = 0 := n_eq0 (by omega) c_1
    refine r_aload_n 0 dX6_fillsIn_4 rfl rfl rfl ?_
    refine r_bipush (v := nI 11) dX6_fillsIn_5 (by decide +kernel) ?_
    refine r_callV_0 dX6_fillsIn_7 kX6_252 (M_ran hm ht) (gRecv.of hm.s66 rfl) rfl rfl (Nat.le_of_ble_eq_true rfl) ?_
    refine r_aload_n 0 dX6_fillsIn_10 rfl rfl rfl ?_
    refine r_aload_n 0 dX6_fillsIn_11 rfl rfl rfl ?_
    refine r_geti (k := 26) dX6_fillsIn_12 hm.s66 rfl (by decide) (Or.inl q1442) (Or.inl rfl) rfl ?_
    refine r_eqi (show _ = nI (vk) from hv) ?_
    refine r_iload_n 2 dX6_fillsIn_15 rfl rfl ?_
    refine r_callV_1 dX6_fillsIn_16 kX6_258 (M_letsInG hm hv7 hn (ranT_le ht)) (gRecv.of hm.s66 rfl) rfl rfl (Nat.le_of_ble_eq_true rfl) ?_
    refine r_iconst (v := nI 2) dX6_fillsIn_19 rfl ?_
    refine r_imul dX6_fillsIn_20 ?_
    refine e_iret dX6_fillsIn_21 rfl ?_
    exact ⟨rfl, rfl⟩
theorem M_fillsIn_1 {d : Nat} {h : Hp} (hm : LayM (hS h) (hR h)) {r o : Row} {vk : Nat} (hv : o 26 = nI vk) (hv7 : vk < 7) {n : Int32} (hn : o 27 = n) {m : Int32} (hmm : o 28 = m) {t : TR} (ht : t.2 ≤ 40) {x : Int32} : gC (d + 5) (0) (0) m_X6_fillsIn [.ref 66, .int (nI 1), .int x] (VH h r o t) (Ret (some (.int (fillsV 1 vk n m (x) t).1)) (VH h r o (fillsV 1 vk n m (x) t).2)) := by
  refine gC.of (ls := [some (.ref 66), some (.int (nI 1)), some (.int x), none]) (by decide +kernel) rfl rfl rfl rfl (Nat.le_of_ble_eq_true rfl) ?_
  refine r_iload_n 1 dX6_fillsIn_0 rfl rfl ?_
  refine r_if_ne 22 dX6_fillsIn_1 (by decide) (fun c_1 => ?_) (fun c_1 => ?_)
  · skip
    have n_1 : ¬ 1 = 0 := n_ne0 (by omega) c_1
    refine r_iload_n 1 dX6_fillsIn_22 rfl rfl ?_
    refine r_iconst (v := nI 2) dX6_fillsIn_23 rfl ?_
    refine r_icmp_ne 52 dX6_fillsIn_24 (by decide) (fun c_24 => ?_) (fun c_24 => ?_)
    · skip
      have n_24 : ¬ 1 = 2 := n_ne (by omega) (by omega) c_24
      refine r_iload_n 1 dX6_fillsIn_52 rfl rfl ?_
      refine r_iconst (v := nI 5) dX6_fillsIn_53 rfl ?_
      refine r_icmp_ne 72 dX6_fillsIn_54 (by decide) (fun c_54 => ?_) (fun c_54 => ?_)
      · skip
        have n_54 : ¬ 1 = 5 := n_ne (by omega) (by omega) c_54
        refine r_aload_n 0 dX6_fillsIn_72 rfl rfl rfl ?_
        refine r_iload_n 1 dX6_fillsIn_73 rfl rfl ?_
        refine r_callS_1 dX6_fillsIn_74 kX6_89 (M_above_1)  rfl rfl (Nat.le_of_ble_eq_true rfl) ?_
        refine r_iload_n 2 dX6_fillsIn_77 rfl rfl ?_
        refine r_callV_1 dX6_fillsIn_78 kX6_270 (M_fillsIn_0 hm hv hv7 hn hmm ht) (gRecv.of hm.s66 rfl) rfl rfl (Nat.le_of_ble_eq_true rfl) ?_
        refine e_iret dX6_fillsIn_81 rfl ?_
        exact ⟨rfl, rfl⟩
      · skip
        have n_54 : 1 = 5 := n_nen (by omega) (by omega) c_54
        exact absurd n_54 (by decide)
    · skip
      have n_24 : 1 = 2 := n_nen (by omega) (by omega) c_24
      exact absurd n_24 (by decide)
  · skip
    have n_1 : 1 = 0 := n_eq0 (by omega) c_1
    exact absurd n_1 (by decide)
theorem M_fillsIn_2 {d : Nat} {h : Hp} (hm : LayM (hS h) (hR h)) {r o : Row} {vk : Nat} (hv : o 26 = nI vk) (hv7 : vk < 7) {n : Int32} (hn : o 27 = n) {m : Int32} (hmm : o 28 = m) {t : TR} (ht : t.2 ≤ 40) {x : Int32} : gC (d + 5) (0) (0) m_X6_fillsIn [.ref 66, .int (nI 2), .int x] (VH h r o t) (Ret (some (.int (fillsV 2 vk n m (x) t).1)) (VH h r o (fillsV 2 vk n m (x) t).2)) := by
  refine gC.of (ls := [some (.ref 66), some (.int (nI 2)), some (.int x), none]) (by decide +kernel) rfl rfl rfl rfl (Nat.le_of_ble_eq_true rfl) ?_
  refine r_iload_n 1 dX6_fillsIn_0 rfl rfl ?_
  refine r_if_ne 22 dX6_fillsIn_1 (by decide) (fun c_1 => ?_) (fun c_1 => ?_)
  · skip
    have n_1 : ¬ 2 = 0 := n_ne0 (by omega) c_1
    refine r_iload_n 1 dX6_fillsIn_22 rfl rfl ?_
    refine r_iconst (v := nI 2) dX6_fillsIn_23 rfl ?_
    refine r_icmp_ne 52 dX6_fillsIn_24 (by decide) (fun c_24 => ?_) (fun c_24 => ?_)
    · skip
      have n_24 : ¬ 2 = 2 := n_ne (by omega) (by omega) c_24
      exact absurd n_24 (by decide)
    · skip
      have n_24 : 2 = 2 := n_nen (by omega) (by omega) c_24
      refine r_aload_n 0 dX6_fillsIn_27 rfl rfl rfl ?_
      refine r_bipush (v := nI 30) dX6_fillsIn_28 (by decide +kernel) ?_
      refine r_callV_0 dX6_fillsIn_30 kX6_252 (M_ran hm ht) (gRecv.of hm.s66 rfl) rfl rfl (Nat.le_of_ble_eq_true rfl) ?_
      refine r_aload_n 0 dX6_fillsIn_33 rfl rfl rfl ?_
      refine r_iconst (v := nI 0) dX6_fillsIn_34 rfl ?_
      refine r_iload_n 2 dX6_fillsIn_35 rfl rfl ?_
      refine r_callV_1 dX6_fillsIn_36 kX6_270 (M_fillsIn_0 hm hv hv7 hn hmm (ranT_le ht)) (gRecv.of hm.s66 rfl) rfl rfl (Nat.le_of_ble_eq_true rfl) ?_
      refine r_istore_n 3 dX6_fillsIn_39 rfl (by decide) rfl ?_
      refine gG_ls (ls' := [_, _, _, _]) rfl ?_
      refine r_iload_n 3 dX6_fillsIn_40 rfl rfl ?_
      refine r_aload_n 0 dX6_fillsIn_41 rfl rfl rfl ?_
      refine r_aload_n 0 dX6_fillsIn_42 rfl rfl rfl ?_
      refine r_geti (k := 26) dX6_fillsIn_43 hm.s66 rfl (by decide) (Or.inl q1442) (Or.inl rfl) rfl ?_
      refine r_eqi (show _ = nI (vk) from hv) ?_
      refine r_iconst (v := nI 1) dX6_fillsIn_46 rfl ?_
      refine r_callV_1 dX6_fillsIn_47 kX6_264 (M_lendsInG hm hv7 hn hmm (fillsV_le (ranT_le ht))) (gRecv.of hm.s66 rfl) rfl rfl (Nat.le_of_ble_eq_true rfl) ?_
      refine r_isub dX6_fillsIn_50 ?_
      refine e_iret dX6_fillsIn_51 rfl ?_
      exact ⟨rfl, rfl⟩
  · skip
    have n_1 : 2 = 0 := n_eq0 (by omega) c_1
    exact absurd n_1 (by decide)
theorem M_fillsIn_3 {d : Nat} {h : Hp} (hm : LayM (hS h) (hR h)) {r o : Row} {vk : Nat} (hv : o 26 = nI vk) (hv7 : vk < 7) {n : Int32} (hn : o 27 = n) {m : Int32} (hmm : o 28 = m) {t : TR} (ht : t.2 ≤ 40) {x : Int32} : gC (d + 5) (0) (0) m_X6_fillsIn [.ref 66, .int (nI 3), .int x] (VH h r o t) (Ret (some (.int (fillsV 3 vk n m (x) t).1)) (VH h r o (fillsV 3 vk n m (x) t).2)) := by
  refine gC.of (ls := [some (.ref 66), some (.int (nI 3)), some (.int x), none]) (by decide +kernel) rfl rfl rfl rfl (Nat.le_of_ble_eq_true rfl) ?_
  refine r_iload_n 1 dX6_fillsIn_0 rfl rfl ?_
  refine r_if_ne 22 dX6_fillsIn_1 (by decide) (fun c_1 => ?_) (fun c_1 => ?_)
  · skip
    have n_1 : ¬ 3 = 0 := n_ne0 (by omega) c_1
    refine r_iload_n 1 dX6_fillsIn_22 rfl rfl ?_
    refine r_iconst (v := nI 2) dX6_fillsIn_23 rfl ?_
    refine r_icmp_ne 52 dX6_fillsIn_24 (by decide) (fun c_24 => ?_) (fun c_24 => ?_)
    · skip
      have n_24 : ¬ 3 = 2 := n_ne (by omega) (by omega) c_24
      refine r_iload_n 1 dX6_fillsIn_52 rfl rfl ?_
      refine r_iconst (v := nI 5) dX6_fillsIn_53 rfl ?_
      refine r_icmp_ne 72 dX6_fillsIn_54 (by decide) (fun c_54 => ?_) (fun c_54 => ?_)
      · skip
        have n_54 : ¬ 3 = 5 := n_ne (by omega) (by omega) c_54
        refine r_aload_n 0 dX6_fillsIn_72 rfl rfl rfl ?_
        refine r_iload_n 1 dX6_fillsIn_73 rfl rfl ?_
        refine r_callS_1 dX6_fillsIn_74 kX6_89 (M_above_3)  rfl rfl (Nat.le_of_ble_eq_true rfl) ?_
        refine r_iload_n 2 dX6_fillsIn_77 rfl rfl ?_
        refine r_callV_1 dX6_fillsIn_78 kX6_270 (M_fillsIn_0 hm hv hv7 hn hmm ht) (gRecv.of hm.s66 rfl) rfl rfl (Nat.le_of_ble_eq_true rfl) ?_
        refine e_iret dX6_fillsIn_81 rfl ?_
        exact ⟨rfl, rfl⟩
      · skip
        have n_54 : 3 = 5 := n_nen (by omega) (by omega) c_54
        exact absurd n_54 (by decide)
    · skip
      have n_24 : 3 = 2 := n_nen (by omega) (by omega) c_24
      exact absurd n_24 (by decide)
  · skip
    have n_1 : 3 = 0 := n_eq0 (by omega) c_1
    exact absurd n_1 (by decide)
theorem M_fillsIn_4 {d : Nat} {h : Hp} (hm : LayM (hS h) (hR h)) {r o : Row} {vk : Nat} (hv : o 26 = nI vk) (hv7 : vk < 7) {n : Int32} (hn : o 27 = n) {m : Int32} (hmm : o 28 = m) {t : TR} (ht : t.2 ≤ 40) {x : Int32} : gC (d + 6) (0) (0) m_X6_fillsIn [.ref 66, .int (nI 4), .int x] (VH h r o t) (Ret (some (.int (fillsV 4 vk n m (x) t).1)) (VH h r o (fillsV 4 vk n m (x) t).2)) := by
  refine gC.of (ls := [some (.ref 66), some (.int (nI 4)), some (.int x), none]) (by decide +kernel) rfl rfl rfl rfl (Nat.le_of_ble_eq_true rfl) ?_
  refine r_iload_n 1 dX6_fillsIn_0 rfl rfl ?_
  refine r_if_ne 22 dX6_fillsIn_1 (by decide) (fun c_1 => ?_) (fun c_1 => ?_)
  · skip
    have n_1 : ¬ 4 = 0 := n_ne0 (by omega) c_1
    refine r_iload_n 1 dX6_fillsIn_22 rfl rfl ?_
    refine r_iconst (v := nI 2) dX6_fillsIn_23 rfl ?_
    refine r_icmp_ne 52 dX6_fillsIn_24 (by decide) (fun c_24 => ?_) (fun c_24 => ?_)
    · skip
      have n_24 : ¬ 4 = 2 := n_ne (by omega) (by omega) c_24
      refine r_iload_n 1 dX6_fillsIn_52 rfl rfl ?_
      refine r_iconst (v := nI 5) dX6_fillsIn_53 rfl ?_
      refine r_icmp_ne 72 dX6_fillsIn_54 (by decide) (fun c_54 => ?_) (fun c_54 => ?_)
      · skip
        have n_54 : ¬ 4 = 5 := n_ne (by omega) (by omega) c_54
        refine r_aload_n 0 dX6_fillsIn_72 rfl rfl rfl ?_
        refine r_iload_n 1 dX6_fillsIn_73 rfl rfl ?_
        refine r_callS_1 dX6_fillsIn_74 kX6_89 (M_above_4)  rfl rfl (Nat.le_of_ble_eq_true rfl) ?_
        refine r_iload_n 2 dX6_fillsIn_77 rfl rfl ?_
        refine r_callV_1 dX6_fillsIn_78 kX6_270 (M_fillsIn_1 hm hv hv7 hn hmm ht) (gRecv.of hm.s66 rfl) rfl rfl (Nat.le_of_ble_eq_true rfl) ?_
        refine e_iret dX6_fillsIn_81 rfl ?_
        exact ⟨rfl, rfl⟩
      · skip
        have n_54 : 4 = 5 := n_nen (by omega) (by omega) c_54
        exact absurd n_54 (by decide)
    · skip
      have n_24 : 4 = 2 := n_nen (by omega) (by omega) c_24
      exact absurd n_24 (by decide)
  · skip
    have n_1 : 4 = 0 := n_eq0 (by omega) c_1
    exact absurd n_1 (by decide)
theorem M_fillsIn_5 {d : Nat} {h : Hp} (hm : LayM (hS h) (hR h)) {r o : Row} {vk : Nat} (hv : o 26 = nI vk) (hv7 : vk < 7) {n : Int32} (hn : o 27 = n) {m : Int32} (hmm : o 28 = m) {t : TR} (ht : t.2 ≤ 40) {x : Int32} : gC (d + 6) (0) (0) m_X6_fillsIn [.ref 66, .int (nI 5), .int x] (VH h r o t) (Ret (some (.int (fillsV 5 vk n m (x) t).1)) (VH h r o (fillsV 5 vk n m (x) t).2)) := by
  refine gC.of (ls := [some (.ref 66), some (.int (nI 5)), some (.int x), none]) (by decide +kernel) rfl rfl rfl rfl (Nat.le_of_ble_eq_true rfl) ?_
  refine r_iload_n 1 dX6_fillsIn_0 rfl rfl ?_
  refine r_if_ne 22 dX6_fillsIn_1 (by decide) (fun c_1 => ?_) (fun c_1 => ?_)
  · skip
    have n_1 : ¬ 5 = 0 := n_ne0 (by omega) c_1
    refine r_iload_n 1 dX6_fillsIn_22 rfl rfl ?_
    refine r_iconst (v := nI 2) dX6_fillsIn_23 rfl ?_
    refine r_icmp_ne 52 dX6_fillsIn_24 (by decide) (fun c_24 => ?_) (fun c_24 => ?_)
    · skip
      have n_24 : ¬ 5 = 2 := n_ne (by omega) (by omega) c_24
      refine r_iload_n 1 dX6_fillsIn_52 rfl rfl ?_
      refine r_iconst (v := nI 5) dX6_fillsIn_53 rfl ?_
      refine r_icmp_ne 72 dX6_fillsIn_54 (by decide) (fun c_54 => ?_) (fun c_54 => ?_)
      · skip
        have n_54 : ¬ 5 = 5 := n_ne (by omega) (by omega) c_54
        exact absurd n_54 (by decide)
      · skip
        have n_54 : 5 = 5 := n_nen (by omega) (by omega) c_54
        refine r_aload_n 0 dX6_fillsIn_57 rfl rfl rfl ?_
        refine r_bipush (v := nI 60) dX6_fillsIn_58 (by decide +kernel) ?_
        refine r_callV_0 dX6_fillsIn_60 kX6_252 (M_ran hm ht) (gRecv.of hm.s66 rfl) rfl rfl (Nat.le_of_ble_eq_true rfl) ?_
        refine r_aload_n 0 dX6_fillsIn_63 rfl rfl rfl ?_
        refine r_iconst (v := nI 2) dX6_fillsIn_64 rfl ?_
        refine r_iload_n 2 dX6_fillsIn_65 rfl rfl ?_
        refine r_iconst (v := nI 1) dX6_fillsIn_66 rfl ?_
        refine r_iadd dX6_fillsIn_67 ?_
        refine r_eqi (show _ = (x + nI 1) from rfl) ?_
        refine r_callV_1 dX6_fillsIn_68 kX6_270 (M_fillsIn_2 hm hv hv7 hn hmm (ranT_le ht)) (gRecv.of hm.s66 rfl) rfl rfl (Nat.le_of_ble_eq_true rfl) ?_
        refine e_iret dX6_fillsIn_71 rfl ?_
        exact ⟨rfl, rfl⟩
    · skip
      have n_24 : 5 = 2 := n_nen (by omega) (by omega) c_24
      exact absurd n_24 (by decide)
  · skip
    have n_1 : 5 = 0 := n_eq0 (by omega) c_1
    exact absurd n_1 (by decide)
theorem M_fillsIn_6 {d : Nat} {h : Hp} (hm : LayM (hS h) (hR h)) {r o : Row} {vk : Nat} (hv : o 26 = nI vk) (hv7 : vk < 7) {n : Int32} (hn : o 27 = n) {m : Int32} (hmm : o 28 = m) {t : TR} (ht : t.2 ≤ 40) {x : Int32} : gC (d + 6) (0) (0) m_X6_fillsIn [.ref 66, .int (nI 6), .int x] (VH h r o t) (Ret (some (.int (fillsV 6 vk n m (x) t).1)) (VH h r o (fillsV 6 vk n m (x) t).2)) := by
  refine gC.of (ls := [some (.ref 66), some (.int (nI 6)), some (.int x), none]) (by decide +kernel) rfl rfl rfl rfl (Nat.le_of_ble_eq_true rfl) ?_
  refine r_iload_n 1 dX6_fillsIn_0 rfl rfl ?_
  refine r_if_ne 22 dX6_fillsIn_1 (by decide) (fun c_1 => ?_) (fun c_1 => ?_)
  · skip
    have n_1 : ¬ 6 = 0 := n_ne0 (by omega) c_1
    refine r_iload_n 1 dX6_fillsIn_22 rfl rfl ?_
    refine r_iconst (v := nI 2) dX6_fillsIn_23 rfl ?_
    refine r_icmp_ne 52 dX6_fillsIn_24 (by decide) (fun c_24 => ?_) (fun c_24 => ?_)
    · skip
      have n_24 : ¬ 6 = 2 := n_ne (by omega) (by omega) c_24
      refine r_iload_n 1 dX6_fillsIn_52 rfl rfl ?_
      refine r_iconst (v := nI 5) dX6_fillsIn_53 rfl ?_
      refine r_icmp_ne 72 dX6_fillsIn_54 (by decide) (fun c_54 => ?_) (fun c_54 => ?_)
      · skip
        have n_54 : ¬ 6 = 5 := n_ne (by omega) (by omega) c_54
        refine r_aload_n 0 dX6_fillsIn_72 rfl rfl rfl ?_
        refine r_iload_n 1 dX6_fillsIn_73 rfl rfl ?_
        refine r_callS_1 dX6_fillsIn_74 kX6_89 (M_above_6)  rfl rfl (Nat.le_of_ble_eq_true rfl) ?_
        refine r_iload_n 2 dX6_fillsIn_77 rfl rfl ?_
        refine r_callV_1 dX6_fillsIn_78 kX6_270 (M_fillsIn_3 hm hv hv7 hn hmm ht) (gRecv.of hm.s66 rfl) rfl rfl (Nat.le_of_ble_eq_true rfl) ?_
        refine e_iret dX6_fillsIn_81 rfl ?_
        exact ⟨rfl, rfl⟩
      · skip
        have n_54 : 6 = 5 := n_nen (by omega) (by omega) c_54
        exact absurd n_54 (by decide)
    · skip
      have n_24 : 6 = 2 := n_nen (by omega) (by omega) c_24
      exact absurd n_24 (by decide)
  · skip
    have n_1 : 6 = 0 := n_eq0 (by omega) c_1
    exact absurd n_1 (by decide)
theorem M_fillsInG {d : Nat} {h : Hp} (hm : LayM (hS h) (hR h)) {r o : Row} {q : Nat} (hq7 : q < 7) {vk : Nat} (hv : o 26 = nI vk) (hv7 : vk < 7) {n : Int32} (hn : o 27 = n) {m : Int32} (hmm : o 28 = m) {t : TR} (ht : t.2 ≤ 40) {x : Int32} : gC (d + 6) 0 0 m_X6_fillsIn [.ref 66, .int (nI q), .int x] (VH h r o t) (Ret (some (.int (fillsV q vk n m (x) t).1)) (VH h r o (fillsV q vk n m (x) t).2)) := by
  rcases (show q = 0 ∨ q = 1 ∨ q = 2 ∨ q = 3 ∨ q = 4 ∨ q = 5 ∨ q = 6 by omega) with rfl | rfl | rfl | rfl | rfl | rfl | rfl
  · exact M_fillsIn_0 hm hv hv7 hn hmm ht
  · exact M_fillsIn_1 hm hv hv7 hn hmm ht
  · exact M_fillsIn_2 hm hv hv7 hn hmm ht
  · exact M_fillsIn_3 hm hv hv7 hn hmm ht
  · exact M_fillsIn_4 hm hv hv7 hn hmm ht
  · exact M_fillsIn_5 hm hv hv7 hn hmm ht
  · exact M_fillsIn_6 hm hv hv7 hn hmm ht
theorem M_tellsIn_0 {d : Nat} {h : Hp} (hm : LayM (hS h) (hR h)) {r o : Row} {vk : Nat} (hv : o 26 = nI vk) (hv7 : vk < 7) {n : Int32} (hn : o 27 = n) {m : Int32} (hmm : o 28 = m) {t : TR} (ht : t.2 ≤ 40) {x : Int32} : gC (d + 7) (0) (0) m_X6_tellsIn [.ref 66, .int (nI 0), .int x] (VH h r o t) (Ret (some (.int (tellsV 0 vk n m (x) t).1)) (VH h r o (tellsV 0 vk n m (x) t).2)) := by
  refine gC.of (ls := [some (.ref 66), some (.int (nI 0)), some (.int x), none]) (by decide +kernel) rfl rfl rfl rfl (Nat.le_of_ble_eq_true rfl) ?_
  refine r_iload_n 1 dX6_tellsIn_0 rfl rfl ?_
  refine r_if_ne 32 dX6_tellsIn_1 (by decide) (fun c_1 => ?_) (fun c_1 => ?_)
  · skip
    have n_1 : ¬ 0 = 0 := n_ne0 (by omega) c_1
    exact absurd n_1 (by decide)
  · skip
    have n_1 : 0 = 0 := n_eq0 (by omega) c_1
    refine r_aload_n 0 dX6_tellsIn_4 rfl rfl rfl ?_
    refine r_bipush (v := nI 13) dX6_tellsIn_5 (by decide +kernel) ?_
    refine r_callV_0 dX6_tellsIn_7 kX6_252 (M_ran hm ht) (gRecv.of hm.s66 rfl) rfl rfl (Nat.le_of_ble_eq_true rfl) ?_
    refine r_aload_n 0 dX6_tellsIn_10 rfl rfl rfl ?_
    refine r_aload_n 0 dX6_tellsIn_11 rfl rfl rfl ?_
    refine r_geti (k := 26) dX6_tellsIn_12 hm.s66 rfl (by decide) (Or.inl q1442) (Or.inl rfl) rfl ?_
    refine r_eqi (show _ = nI (vk) from hv) ?_
    refine r_iload_n 2 dX6_tellsIn_15 rfl rfl ?_
    refine r_callV_1 dX6_tellsIn_16 kX6_270 (M_fillsInG hm hv7 hv hv7 hn hmm (ranT_le ht)) (gRecv.of hm.s66 rfl) rfl rfl (Nat.le_of_ble_eq_true rfl) ?_
    refine r_istore_n 3 dX6_tellsIn_19 rfl (by decide) rfl ?_
    refine gG_ls (ls' := [_, _, _, _]) rfl ?_
    refine r_iload_n 3 dX6_tellsIn_20 rfl rfl ?_
    refine r_aload_n 0 dX6_tellsIn_21 rfl rfl rfl ?_
    refine r_aload_n 0 dX6_tellsIn_22 rfl rfl rfl ?_
    refine r_geti (k := 26) dX6_tellsIn_23 hm.s66 rfl (by decide) (Or.inl q1442) (Or.inl rfl) rfl ?_
    refine r_eqi (show _ = nI (vk) from hv) ?_
    refine r_iload_n 2 dX6_tellsIn_26 rfl rfl ?_
    refine r_callV_1 dX6_tellsIn_27 kX6_264 (M_lendsInG hm hv7 hn hmm (fillsV_le (ranT_le ht))) (gRecv.of hm.s66 rfl) rfl rfl (Nat.le_of_ble_eq_true rfl) ?_
    refine r_ixor dX6_tellsIn_30 ?_
    refine e_iret dX6_tellsIn_31 rfl ?_
    exact ⟨rfl, rfl⟩
theorem M_tellsIn_1 {d : Nat} {h : Hp} (hm : LayM (hS h) (hR h)) {r o : Row} {vk : Nat} (hv : o 26 = nI vk) (hv7 : vk < 7) {n : Int32} (hn : o 27 = n) {m : Int32} (hmm : o 28 = m) {t : TR} (ht : t.2 ≤ 40) {x : Int32} : gC (d + 8) (0) (0) m_X6_tellsIn [.ref 66, .int (nI 1), .int x] (VH h r o t) (Ret (some (.int (tellsV 1 vk n m (x) t).1)) (VH h r o (tellsV 1 vk n m (x) t).2)) := by
  refine gC.of (ls := [some (.ref 66), some (.int (nI 1)), some (.int x), none]) (by decide +kernel) rfl rfl rfl rfl (Nat.le_of_ble_eq_true rfl) ?_
  refine r_iload_n 1 dX6_tellsIn_0 rfl rfl ?_
  refine r_if_ne 32 dX6_tellsIn_1 (by decide) (fun c_1 => ?_) (fun c_1 => ?_)
  · skip
    have n_1 : ¬ 1 = 0 := n_ne0 (by omega) c_1
    refine r_iload_n 1 dX6_tellsIn_32 rfl rfl ?_
    refine r_iconst (v := nI 4) dX6_tellsIn_33 rfl ?_
    refine r_icmp_ne 62 dX6_tellsIn_34 (by decide) (fun c_34 => ?_) (fun c_34 => ?_)
    · skip
      have n_34 : ¬ 1 = 4 := n_ne (by omega) (by omega) c_34
      refine r_iload_n 1 dX6_tellsIn_62 rfl rfl ?_
      refine r_bipush (v := nI 6) dX6_tellsIn_63 (by decide +kernel) ?_
      refine r_icmp_ne 93 dX6_tellsIn_65 (by decide) (fun c_65 => ?_) (fun c_65 => ?_)
      · skip
        have n_65 : ¬ 1 = 6 := n_ne (by omega) (by omega) c_65
        refine r_aload_n 0 dX6_tellsIn_93 rfl rfl rfl ?_
        refine r_iload_n 1 dX6_tellsIn_94 rfl rfl ?_
        refine r_callS_1 dX6_tellsIn_95 kX6_89 (M_above_1)  rfl rfl (Nat.le_of_ble_eq_true rfl) ?_
        refine r_iload_n 2 dX6_tellsIn_98 rfl rfl ?_
        refine r_callV_1 dX6_tellsIn_99 kX6_273 (M_tellsIn_0 hm hv hv7 hn hmm ht) (gRecv.of hm.s66 rfl) rfl rfl (Nat.le_of_ble_eq_true rfl) ?_
        refine e_iret dX6_tellsIn_102 rfl ?_
        exact ⟨rfl, rfl⟩
      · skip
        have n_65 : 1 = 6 := n_nen (by omega) (by omega) c_65
        exact absurd n_65 (by decide)
    · skip
      have n_34 : 1 = 4 := n_nen (by omega) (by omega) c_34
      exact absurd n_34 (by decide)
  · skip
    have n_1 : 1 = 0 := n_eq0 (by omega) c_1
    exact absurd n_1 (by decide)
theorem M_tellsIn_2 {d : Nat} {h : Hp} (hm : LayM (hS h) (hR h)) {r o : Row} {vk : Nat} (hv : o 26 = nI vk) (hv7 : vk < 7) {n : Int32} (hn : o 27 = n) {m : Int32} (hmm : o 28 = m) {t : TR} (ht : t.2 ≤ 40) {x : Int32} : gC (d + 8) (0) (0) m_X6_tellsIn [.ref 66, .int (nI 2), .int x] (VH h r o t) (Ret (some (.int (tellsV 2 vk n m (x) t).1)) (VH h r o (tellsV 2 vk n m (x) t).2)) := by
  refine gC.of (ls := [some (.ref 66), some (.int (nI 2)), some (.int x), none]) (by decide +kernel) rfl rfl rfl rfl (Nat.le_of_ble_eq_true rfl) ?_
  refine r_iload_n 1 dX6_tellsIn_0 rfl rfl ?_
  refine r_if_ne 32 dX6_tellsIn_1 (by decide) (fun c_1 => ?_) (fun c_1 => ?_)
  · skip
    have n_1 : ¬ 2 = 0 := n_ne0 (by omega) c_1
    refine r_iload_n 1 dX6_tellsIn_32 rfl rfl ?_
    refine r_iconst (v := nI 4) dX6_tellsIn_33 rfl ?_
    refine r_icmp_ne 62 dX6_tellsIn_34 (by decide) (fun c_34 => ?_) (fun c_34 => ?_)
    · skip
      have n_34 : ¬ 2 = 4 := n_ne (by omega) (by omega) c_34
      refine r_iload_n 1 dX6_tellsIn_62 rfl rfl ?_
      refine r_bipush (v := nI 6) dX6_tellsIn_63 (by decide +kernel) ?_
      refine r_icmp_ne 93 dX6_tellsIn_65 (by decide) (fun c_65 => ?_) (fun c_65 => ?_)
      · skip
        have n_65 : ¬ 2 = 6 := n_ne (by omega) (by omega) c_65
        refine r_aload_n 0 dX6_tellsIn_93 rfl rfl rfl ?_
        refine r_iload_n 1 dX6_tellsIn_94 rfl rfl ?_
        refine r_callS_1 dX6_tellsIn_95 kX6_89 (M_above_2)  rfl rfl (Nat.le_of_ble_eq_true rfl) ?_
        refine r_iload_n 2 dX6_tellsIn_98 rfl rfl ?_
        refine r_callV_1 dX6_tellsIn_99 kX6_273 (M_tellsIn_0 hm hv hv7 hn hmm ht) (gRecv.of hm.s66 rfl) rfl rfl (Nat.le_of_ble_eq_true rfl) ?_
        refine e_iret dX6_tellsIn_102 rfl ?_
        exact ⟨rfl, rfl⟩
      · skip
        have n_65 : 2 = 6 := n_nen (by omega) (by omega) c_65
        exact absurd n_65 (by decide)
    · skip
      have n_34 : 2 = 4 := n_nen (by omega) (by omega) c_34
      exact absurd n_34 (by decide)
  · skip
    have n_1 : 2 = 0 := n_eq0 (by omega) c_1
    exact absurd n_1 (by decide)
theorem M_tellsIn_3 {d : Nat} {h : Hp} (hm : LayM (hS h) (hR h)) {r o : Row} {vk : Nat} (hv : o 26 = nI vk) (hv7 : vk < 7) {n : Int32} (hn : o 27 = n) {m : Int32} (hmm : o 28 = m) {t : TR} (ht : t.2 ≤ 40) {x : Int32} : gC (d + 8) (0) (0) m_X6_tellsIn [.ref 66, .int (nI 3), .int x] (VH h r o t) (Ret (some (.int (tellsV 3 vk n m (x) t).1)) (VH h r o (tellsV 3 vk n m (x) t).2)) := by
  refine gC.of (ls := [some (.ref 66), some (.int (nI 3)), some (.int x), none]) (by decide +kernel) rfl rfl rfl rfl (Nat.le_of_ble_eq_true rfl) ?_
  refine r_iload_n 1 dX6_tellsIn_0 rfl rfl ?_
  refine r_if_ne 32 dX6_tellsIn_1 (by decide) (fun c_1 => ?_) (fun c_1 => ?_)
  · skip
    have n_1 : ¬ 3 = 0 := n_ne0 (by omega) c_1
    refine r_iload_n 1 dX6_tellsIn_32 rfl rfl ?_
    refine r_iconst (v := nI 4) dX6_tellsIn_33 rfl ?_
    refine r_icmp_ne 62 dX6_tellsIn_34 (by decide) (fun c_34 => ?_) (fun c_34 => ?_)
    · skip
      have n_34 : ¬ 3 = 4 := n_ne (by omega) (by omega) c_34
      refine r_iload_n 1 dX6_tellsIn_62 rfl rfl ?_
      refine r_bipush (v := nI 6) dX6_tellsIn_63 (by decide +kernel) ?_
      refine r_icmp_ne 93 dX6_tellsIn_65 (by decide) (fun c_65 => ?_) (fun c_65 => ?_)
      · skip
        have n_65 : ¬ 3 = 6 := n_ne (by omega) (by omega) c_65
        refine r_aload_n 0 dX6_tellsIn_93 rfl rfl rfl ?_
        refine r_iload_n 1 dX6_tellsIn_94 rfl rfl ?_
        refine r_callS_1 dX6_tellsIn_95 kX6_89 (M_above_3)  rfl rfl (Nat.le_of_ble_eq_true rfl) ?_
        refine r_iload_n 2 dX6_tellsIn_98 rfl rfl ?_
        refine r_callV_1 dX6_tellsIn_99 kX6_273 (M_tellsIn_0 hm hv hv7 hn hmm ht) (gRecv.of hm.s66 rfl) rfl rfl (Nat.le_of_ble_eq_true rfl) ?_
        refine e_iret dX6_tellsIn_102 rfl ?_
        exact ⟨rfl, rfl⟩
      · skip
        have n_65 : 3 = 6 := n_nen (by omega) (by omega) c_65
        exact absurd n_65 (by decide)
    · skip
      have n_34 : 3 = 4 := n_nen (by omega) (by omega) c_34
      exact absurd n_34 (by decide)
  · skip
    have n_1 : 3 = 0 := n_eq0 (by omega) c_1
    exact absurd n_1 (by decide)
theorem M_tellsIn_4 {d : Nat} {h : Hp} (hm : LayM (hS h) (hR h)) {r o : Row} {vk : Nat} (hv : o 26 = nI vk) (hv7 : vk < 7) {n : Int32} (hn : o 27 = n) {m : Int32} (hmm : o 28 = m) {t : TR} (ht : t.2 ≤ 40) {x : Int32} : gC (d + 9) (0) (0) m_X6_tellsIn [.ref 66, .int (nI 4), .int x] (VH h r o t) (Ret (some (.int (tellsV 4 vk n m (x) t).1)) (VH h r o (tellsV 4 vk n m (x) t).2)) := by
  refine gC.of (ls := [some (.ref 66), some (.int (nI 4)), some (.int x), none]) (by decide +kernel) rfl rfl rfl rfl (Nat.le_of_ble_eq_true rfl) ?_
  refine r_iload_n 1 dX6_tellsIn_0 rfl rfl ?_
  refine r_if_ne 32 dX6_tellsIn_1 (by decide) (fun c_1 => ?_) (fun c_1 => ?_)
  · skip
    have n_1 : ¬ 4 = 0 := n_ne0 (by omega) c_1
    refine r_iload_n 1 dX6_tellsIn_32 rfl rfl ?_
    refine r_iconst (v := nI 4) dX6_tellsIn_33 rfl ?_
    refine r_icmp_ne 62 dX6_tellsIn_34 (by decide) (fun c_34 => ?_) (fun c_34 => ?_)
    · skip
      have n_34 : ¬ 4 = 4 := n_ne (by omega) (by omega) c_34
      exact absurd n_34 (by decide)
    · skip
      have n_34 : 4 = 4 := n_nen (by omega) (by omega) c_34
      refine r_aload_n 0 dX6_tellsIn_37 rfl rfl rfl ?_
      refine r_bipush (v := nI 50) dX6_tellsIn_38 (by decide +kernel) ?_
      refine r_callV_0 dX6_tellsIn_40 kX6_252 (M_ran hm ht) (gRecv.of hm.s66 rfl) rfl rfl (Nat.le_of_ble_eq_true rfl) ?_
      refine r_aload_n 0 dX6_tellsIn_43 rfl rfl rfl ?_
      refine r_iconst (v := nI 1) dX6_tellsIn_44 rfl ?_
      refine r_iload_n 2 dX6_tellsIn_45 rfl rfl ?_
      refine r_callV_1 dX6_tellsIn_46 kX6_273 (M_tellsIn_1 hm hv hv7 hn hmm (ranT_le ht)) (gRecv.of hm.s66 rfl) rfl rfl (Nat.le_of_ble_eq_true rfl) ?_
      refine r_istore_n 3 dX6_tellsIn_49 rfl (by decide) rfl ?_
      refine gG_ls (ls' := [_, _, _, _]) rfl ?_
      refine r_iload_n 3 dX6_tellsIn_50 rfl rfl ?_
      refine r_aload_n 0 dX6_tellsIn_51 rfl rfl rfl ?_
      refine r_aload_n 0 dX6_tellsIn_52 rfl rfl rfl ?_
      refine r_geti (k := 26) dX6_tellsIn_53 hm.s66 rfl (by decide) (Or.inl q1442) (Or.inl rfl) rfl ?_
      refine r_eqi (show _ = nI (vk) from hv) ?_
      refine r_iconst (v := nI 2) dX6_tellsIn_56 rfl ?_
      refine r_callV_1 dX6_tellsIn_57 kX6_258 (M_letsInG hm hv7 hn (tellsV_le (ranT_le ht))) (gRecv.of hm.s66 rfl) rfl rfl (Nat.le_of_ble_eq_true rfl) ?_
      refine r_isub dX6_tellsIn_60 ?_
      refine e_iret dX6_tellsIn_61 rfl ?_
      exact ⟨rfl, rfl⟩
  · skip
    have n_1 : 4 = 0 := n_eq0 (by omega) c_1
    exact absurd n_1 (by decide)
theorem M_tellsIn_5 {d : Nat} {h : Hp} (hm : LayM (hS h) (hR h)) {r o : Row} {vk : Nat} (hv : o 26 = nI vk) (hv7 : vk < 7) {n : Int32} (hn : o 27 = n) {m : Int32} (hmm : o 28 = m) {t : TR} (ht : t.2 ≤ 40) {x : Int32} : gC (d + 9) (0) (0) m_X6_tellsIn [.ref 66, .int (nI 5), .int x] (VH h r o t) (Ret (some (.int (tellsV 5 vk n m (x) t).1)) (VH h r o (tellsV 5 vk n m (x) t).2)) := by
  refine gC.of (ls := [some (.ref 66), some (.int (nI 5)), some (.int x), none]) (by decide +kernel) rfl rfl rfl rfl (Nat.le_of_ble_eq_true rfl) ?_
  refine r_iload_n 1 dX6_tellsIn_0 rfl rfl ?_
  refine r_if_ne 32 dX6_tellsIn_1 (by decide) (fun c_1 => ?_) (fun c_1 => ?_)
  · skip
    have n_1 : ¬ 5 = 0 := n_ne0 (by omega) c_1
    refine r_iload_n 1 dX6_tellsIn_32 rfl rfl ?_
    refine r_iconst (v := nI 4) dX6_tellsIn_33 rfl ?_
    refine r_icmp_ne 62 dX6_tellsIn_34 (by decide) (fun c_34 => ?_) (fun c_34 => ?_)
    · skip
      have n_34 : ¬ 5 = 4 := n_ne (by omega) (by omega) c_34
      refine r_iload_n 1 dX6_tellsIn_62 rfl rfl ?_
      refine r_bipush (v := nI 6) dX6_tellsIn_63 (by decide +kernel) ?_
      refine r_icmp_ne 93 dX6_tellsIn_65 (by decide) (fun c_65 => ?_) (fun c_65 => ?_)
      · skip
        have n_65 : ¬ 5 = 6 := n_ne (by omega) (by omega) c_65
        refine r_aload_n 0 dX6_tellsIn_93 rfl rfl rfl ?_
        refine r_iload_n 1 dX6_tellsIn_94 rfl rfl ?_
        refine r_callS_1 dX6_tellsIn_95 kX6_89 (M_above_5)  rfl rfl (Nat.le_of_ble_eq_true rfl) ?_
        refine r_iload_n 2 dX6_tellsIn_98 rfl rfl ?_
        refine r_callV_1 dX6_tellsIn_99 kX6_273 (M_tellsIn_2 hm hv hv7 hn hmm ht) (gRecv.of hm.s66 rfl) rfl rfl (Nat.le_of_ble_eq_true rfl) ?_
        refine e_iret dX6_tellsIn_102 rfl ?_
        exact ⟨rfl, rfl⟩
      · skip
        have n_65 : 5 = 6 := n_nen (by omega) (by omega) c_65
        exact absurd n_65 (by decide)
    · skip
      have n_34 : 5 = 4 := n_nen (by omega) (by omega) c_34
      exact absurd n_34 (by decide)
  · skip
    have n_1 : 5 = 0 := n_eq0 (by omega) c_1
    exact absurd n_1 (by decide)
theorem M_tellsIn_6 {d : Nat} {h : Hp} (hm : LayM (hS h) (hR h)) {r o : Row} {vk : Nat} (hv : o 26 = nI vk) (hv7 : vk < 7) {n : Int32} (hn : o 27 = n) {m : Int32} (hmm : o 28 = m) {t : TR} (ht : t.2 ≤ 40) {x : Int32} : gC (d + 9) (0) (0) m_X6_tellsIn [.ref 66, .int (nI 6), .int x] (VH h r o t) (Ret (some (.int (tellsV 6 vk n m (x) t).1)) (VH h r o (tellsV 6 vk n m (x) t).2)) := by
  refine gC.of (ls := [some (.ref 66), some (.int (nI 6)), some (.int x), none]) (by decide +kernel) rfl rfl rfl rfl (Nat.le_of_ble_eq_true rfl) ?_
  refine r_iload_n 1 dX6_tellsIn_0 rfl rfl ?_
  refine r_if_ne 32 dX6_tellsIn_1 (by decide) (fun c_1 => ?_) (fun c_1 => ?_)
  · skip
    have n_1 : ¬ 6 = 0 := n_ne0 (by omega) c_1
    refine r_iload_n 1 dX6_tellsIn_32 rfl rfl ?_
    refine r_iconst (v := nI 4) dX6_tellsIn_33 rfl ?_
    refine r_icmp_ne 62 dX6_tellsIn_34 (by decide) (fun c_34 => ?_) (fun c_34 => ?_)
    · skip
      have n_34 : ¬ 6 = 4 := n_ne (by omega) (by omega) c_34
      refine r_iload_n 1 dX6_tellsIn_62 rfl rfl ?_
      refine r_bipush (v := nI 6) dX6_tellsIn_63 (by decide +kernel) ?_
      refine r_icmp_ne 93 dX6_tellsIn_65 (by decide) (fun c_65 => ?_) (fun c_65 => ?_)
      · skip
        have n_65 : ¬ 6 = 6 := n_ne (by omega) (by omega) c_65
        exact absurd n_65 (by decide)
      · skip
        have n_65 : 6 = 6 := n_nen (by omega) (by omega) c_65
        refine r_aload_n 0 dX6_tellsIn_68 rfl rfl rfl ?_
        refine r_bipush (v := nI 71) dX6_tellsIn_69 (by decide +kernel) ?_
        refine r_callV_0 dX6_tellsIn_71 kX6_252 (M_ran hm ht) (gRecv.of hm.s66 rfl) rfl rfl (Nat.le_of_ble_eq_true rfl) ?_
        refine r_aload_n 0 dX6_tellsIn_74 rfl rfl rfl ?_
        refine r_aload_n 0 dX6_tellsIn_75 rfl rfl rfl ?_
        refine r_geti (k := 26) dX6_tellsIn_76 hm.s66 rfl (by decide) (Or.inl q1442) (Or.inl rfl) rfl ?_
        refine r_eqi (show _ = nI (vk) from hv) ?_
        refine r_iload_n 2 dX6_tellsIn_79 rfl rfl ?_
        refine r_callV_1 dX6_tellsIn_80 kX6_270 (M_fillsInG hm hv7 hv hv7 hn hmm (ranT_le ht)) (gRecv.of hm.s66 rfl) rfl rfl (Nat.le_of_ble_eq_true rfl) ?_
        refine r_istore_n 3 dX6_tellsIn_83 rfl (by decide) rfl ?_
        refine gG_ls (ls' := [_, _, _, _]) rfl ?_
        refine r_iload_n 3 dX6_tellsIn_84 rfl rfl ?_
        refine r_aload_n 0 dX6_tellsIn_85 rfl rfl rfl ?_
        refine r_iconst (v := nI 3) dX6_tellsIn_86 rfl ?_
        refine r_iload_n 2 dX6_tellsIn_87 rfl rfl ?_
        refine r_callV_1 dX6_tellsIn_88 kX6_273 (M_tellsIn_3 hm hv hv7 hn hmm (fillsV_le (ranT_le ht))) (gRecv.of hm.s66 rfl) rfl rfl (Nat.le_of_ble_eq_true rfl) ?_
        refine r_isub dX6_tellsIn_91 ?_
        refine e_iret dX6_tellsIn_92 rfl ?_
        exact ⟨rfl, rfl⟩
    · skip
      have n_34 : 6 = 4 := n_nen (by omega) (by omega) c_34
      exact absurd n_34 (by decide)
  · skip
    have n_1 : 6 = 0 := n_eq0 (by omega) c_1
    exact absurd n_1 (by decide)
theorem M_tellsInG {d : Nat} {h : Hp} (hm : LayM (hS h) (hR h)) {r o : Row} {q : Nat} (hq7 : q < 7) {vk : Nat} (hv : o 26 = nI vk) (hv7 : vk < 7) {n : Int32} (hn : o 27 = n) {m : Int32} (hmm : o 28 = m) {t : TR} (ht : t.2 ≤ 40) {x : Int32} : gC (d + 9) 0 0 m_X6_tellsIn [.ref 66, .int (nI q), .int x] (VH h r o t) (Ret (some (.int (tellsV q vk n m (x) t).1)) (VH h r o (tellsV q vk n m (x) t).2)) := by
  rcases (show q = 0 ∨ q = 1 ∨ q = 2 ∨ q = 3 ∨ q = 4 ∨ q = 5 ∨ q = 6 by omega) with rfl | rfl | rfl | rfl | rfl | rfl | rfl
  · exact M_tellsIn_0 hm hv hv7 hn hmm ht
  · exact M_tellsIn_1 hm hv hv7 hn hmm ht
  · exact M_tellsIn_2 hm hv hv7 hn hmm ht
  · exact M_tellsIn_3 hm hv hv7 hn hmm ht
  · exact M_tellsIn_4 hm hv hv7 hn hmm ht
  · exact M_tellsIn_5 hm hv hv7 hn hmm ht
  · exact M_tellsIn_6 hm hv hv7 hn hmm ht
theorem A_voice {d : Nat} {h : Hp} (hm : LayM (hS h) (hR h)) {r o : Row} (w : WF r) (ho : o 15 = -1) {p a x : Int32} : gC (d + 10) (0) (0) m_X6_voice [.ref 66, .int p, .int a, .int x] (MH h r o) (RA h (aVoice (mS h r o) p a x)) := by
  have e_0 : aVoice (mS h r o) p a x = (if inB p 0 (r 2 - 1) = true then (if inB a (nI 0) (nI 3) = true then vcR (mS h r o) (voiceV (toN a) (kindN r (toN p)) p (pv r (toN p) 1) x ((hI h 77), 0)) else errA (mS h r o) (-1000000001) 1) else errA (mS h r o) (-1000000001) 1) := rfl
  rw [e_0]
  have hn8 := w.n8
  refine gC.of (ls := [some (.ref 66), some (.int p), some (.int a), some (.int x)]) (by decide +kernel) rfl rfl rfl rfl (Nat.le_of_ble_eq_true rfl) ?_
  refine r_aload_n 0 dX6_voice_0 rfl rfl rfl ?_
  refine r_iload_n 1 dX6_voice_1 rfl rfl ?_
  refine r_callV_1 dX6_voice_2 kX6_62 (M_isOne hm) (gRecv.of hm.s66 rfl) rfl rfl (Nat.le_of_ble_eq_true rfl) ?_
  refine r_if_eq 17 dX6_voice_5 (by decide) (fun c_5 => ?_) (fun c_5 => ?_)
  · skip
    have n_5 : _ = false := b2_f c_5
    first | rw [ifT n_5] | rw [ifF n_5] | skip
    refine r_aload_n 0 dX6_voice_17 rfl rfl rfl ?_
    refine r_ldc (v := -1000000001) dX6_voice_18 q1511 ?_
    refine r_callV_1 dX6_voice_20 kX6_53 (M_errs hm (e := (-1000000001 : Int32)) 1 (by decide +kernel) (by decide)) (gRecv.of hm.s66 rfl) rfl rfl (Nat.le_of_ble_eq_true rfl) ?_
    refine e_iret dX6_voice_23 rfl ?_
    exact RA.mk (Jo.r) ho ((FrM.r).b (by decide)) (rfl) (rfl)
  · skip
    have n_5 : _ = true := b2_t c_5
    first | rw [ifT n_5] | rw [ifF n_5] | skip
    obtain ⟨k, h_k, rfl⟩ := one_of w n_5
    have hn8 := w.n8
    have e_k : toN (nI k) = k := toN_nI (by omega)
    try simp only [e_k]
    refine r_iload_n 2 dX6_voice_8 rfl rfl ?_
    refine r_iconst (v := nI 0) dX6_voice_9 rfl ?_
    refine r_iconst (v := nI 3) dX6_voice_10 rfl ?_
    refine r_callS_1 dX6_voice_11 kX6_48 (M_in)  rfl rfl (Nat.le_of_ble_eq_true rfl) ?_
    refine r_if_ne 24 dX6_voice_14 (by decide) (fun c_14 => ?_) (fun c_14 => ?_)
    · skip
      have n_14 : _ = true := b2_t c_14
      first | rw [ifT n_14] | rw [ifF n_14] | skip
      obtain ⟨c, h_c, rfl⟩ := inB_n (by decide) n_14
      have e_c : toN (nI c) = c := toN_nI (by omega)
      try simp only [e_c]
      obtain ⟨q, m9, hk, h7, -, -⟩ := w.K k (by omega)
      rw [kindN_of hk h7]
      refine r_aload_n 0 dX6_voice_24 rfl rfl rfl ?_
      refine r_iconst (v := nI 0) dX6_voice_25 rfl ?_
      refine r_puti (k := 25) dX6_voice_26 hm.s66 rfl (by decide) (Or.inl q1441) (Or.inl rfl) (Or.inl rfl) rfl rfl rfl ?_
      refine gG_h (MH_66 _ _ _ _ _) ?_
      refine r_aload_n 0 dX6_voice_29 rfl rfl rfl ?_
      refine r_aload_n 0 dX6_voice_30 rfl rfl rfl ?_
      refine r_iload_n 1 dX6_voice_31 rfl rfl ?_
      refine r_iconst (v := nI 0) dX6_voice_32 rfl ?_
      refine r_callV_1 dX6_voice_33 kX6_75 (M_its (p := k) (w := 0) hm (by omega)) (gRecv.of hm.s66 rfl) rfl rfl (Nat.le_of_ble_eq_true rfl) ?_
      refine r_eqi (show _ = nI (q) from hk) ?_
      refine r_puti (k := 26) dX6_voice_36 hm.s66 rfl (by decide) (Or.inl q1442) (Or.inl rfl) (Or.inl rfl) rfl rfl rfl ?_
      refine gG_h (MH_66 _ _ _ _ _) ?_
      refine r_aload_n 0 dX6_voice_39 rfl rfl rfl ?_
      refine r_iload_n 1 dX6_voice_40 rfl rfl ?_
      refine r_puti (k := 27) dX6_voice_41 hm.s66 rfl (by decide) (Or.inl q1443) (Or.inl rfl) (Or.inl rfl) rfl rfl rfl ?_
      refine gG_h (MH_66 _ _ _ _ _) ?_
      refine r_aload_n 0 dX6_voice_44 rfl rfl rfl ?_
      refine r_aload_n 0 dX6_voice_45 rfl rfl rfl ?_
      refine r_iload_n 1 dX6_voice_46 rfl rfl ?_
      refine r_iconst (v := nI 1) dX6_voice_47 rfl ?_
      refine r_callV_1 dX6_voice_48 kX6_75 (M_its (p := k) (w := 1) hm (by omega)) (gRecv.of hm.s66 rfl) rfl rfl (Nat.le_of_ble_eq_true rfl) ?_
      refine r_puti (k := 28) dX6_voice_51 hm.s66 rfl (by decide) (Or.inl q1444) (Or.inl rfl) (Or.inl rfl) rfl rfl rfl ?_
      refine gG_h (MH_66 _ _ _ _ _) ?_
      refine r_iload_n 2 dX6_voice_54 rfl rfl ?_
      refine gG_h (VH_of (h := h) (r := r) (o := (ru (ru (ru (ru o 25 (nI 0)) 26 (nI q)) 27 (nI k)) 28 (pv r k 1))) (n := 0) rfl) ?_
      rcases (show c = 0 ∨ c = 1 ∨ c = 2 ∨ c = 3 by omega) with rfl | rfl | rfl | rfl
      · skip
        refine r_tabIn 80 (off := 25) dX6_voice_55 (by decide) (by decide) (by decide +kernel) (by decide) ?_
        refine r_aload_n 0 dX6_voice_80 rfl rfl rfl ?_
        refine r_aload_n 0 dX6_voice_81 rfl rfl rfl ?_
        refine r_geti (k := 26) dX6_voice_82 hm.s66 rfl (by decide) (Or.inl q1442) (Or.inl rfl) rfl ?_
        refine r_eqi (show _ = nI (q) from rfl) ?_
        refine r_iload_n 3 dX6_voice_85 rfl rfl ?_
        refine r_callV_1 dX6_voice_86 kX6_258 (M_letsInG (by exact hm) (q := q) h7 (n := nI k) rfl (t := (hI h 77, 0)) (by show 0 ≤ 40; omega)) (gRecv.of hm.s66 rfl) rfl rfl (Nat.le_of_ble_eq_true rfl) ?_
        refine e_iret dX6_voice_89 rfl ?_
        exact RA.mk' ho ((FrM.r).b (by decide)) rfl rfl
      · skip
        refine r_tabIn 90 (off := 35) dX6_voice_55 (by decide) (by decide) (by decide +kernel) (by decide) ?_
        refine r_aload_n 0 dX6_voice_90 rfl rfl rfl ?_
        refine r_aload_n 0 dX6_voice_91 rfl rfl rfl ?_
        refine r_geti (k := 26) dX6_voice_92 hm.s66 rfl (by decide) (Or.inl q1442) (Or.inl rfl) rfl ?_
        refine r_eqi (show _ = nI (q) from rfl) ?_
        refine r_iload_n 3 dX6_voice_95 rfl rfl ?_
        refine r_callV_1 dX6_voice_96 kX6_270 (M_fillsInG (by exact hm) (q := q) h7 (vk := q) rfl h7 (n := nI k) rfl (m := pv r k 1) rfl (t := (hI h 77, 0)) (by show 0 ≤ 40; omega)) (gRecv.of hm.s66 rfl) rfl rfl (Nat.le_of_ble_eq_true rfl) ?_
        refine e_iret dX6_voice_99 rfl ?_
        exact RA.mk' ho ((FrM.r).b (by decide)) rfl rfl
      · skip
        refine r_tabIn 100 (off := 45) dX6_voice_55 (by decide) (by decide) (by decide +kernel) (by decide) ?_
        refine r_aload_n 0 dX6_voice_100 rfl rfl rfl ?_
        refine r_aload_n 0 dX6_voice_101 rfl rfl rfl ?_
        refine r_geti (k := 26) dX6_voice_102 hm.s66 rfl (by decide) (Or.inl q1442) (Or.inl rfl) rfl ?_
        refine r_eqi (show _ = nI (q) from rfl) ?_
        refine r_iload_n 3 dX6_voice_105 rfl rfl ?_
        refine r_callV_1 dX6_voice_106 kX6_264 (M_lendsInG (by exact hm) (q := q) h7 (n := nI k) rfl (m := pv r k 1) rfl (t := (hI h 77, 0)) (by show 0 ≤ 40; omega)) (gRecv.of hm.s66 rfl) rfl rfl (Nat.le_of_ble_eq_true rfl) ?_
        refine e_iret dX6_voice_109 rfl ?_
        exact RA.mk' ho ((FrM.r).b (by decide)) rfl rfl
      · skip
        refine r_tabOut 110 dX6_voice_55 (by decide) (by decide) ?_
        refine r_aload_n 0 dX6_voice_110 rfl rfl rfl ?_
        refine r_aload_n 0 dX6_voice_111 rfl rfl rfl ?_
        refine r_geti (k := 26) dX6_voice_112 hm.s66 rfl (by decide) (Or.inl q1442) (Or.inl rfl) rfl ?_
        refine r_eqi (show _ = nI (q) from rfl) ?_
        refine r_iload_n 3 dX6_voice_115 rfl rfl ?_
        refine r_callV_1 dX6_voice_116 kX6_273 (M_tellsInG (by exact hm) (q := q) h7 (vk := q) rfl h7 (n := nI k) rfl (m := pv r k 1) rfl (t := (hI h 77, 0)) (by show 0 ≤ 40; omega)) (gRecv.of hm.s66 rfl) rfl rfl (Nat.le_of_ble_eq_true rfl) ?_
        refine e_iret dX6_voice_119 rfl ?_
        exact RA.mk' ho ((FrM.r).b (by decide)) rfl rfl
    · skip
      have n_14 : _ = false := b2_f c_14
      first | rw [ifT n_14] | rw [ifF n_14] | skip
      refine r_aload_n 0 dX6_voice_17 rfl rfl rfl ?_
      refine r_ldc (v := -1000000001) dX6_voice_18 q1511 ?_
      refine r_callV_1 dX6_voice_20 kX6_53 (M_errs hm (e := (-1000000001 : Int32)) 1 (by decide +kernel) (by decide)) (gRecv.of hm.s66 rfl) rfl rfl (Nat.le_of_ble_eq_true rfl) ?_
      refine e_iret dX6_voice_23 rfl ?_
      exact RA.mk (Jo.r) ho ((FrM.r).b (by decide)) (rfl) (rfl)
