theorem M_person_L {d : Nat} {h : Hp} (hm : LayM (hS h) (hR h)) {r0 : Row} {o : Row} {p : Nat} (hp : p < 8) {k1 k2 : Option Value} {Q : gQ} : ∀ (k i : Nat), i ≤ 8 → 9 ≤ i + k → gG (d + 1) (0) (0) m_X6_person 141 [some (.ref 66), k1, k2, some (.int (nI p)), some (.int (nI 8))] [] (MH h (zeroD r0 p 8) o) (Q) → gG (d + 1) (0) (0) m_X6_person 96 [some (.ref 66), k1, k2, some (.int (nI p)), some (.int (nI i))] [] (MH h (zeroD r0 p i) o) (Q) := by
  intro k
  induction k with
  | zero => exact fun i h1 h2 => absurd h2 (by omega)
  | succ k ih =>
  intro i hi hk kk
  refine r_iload dX6_person_96 rfl ?_
  refine r_bipush (v := nI 8) dX6_person_98 (by decide +kernel) ?_
  refine r_icmp_ge 141 dX6_person_100 (by decide) (fun c_100 => ?_) (fun c_100 => ?_)
  · skip
    have n_100 : 8 ≤ i := n_ge (by omega) (by omega) c_100
    have h8 : i = 8 := by omega
    subst h8
    exact kk
  · skip
    have n_100 : i < 8 := n_gen (by omega) (by omega) c_100
    refine r_aload_n 0 dX6_person_103 rfl rfl rfl ?_
    refine r_getr (k := 0) (b := 67) dX6_person_104 hm.s66 rfl (by decide) (Or.inl q1416) (Or.inl rfl) rfl hm.r_row ?_
    refine r_bipush (v := nI 47) dX6_person_107 (by decide +kernel) ?_
    refine r_bipush (v := nI 8) dX6_person_109 (by decide +kernel) ?_
    refine r_iload_n 3 dX6_person_111 rfl rfl ?_
    refine r_imul dX6_person_112 ?_
    refine r_iadd dX6_person_113 ?_
    refine r_eqi (show _ = nI (47 + (8 * p)) from by simp only [pk_mul, nI_add]) ?_
    refine r_iload dX6_person_114 rfl ?_
    refine r_iadd dX6_person_116 ?_
    refine r_eqi (show _ = nI ((47 + (8 * p)) + i) from by simp only [pk_mul, nI_add]) ?_
    refine r_iconst (v := nI 0) dX6_person_117 rfl ?_
    refine r_iastN (((47 + (8 * p)) + i)) dX6_person_118 hm.s67 rfl (by omega) (by decide) ?_
    refine gG_h (MH_67 _ _ _ _ _) ?_
    refine r_aload_n 0 dX6_person_119 rfl rfl rfl ?_
    refine r_getr (k := 0) (b := 67) dX6_person_120 hm.s66 rfl (by decide) (Or.inl q1416) (Or.inl rfl) rfl hm.r_row ?_
    refine r_bipush (v := nI 47) dX6_person_123 (by decide +kernel) ?_
    refine r_bipush (v := nI 8) dX6_person_125 (by decide +kernel) ?_
    refine r_iload dX6_person_127 rfl ?_
    refine r_imul dX6_person_129 ?_
    refine r_iadd dX6_person_130 ?_
    refine r_eqi (show _ = nI (47 + (8 * i)) from by simp only [pk_mul, nI_add]) ?_
    refine r_iload_n 3 dX6_person_131 rfl rfl ?_
    refine r_iadd dX6_person_132 ?_
    refine r_eqi (show _ = nI ((47 + (8 * i)) + p) from by simp only [pk_mul, nI_add]) ?_
    refine r_iconst (v := nI 0) dX6_person_133 rfl ?_
    refine r_iastN (((47 + (8 * i)) + p)) dX6_person_134 hm.s67 rfl (by omega) (by decide) ?_
    refine gG_h (MH_67 _ _ _ _ _) ?_
    refine r_iinc dX6_person_135 rfl (by decide) rfl ?_
    refine gG_ls (ls' := [_, _, _, _, some (.int (nI ((i + 1))))]) (by rw [show (Int32.ofInt 1) = nI 1 from rfl, nI_add]; rfl) ?_
    refine r_goto 96 dX6_person_138 (by decide) ?_
    exact ih (i + 1) (by omega) (by omega) kk
theorem A_person {d : Nat} {h : Hp} (hm : LayM (hS h) (hR h)) {r o : Row} (w : WF r) (ho : o 15 = -1) {km tr : Int32} : gC (d + 1) (0) (0) m_X6_person [.ref 66, .int km, .int tr] (MH h r o) (RA h (aPerson (mS h r o) km tr)) := by
  have e_0 : aPerson (mS h r o) km tr = (if inB km (nI 0) (nI 69) = true then (if inB tr (nI 0) (nI 15) = true then (if np r = 8 then errA (mS h r o) (-1000000004) 4 else (nI (np r), (mS h r o).s_r (newP r km tr))) else errA (mS h r o) (-1000000001) 1) else errA (mS h r o) (-1000000001) 1) := rfl
  rw [e_0]
  have hn8 := w.n8
  refine gC.of (ls := [some (.ref 66), some (.int km), some (.int tr), none, none]) (by decide +kernel) rfl rfl rfl rfl (Nat.le_of_ble_eq_true rfl) ?_
  refine r_iload_n 1 dX6_person_0 rfl rfl ?_
  refine r_iconst (v := nI 0) dX6_person_1 rfl ?_
  refine r_bipush (v := nI 69) dX6_person_2 (by decide +kernel) ?_
  refine r_callS_1 dX6_person_4 kX6_48 (M_in)  rfl rfl (Nat.le_of_ble_eq_true rfl) ?_
  refine r_if_eq 20 dX6_person_7 (by decide) (fun c_7 => ?_) (fun c_7 => ?_)
  · skip
    have n_7 : _ = false := b2_f c_7
    first | rw [ifT n_7] | rw [ifF n_7] | skip
    refine r_aload_n 0 dX6_person_20 rfl rfl rfl ?_
    refine r_ldc (v := -1000000001) dX6_person_21 q1511 ?_
    refine r_callV_1 dX6_person_23 kX6_53 (M_errs hm (e := (-1000000001 : Int32)) 1 (by decide +kernel) (by decide)) (gRecv.of hm.s66 rfl) rfl rfl (Nat.le_of_ble_eq_true rfl) ?_
    refine e_iret dX6_person_26 rfl ?_
    exact RA.mk (Jo.r) ho ((FrM.r).b (by decide)) (rfl) (rfl)
  · skip
    have n_7 : _ = true := b2_t c_7
    first | rw [ifT n_7] | rw [ifF n_7] | skip
    refine r_iload_n 2 dX6_person_10 rfl rfl ?_
    refine r_iconst (v := nI 0) dX6_person_11 rfl ?_
    refine r_bipush (v := nI 15) dX6_person_12 (by decide +kernel) ?_
    refine r_callS_1 dX6_person_14 kX6_48 (M_in)  rfl rfl (Nat.le_of_ble_eq_true rfl) ?_
    refine r_if_ne 27 dX6_person_17 (by decide) (fun c_17 => ?_) (fun c_17 => ?_)
    · skip
      have n_17 : _ = true := b2_t c_17
      first | rw [ifT n_17] | rw [ifF n_17] | skip
      refine r_aload_n 0 dX6_person_27 rfl rfl rfl ?_
      refine r_getr (k := 0) (b := 67) dX6_person_28 hm.s66 rfl (by decide) (Or.inl q1416) (Or.inl rfl) rfl hm.r_row ?_
      refine r_iconst (v := nI 2) dX6_person_31 rfl ?_
      refine r_ialdN (2) dX6_person_32 hm.s67 rfl (by omega) (by decide) ?_
      refine r_eqi (show _ = nI (np r) from w.n) ?_
      refine r_bipush (v := nI 8) dX6_person_33 (by decide +kernel) ?_
      refine r_icmp_ne 45 dX6_person_35 (by decide) (fun c_35 => ?_) (fun c_35 => ?_)
      · skip
        have n_35 : ¬ np r = 8 := n_ne (by omega) (by omega) c_35
        first | rw [iP n_35] | rw [iN n_35] | rw [iN (Nat.not_lt.mpr n_35)] | skip
        have hlt : np r < 8 := by omega
        refine r_aload_n 0 dX6_person_45 rfl rfl rfl ?_
        refine r_getr (k := 0) (b := 67) dX6_person_46 hm.s66 rfl (by decide) (Or.inl q1416) (Or.inl rfl) rfl hm.r_row ?_
        refine r_iconst (v := nI 2) dX6_person_49 rfl ?_
        refine r_ialdN (2) dX6_person_50 hm.s67 rfl (by omega) (by decide) ?_
        refine r_eqi (show _ = nI (np r) from w.n) ?_
        refine r_istore_n 3 dX6_person_51 rfl (by decide) rfl ?_
        refine gG_ls (ls' := [_, _, _, _, _]) rfl ?_
        refine r_aload_n 0 dX6_person_52 rfl rfl rfl ?_
        refine r_iload_n 3 dX6_person_53 rfl rfl ?_
        refine r_iconst (v := nI 0) dX6_person_54 rfl ?_
        refine r_iload_n 1 dX6_person_55 rfl rfl ?_
        refine r_bipush (v := nI 10) dX6_person_56 (by decide +kernel) ?_
        refine r_idiv dX6_person_58 (by decide) ?_
        refine r_callV_0 dX6_person_59 kX6_58 (M_gets (p := np r) (w := 0) hm (by omega)) (gRecv.of hm.s66 rfl) rfl rfl (Nat.le_of_ble_eq_true rfl) ?_
        refine r_aload_n 0 dX6_person_62 rfl rfl rfl ?_
        refine r_iload_n 3 dX6_person_63 rfl rfl ?_
        refine r_iconst (v := nI 1) dX6_person_64 rfl ?_
        refine r_iload_n 1 dX6_person_65 rfl rfl ?_
        refine r_bipush (v := nI 10) dX6_person_66 (by decide +kernel) ?_
        refine r_irem dX6_person_68 (by decide) ?_
        refine r_callV_0 dX6_person_69 kX6_58 (M_gets (p := np r) (w := 1) hm (by omega)) (gRecv.of hm.s66 rfl) rfl rfl (Nat.le_of_ble_eq_true rfl) ?_
        refine r_aload_n 0 dX6_person_72 rfl rfl rfl ?_
        refine r_iload_n 3 dX6_person_73 rfl rfl ?_
        refine r_iconst (v := nI 2) dX6_person_74 rfl ?_
        refine r_iload_n 2 dX6_person_75 rfl rfl ?_
        refine r_callV_0 dX6_person_76 kX6_58 (M_gets (p := np r) (w := 2) hm (by omega)) (gRecv.of hm.s66 rfl) rfl rfl (Nat.le_of_ble_eq_true rfl) ?_
        refine r_aload_n 0 dX6_person_79 rfl rfl rfl ?_
        refine r_iload_n 3 dX6_person_80 rfl rfl ?_
        refine r_iconst (v := nI 3) dX6_person_81 rfl ?_
        refine r_iconst (v := nI 0) dX6_person_82 rfl ?_
        refine r_callV_0 dX6_person_83 kX6_58 (M_gets (p := np r) (w := 3) hm (by omega)) (gRecv.of hm.s66 rfl) rfl rfl (Nat.le_of_ble_eq_true rfl) ?_
        refine r_aload_n 0 dX6_person_86 rfl rfl rfl ?_
        refine r_iload_n 3 dX6_person_87 rfl rfl ?_
        refine r_iconst (v := nI 4) dX6_person_88 rfl ?_
        refine r_iconst (v := nI 0) dX6_person_89 rfl ?_
        refine r_callV_0 dX6_person_90 kX6_58 (M_gets (p := np r) (w := 4) hm (by omega)) (gRecv.of hm.s66 rfl) rfl rfl (Nat.le_of_ble_eq_true rfl) ?_
        refine r_iconst (v := nI 0) dX6_person_93 rfl ?_
        refine r_istore dX6_person_94 (by decide) rfl ?_
        refine gG_ls (ls' := [_, _, _, _, _]) rfl ?_
        refine M_person_L hm hlt 9 0 (by omega) (by omega) ?_
        refine r_aload_n 0 dX6_person_141 rfl rfl rfl ?_
        refine r_getr (k := 0) (b := 67) dX6_person_142 hm.s66 rfl (by decide) (Or.inl q1416) (Or.inl rfl) rfl hm.r_row ?_
        refine r_iconst (v := nI 2) dX6_person_145 rfl ?_
        refine r_dup2 dX6_person_146 rfl rfl ?_
        refine r_ialdN (2) dX6_person_147 hm.s67 rfl (by omega) (by decide) ?_
        refine r_eqi (show _ = nI (np r) from (show zeroD _ _ 8 2 = nI (np r) from by rw [zeroD_n hlt (by omega) 8 (by omega)]; unfold spv; rw [ru_n (by omega), ru_n (by omega), ru_n (by omega), ru_n (by omega), ru_n (by omega)]; exact w.n)) ?_
        refine r_iconst (v := nI 1) dX6_person_148 rfl ?_
        refine r_iadd dX6_person_149 ?_
        refine r_eqi (show _ = nI (np r + 1) from by simp only [pk_mul, nI_add]) ?_
        refine r_iastN (2) dX6_person_150 hm.s67 rfl (by omega) (by decide) ?_
        refine gG_h (MH_67 _ _ _ _ _) ?_
        refine r_iload_n 3 dX6_person_151 rfl rfl ?_
        refine e_iret dX6_person_152 rfl ?_
        exact RA.mk (Jo.r) ho (FrM.r) (rfl) (rfl)
      · skip
        have n_35 : np r = 8 := n_nen (by omega) (by omega) c_35
        first | rw [iP n_35] | rw [iN n_35] | rw [iN (Nat.not_lt.mpr n_35)] | skip
        refine r_aload_n 0 dX6_person_38 rfl rfl rfl ?_
        refine r_ldc (v := -1000000004) dX6_person_39 q1517 ?_
        refine r_callV_1 dX6_person_41 kX6_53 (M_errs hm (e := (-1000000004 : Int32)) 4 (by decide +kernel) (by decide)) (gRecv.of hm.s66 rfl) rfl rfl (Nat.le_of_ble_eq_true rfl) ?_
        refine e_iret dX6_person_44 rfl ?_
        exact RA.mk (Jo.r) ho ((FrM.r).b (by decide)) (rfl) (rfl)
    · skip
      have n_17 : _ = false := b2_f c_17
      first | rw [ifT n_17] | rw [ifF n_17] | skip
      refine r_aload_n 0 dX6_person_20 rfl rfl rfl ?_
      refine r_ldc (v := -1000000001) dX6_person_21 q1511 ?_
      refine r_callV_1 dX6_person_23 kX6_53 (M_errs hm (e := (-1000000001 : Int32)) 1 (by decide +kernel) (by decide)) (gRecv.of hm.s66 rfl) rfl rfl (Nat.le_of_ble_eq_true rfl) ?_
      refine e_iret dX6_person_26 rfl ?_
      exact RA.mk (Jo.r) ho ((FrM.r).b (by decide)) (rfl) (rfl)
theorem A_ofPerson {d : Nat} {h : Hp} (hm : LayM (hS h) (hR h)) {r o : Row} (w : WF r) (ho : o 15 = -1) {p v : Int32} : gC (d + 420) (0) (0) m_X6_ofPerson [.ref 66, .int p, .int v] (MH h r o) (RA h (aOfPerson (mS h r o) p v)) := by
  have e_0 : aOfPerson (mS h r o) p v = (if inB p 0 (r 2 - 1) = true then (if inB v (nI 0) (nI 7) = true then (ofV r (toN p) (toN v), (mS h r o)) else errA (mS h r o) (-1000000001) 1) else errA (mS h r o) (-1000000001) 1) := rfl
  rw [e_0]
  have hn8 := w.n8
  refine gC.of (ls := [some (.ref 66), some (.int p), some (.int v)]) (by decide +kernel) rfl rfl rfl rfl (Nat.le_of_ble_eq_true rfl) ?_
  refine r_aload_n 0 dX6_ofPerson_0 rfl rfl rfl ?_
  refine r_iload_n 1 dX6_ofPerson_1 rfl rfl ?_
  refine r_callV_1 dX6_ofPerson_2 kX6_62 (M_isOne hm) (gRecv.of hm.s66 rfl) rfl rfl (Nat.le_of_ble_eq_true rfl) ?_
  refine r_if_eq 18 dX6_ofPerson_5 (by decide) (fun c_5 => ?_) (fun c_5 => ?_)
  · skip
    have n_5 : _ = false := b2_f c_5
    first | rw [ifT n_5] | rw [ifF n_5] | skip
    refine r_aload_n 0 dX6_ofPerson_18 rfl rfl rfl ?_
    refine r_ldc (v := -1000000001) dX6_ofPerson_19 q1511 ?_
    refine r_callV_1 dX6_ofPerson_21 kX6_53 (M_errs hm (e := (-1000000001 : Int32)) 1 (by decide +kernel) (by decide)) (gRecv.of hm.s66 rfl) rfl rfl (Nat.le_of_ble_eq_true rfl) ?_
    refine e_iret dX6_ofPerson_24 rfl ?_
    exact RA.mk (Jo.r) ho ((FrM.r).b (by decide)) (rfl) (rfl)
  · skip
    have n_5 : _ = true := b2_t c_5
    first | rw [ifT n_5] | rw [ifF n_5] | skip
    obtain ⟨k, h_k, rfl⟩ := one_of w n_5
    have hn8 := w.n8
    have e_k : toN (nI k) = k := toN_nI (by omega)
    try simp only [e_k]
    refine r_iload_n 2 dX6_ofPerson_8 rfl rfl ?_
    refine r_iconst (v := nI 0) dX6_ofPerson_9 rfl ?_
    refine r_bipush (v := nI 7) dX6_ofPerson_10 (by decide +kernel) ?_
    refine r_callS_1 dX6_ofPerson_12 kX6_48 (M_in)  rfl rfl (Nat.le_of_ble_eq_true rfl) ?_
    refine r_if_ne 25 dX6_ofPerson_15 (by decide) (fun c_15 => ?_) (fun c_15 => ?_)
    · skip
      have n_15 : _ = true := b2_t c_15
      first | rw [ifT n_15] | rw [ifF n_15] | skip
      obtain ⟨c, h_c, rfl⟩ := inB_n (by decide) n_15
      have e_c : toN (nI c) = c := toN_nI (by omega)
      try simp only [e_c]
      obtain ⟨q, m9, hk, h7, -, -⟩ := w.K k (by omega)
      refine r_iload_n 2 dX6_ofPerson_25 rfl rfl ?_
      rcases (show c = 0 ∨ c = 1 ∨ c = 2 ∨ c = 3 ∨ c = 4 ∨ c = 5 ∨ c = 6 ∨ c = 7 by omega) with rfl | rfl | rfl | rfl | rfl | rfl | rfl | rfl
      · skip
        refine r_tabOut 78 dX6_ofPerson_26 (by decide) (by decide) ?_
        refine r_aload_n 0 dX6_ofPerson_78 rfl rfl rfl ?_
        refine r_iload_n 1 dX6_ofPerson_79 rfl rfl ?_
        refine r_iload_n 2 dX6_ofPerson_80 rfl rfl ?_
        refine r_callV_1 dX6_ofPerson_81 kX6_75 (M_its (p := k) (w := 0) hm (by omega)) (gRecv.of hm.s66 rfl) rfl rfl (Nat.le_of_ble_eq_true rfl) ?_
        refine e_iret dX6_ofPerson_84 rfl ?_
        exact RA.mk (Jo.r) ho (FrM.r) rfl (rfl)
      · skip
        refine r_tabOut 78 dX6_ofPerson_26 (by decide) (by decide) ?_
        refine r_aload_n 0 dX6_ofPerson_78 rfl rfl rfl ?_
        refine r_iload_n 1 dX6_ofPerson_79 rfl rfl ?_
        refine r_iload_n 2 dX6_ofPerson_80 rfl rfl ?_
        refine r_callV_1 dX6_ofPerson_81 kX6_75 (M_its (p := k) (w := 1) hm (by omega)) (gRecv.of hm.s66 rfl) rfl rfl (Nat.le_of_ble_eq_true rfl) ?_
        refine e_iret dX6_ofPerson_84 rfl ?_
        exact RA.mk (Jo.r) ho (FrM.r) rfl (rfl)
      · skip
        refine r_tabOut 78 dX6_ofPerson_26 (by decide) (by decide) ?_
        refine r_aload_n 0 dX6_ofPerson_78 rfl rfl rfl ?_
        refine r_iload_n 1 dX6_ofPerson_79 rfl rfl ?_
        refine r_iload_n 2 dX6_ofPerson_80 rfl rfl ?_
        refine r_callV_1 dX6_ofPerson_81 kX6_75 (M_its (p := k) (w := 2) hm (by omega)) (gRecv.of hm.s66 rfl) rfl rfl (Nat.le_of_ble_eq_true rfl) ?_
        refine e_iret dX6_ofPerson_84 rfl ?_
        exact RA.mk (Jo.r) ho (FrM.r) rfl (rfl)
      · skip
        refine r_tabOut 78 dX6_ofPerson_26 (by decide) (by decide) ?_
        refine r_aload_n 0 dX6_ofPerson_78 rfl rfl rfl ?_
        refine r_iload_n 1 dX6_ofPerson_79 rfl rfl ?_
        refine r_iload_n 2 dX6_ofPerson_80 rfl rfl ?_
        refine r_callV_1 dX6_ofPerson_81 kX6_75 (M_its (p := k) (w := 3) hm (by omega)) (gRecv.of hm.s66 rfl) rfl rfl (Nat.le_of_ble_eq_true rfl) ?_
        refine e_iret dX6_ofPerson_84 rfl ?_
        exact RA.mk (Jo.r) ho (FrM.r) rfl (rfl)
      · skip
        refine r_tabOut 78 dX6_ofPerson_26 (by decide) (by decide) ?_
        refine r_aload_n 0 dX6_ofPerson_78 rfl rfl rfl ?_
        refine r_iload_n 1 dX6_ofPerson_79 rfl rfl ?_
        refine r_iload_n 2 dX6_ofPerson_80 rfl rfl ?_
        refine r_callV_1 dX6_ofPerson_81 kX6_75 (M_its (p := k) (w := 4) hm (by omega)) (gRecv.of hm.s66 rfl) rfl rfl (Nat.le_of_ble_eq_true rfl) ?_
        refine e_iret dX6_ofPerson_84 rfl ?_
        exact RA.mk (Jo.r) ho (FrM.r) rfl (rfl)
      · skip
        refine r_tabIn 52 (off := 26) dX6_ofPerson_26 (by decide) (by decide) (by decide +kernel) (by decide) ?_
        refine r_aload_n 0 dX6_ofPerson_52 rfl rfl rfl ?_
        refine r_iload_n 1 dX6_ofPerson_53 rfl rfl ?_
        refine r_callV_1 dX6_ofPerson_54 kX6_66 (M_fills (p := k) hm (by omega) hk h7) (gRecv.of hm.s66 rfl) rfl rfl (Nat.le_of_ble_eq_true rfl) ?_
        refine e_iret dX6_ofPerson_57 rfl ?_
        exact RA.mk (Jo.r) ho (FrM.r) rfl (by show fillV q _ = fillV (kindN r k) _; rw [kindN_of hk h7])
      · skip
        refine r_tabIn 58 (off := 32) dX6_ofPerson_26 (by decide) (by decide) (by decide +kernel) (by decide) ?_
        refine r_aload_n 0 dX6_ofPerson_58 rfl rfl rfl ?_
        refine r_iload_n 1 dX6_ofPerson_59 rfl rfl ?_
        refine r_callV_1 dX6_ofPerson_60 kX6_69 (M_drinks (p := k) hm (by omega) hk h7) (gRecv.of hm.s66 rfl) rfl rfl (Nat.le_of_ble_eq_true rfl) ?_
        refine e_iret dX6_ofPerson_63 rfl ?_
        exact RA.mk (Jo.r) ho (FrM.r) rfl (by show drinkV q = drinkV (kindN r k); rw [kindN_of hk h7])
      · skip
        refine r_tabIn 64 (off := 38) dX6_ofPerson_26 (by decide) (by decide) (by decide +kernel) (by decide) ?_
        refine r_aload_n 0 dX6_ofPerson_64 rfl rfl rfl ?_
        refine r_iload_n 1 dX6_ofPerson_65 rfl rfl ?_
        refine r_callV_1m dX6_ofPerson_66 kX6_72 (M_isGiven (p := k) hm w.T (by omega)) (gRecv.of hm.s66 rfl) rfl rfl (Nat.le_of_ble_eq_true rfl) (fun o_1 j_1 => ?_)
        refine r_if_eq 76 dX6_ofPerson_69 (by decide) (fun c_69 => ?_) (fun c_69 => ?_)
        · skip
          have n_69 : (givenB r k) = false := b2_f c_69
          refine r_iconst (v := nI 0) dX6_ofPerson_76 rfl ?_
          refine e_iret dX6_ofPerson_77 rfl ?_
          exact RA.mk ((Jo.r).t j_1) ho (FrM.r) rfl (by show _ = b2 (givenB r k); rw [n_69]; rfl)
        · skip
          have n_69 : (givenB r k) = true := b2_t c_69
          refine r_iconst (v := nI 1) dX6_ofPerson_72 rfl ?_
          refine r_goto 77 dX6_ofPerson_73 (by decide) ?_
          refine e_iret dX6_ofPerson_77 rfl ?_
          exact RA.mk ((Jo.r).t j_1) ho (FrM.r) rfl (by show _ = b2 (givenB r k); rw [n_69]; rfl)
    · skip
      have n_15 : _ = false := b2_f c_15
      first | rw [ifT n_15] | rw [ifF n_15] | skip
      refine r_aload_n 0 dX6_ofPerson_18 rfl rfl rfl ?_
      refine r_ldc (v := -1000000001) dX6_ofPerson_19 q1511 ?_
      refine r_callV_1 dX6_ofPerson_21 kX6_53 (M_errs hm (e := (-1000000001 : Int32)) 1 (by decide +kernel) (by decide)) (gRecv.of hm.s66 rfl) rfl rfl (Nat.le_of_ble_eq_true rfl) ?_
      refine e_iret dX6_ofPerson_24 rfl ?_
      exact RA.mk (Jo.r) ho ((FrM.r).b (by decide)) (rfl) (rfl)
theorem M_areTwo {d : Nat} {h : Hp} {r o : Row} (hm : LayM (hS h) (hR h)) {a b : Int32} : gC (d + 2) (0) (0) m_X6_areTwo [.ref 66, .int a, .int b] (MH h r o) (Ret (some (.int (b2 (twoB r a b)))) (MH h r o)) := by
  refine gC.of (ls := [some (.ref 66), some (.int a), some (.int b)]) (by decide +kernel) rfl rfl rfl rfl (Nat.le_of_ble_eq_true rfl) ?_
  refine r_aload_n 0 dX6_areTwo_0 rfl rfl rfl ?_
  refine r_iload_n 1 dX6_areTwo_1 rfl rfl ?_
  refine r_callV_1 dX6_areTwo_2 kX6_62 (M_isOne hm) (gRecv.of hm.s66 rfl) rfl rfl (Nat.le_of_ble_eq_true rfl) ?_
  refine r_if_eq 25 dX6_areTwo_5 (by decide) (fun c_5 => ?_) (fun c_5 => ?_)
  · skip
    have n_5 : _ = false := b2_f c_5
    refine r_iconst (v := nI 0) dX6_areTwo_25 rfl ?_
    refine e_zret dX6_areTwo_26 rfl (by decide) ?_
    exact ⟨by rw [areTwo_f1 n_5]; rfl, rfl⟩
  · skip
    have n_5 : _ = true := b2_t c_5
    refine r_aload_n 0 dX6_areTwo_8 rfl rfl rfl ?_
    refine r_iload_n 2 dX6_areTwo_9 rfl rfl ?_
    refine r_callV_1 dX6_areTwo_10 kX6_62 (M_isOne hm) (gRecv.of hm.s66 rfl) rfl rfl (Nat.le_of_ble_eq_true rfl) ?_
    refine r_if_eq 25 dX6_areTwo_13 (by decide) (fun c_13 => ?_) (fun c_13 => ?_)
    · skip
      have n_13 : _ = false := b2_f c_13
      refine r_iconst (v := nI 0) dX6_areTwo_25 rfl ?_
      refine e_zret dX6_areTwo_26 rfl (by decide) ?_
      exact ⟨by rw [areTwo_f2 n_5 n_13]; rfl, rfl⟩
    · skip
      have n_13 : _ = true := b2_t c_13
      refine r_iload_n 1 dX6_areTwo_16 rfl rfl ?_
      refine r_iload_n 2 dX6_areTwo_17 rfl rfl ?_
      refine r_icmp_eq 25 dX6_areTwo_18 (by decide) (fun c_18 => ?_) (fun c_18 => ?_)
      · skip
        refine r_iconst (v := nI 0) dX6_areTwo_25 rfl ?_
        refine e_zret dX6_areTwo_26 rfl (by decide) ?_
        exact ⟨by rw [areTwo_f3 n_5 n_13 c_18]; rfl, rfl⟩
      · skip
        refine r_iconst (v := nI 1) dX6_areTwo_21 rfl ?_
        refine r_goto 26 dX6_areTwo_22 (by decide) ?_
        refine e_zret dX6_areTwo_26 rfl (by decide) ?_
        exact ⟨by rw [areTwo_t n_5 n_13 c_18]; rfl, rfl⟩
theorem A_owes {d : Nat} {h : Hp} (hm : LayM (hS h) (hR h)) {r o : Row} (w : WF r) (ho : o 15 = -1) {a b : Int32} : gC (d + 3) (0) (0) m_X6_owes [.ref 66, .int a, .int b] (MH h r o) (RA h (aOwes (mS h r o) a b)) := by
  have e_0 : aOwes (mS h r o) a b = (if twoB r a b = true then (dv r (toN a) (toN b), (mS h r o)) else errA (mS h r o) (-1000000001) 1) := rfl
  rw [e_0]
  have hn8 := w.n8
  refine gC.of (ls := [some (.ref 66), some (.int a), some (.int b)]) (by decide +kernel) rfl rfl rfl rfl (Nat.le_of_ble_eq_true rfl) ?_
  refine r_aload_n 0 dX6_owes_0 rfl rfl rfl ?_
  refine r_iload_n 1 dX6_owes_1 rfl rfl ?_
  refine r_iload_n 2 dX6_owes_2 rfl rfl ?_
  refine r_callV_1 dX6_owes_3 kX6_82 (M_areTwo (a := a) (b := b) hm) (gRecv.of hm.s66 rfl) rfl rfl (Nat.le_of_ble_eq_true rfl) ?_
  refine r_if_eq 18 dX6_owes_6 (by decide) (fun c_6 => ?_) (fun c_6 => ?_)
  · skip
    have n_6 : (twoB r a b) = false := b2_f c_6
    first | rw [ifT n_6] | rw [ifF n_6] | skip
    refine r_aload_n 0 dX6_owes_18 rfl rfl rfl ?_
    refine r_ldc (v := -1000000001) dX6_owes_19 q1511 ?_
    refine r_callV_1 dX6_owes_21 kX6_53 (M_errs hm (e := (-1000000001 : Int32)) 1 (by decide +kernel) (by decide)) (gRecv.of hm.s66 rfl) rfl rfl (Nat.le_of_ble_eq_true rfl) ?_
    refine e_iret dX6_owes_24 rfl ?_
    exact RA.mk (Jo.r) ho ((FrM.r).b (by decide)) (rfl) (rfl)
  · skip
    have n_6 : (twoB r a b) = true := b2_t c_6
    first | rw [ifT n_6] | rw [ifF n_6] | skip
    obtain ⟨i, j, h_i, h_j, rfl, rfl⟩ := two_of w n_6
    have e_i : toN (nI i) = i := toN_nI (by omega)
    have e_j : toN (nI j) = j := toN_nI (by omega)
    try simp only [e_i, e_j]
    refine r_aload_n 0 dX6_owes_9 rfl rfl rfl ?_
    refine r_iload_n 1 dX6_owes_10 rfl rfl ?_
    refine r_iload_n 2 dX6_owes_11 rfl rfl ?_
    refine r_callV_1 dX6_owes_12 kX6_86 (M_debt (p := i) (w := j) hm (by omega)) (gRecv.of hm.s66 rfl) rfl rfl (Nat.le_of_ble_eq_true rfl) ?_
    refine r_goto 24 dX6_owes_15 (by decide) ?_
    refine e_iret dX6_owes_24 rfl ?_
    exact RA.mk (Jo.r) ho (FrM.r) (rfl) (rfl)
theorem A_owe {d : Nat} {h : Hp} (hm : LayM (hS h) (hR h)) {r o : Row} (w : WF r) (ho : o 15 = -1) {a b v : Int32} : gC (d + 3) (0) (0) m_X6_owe [.ref 66, .int a, .int b, .int v] (MH h r o) (RA h (aOwe (mS h r o) a b v)) := by
  have e_0 : aOwe (mS h r o) a b v = (if twoB r a b = true then (if inB v (nI 0) (nI 99) = true then (r (47 + 8 * toN a + toN b), (mS h r o).s_r (ru r (47 + 8 * toN a + toN b) v)) else errA (mS h r o) (-1000000001) 1) else errA (mS h r o) (-1000000001) 1) := rfl
  rw [e_0]
  have hn8 := w.n8
  refine gC.of (ls := [some (.ref 66), some (.int a), some (.int b), some (.int v)]) (by decide +kernel) rfl rfl rfl rfl (Nat.le_of_ble_eq_true rfl) ?_
  refine r_aload_n 0 dX6_owe_0 rfl rfl rfl ?_
  refine r_iload_n 1 dX6_owe_1 rfl rfl ?_
  refine r_iload_n 2 dX6_owe_2 rfl rfl ?_
  refine r_callV_1 dX6_owe_3 kX6_82 (M_areTwo (a := a) (b := b) hm) (gRecv.of hm.s66 rfl) rfl rfl (Nat.le_of_ble_eq_true rfl) ?_
  refine r_if_eq 36 dX6_owe_6 (by decide) (fun c_6 => ?_) (fun c_6 => ?_)
  · skip
    have n_6 : (twoB r a b) = false := b2_f c_6
    first | rw [ifT n_6] | rw [ifF n_6] | skip
    refine r_aload_n 0 dX6_owe_36 rfl rfl rfl ?_
    refine r_ldc (v := -1000000001) dX6_owe_37 q1511 ?_
    refine r_callV_1 dX6_owe_39 kX6_53 (M_errs hm (e := (-1000000001 : Int32)) 1 (by decide +kernel) (by decide)) (gRecv.of hm.s66 rfl) rfl rfl (Nat.le_of_ble_eq_true rfl) ?_
    refine e_iret dX6_owe_42 rfl ?_
    exact RA.mk (Jo.r) ho ((FrM.r).b (by decide)) (rfl) (rfl)
  · skip
    have n_6 : (twoB r a b) = true := b2_t c_6
    first | rw [ifT n_6] | rw [ifF n_6] | skip
    refine r_iload_n 3 dX6_owe_9 rfl rfl ?_
    refine r_iconst (v := nI 0) dX6_owe_10 rfl ?_
    refine r_bipush (v := nI 99) dX6_owe_11 (by decide +kernel) ?_
    refine r_callS_1 dX6_owe_13 kX6_48 (M_in)  rfl rfl (Nat.le_of_ble_eq_true rfl) ?_
    refine r_if_eq 36 dX6_owe_16 (by decide) (fun c_16 => ?_) (fun c_16 => ?_)
    · skip
      have n_16 : _ = false := b2_f c_16
      first | rw [ifT n_16] | rw [ifF n_16] | skip
      refine r_aload_n 0 dX6_owe_36 rfl rfl rfl ?_
      refine r_ldc (v := -1000000001) dX6_owe_37 q1511 ?_
      refine r_callV_1 dX6_owe_39 kX6_53 (M_errs hm (e := (-1000000001 : Int32)) 1 (by decide +kernel) (by decide)) (gRecv.of hm.s66 rfl) rfl rfl (Nat.le_of_ble_eq_true rfl) ?_
      refine e_iret dX6_owe_42 rfl ?_
      exact RA.mk (Jo.r) ho ((FrM.r).b (by decide)) (rfl) (rfl)
    · skip
      have n_16 : _ = true := b2_t c_16
      first | rw [ifT n_16] | rw [ifF n_16] | skip
      obtain ⟨i, j, h_i, h_j, rfl, rfl⟩ := two_of w n_6
      have e_i : toN (nI i) = i := toN_nI (by omega)
      have e_j : toN (nI j) = j := toN_nI (by omega)
      try simp only [e_i, e_j]
      refine r_aload_n 0 dX6_owe_19 rfl rfl rfl ?_
      refine r_bipush (v := nI 47) dX6_owe_20 (by decide +kernel) ?_
      refine r_bipush (v := nI 8) dX6_owe_22 (by decide +kernel) ?_
      refine r_iload_n 1 dX6_owe_24 rfl rfl ?_
      refine r_imul dX6_owe_25 ?_
      refine r_iadd dX6_owe_26 ?_
      refine r_eqi (show _ = nI (47 + (8 * i)) from by simp only [pk_mul, nI_add]) ?_
      refine r_iload_n 2 dX6_owe_27 rfl rfl ?_
      refine r_iadd dX6_owe_28 ?_
      refine r_eqi (show _ = nI ((47 + (8 * i)) + j) from by simp only [pk_mul, nI_add]) ?_
      refine r_iload_n 3 dX6_owe_29 rfl rfl ?_
      refine r_callV_1 dX6_owe_30 kX6_79 (M_becomes (k := ((47 + (8 * i)) + j)) hm (by omega)) (gRecv.of hm.s66 rfl) rfl rfl (Nat.le_of_ble_eq_true rfl) ?_
      refine r_goto 42 dX6_owe_33 (by decide) ?_
      refine e_iret dX6_owe_42 rfl ?_
      exact RA.mk (Jo.r) ho (FrM.r) (rfl) (rfl)
theorem A_become {d : Nat} {h : Hp} (hm : LayM (hS h) (hR h)) {r o : Row} (w : WF r) (ho : o 15 = -1) {p km : Int32} : gC (d + 2) (0) (0) m_X6_become [.ref 66, .int p, .int km] (MH h r o) (RA h (aBecome (mS h r o) p km)) := by
  have e_0 : aBecome (mS h r o) p km = (if inB p 0 (r 2 - 1) = true then (if inB km (nI 0) (nI 69) = true then (pv r (toN p) 0, (mS h r o).s_r (ru (spv r (toN p) 1 (irem km (nI 10))) (7 + 5 * toN p) (km / nI 10))) else errA (mS h r o) (-1000000001) 1) else errA (mS h r o) (-1000000001) 1) := rfl
  rw [e_0]
  have hn8 := w.n8
  refine gC.of (ls := [some (.ref 66), some (.int p), some (.int km)]) (by decide +kernel) rfl rfl rfl rfl (Nat.le_of_ble_eq_true rfl) ?_
  refine r_aload_n 0 dX6_become_0 rfl rfl rfl ?_
  refine r_iload_n 1 dX6_become_1 rfl rfl ?_
  refine r_callV_1 dX6_become_2 kX6_62 (M_isOne hm) (gRecv.of hm.s66 rfl) rfl rfl (Nat.le_of_ble_eq_true rfl) ?_
  refine r_if_eq 18 dX6_become_5 (by decide) (fun c_5 => ?_) (fun c_5 => ?_)
  · skip
    have n_5 : _ = false := b2_f c_5
    first | rw [ifT n_5] | rw [ifF n_5] | skip
    refine r_aload_n 0 dX6_become_18 rfl rfl rfl ?_
    refine r_ldc (v := -1000000001) dX6_become_19 q1511 ?_
    refine r_callV_1 dX6_become_21 kX6_53 (M_errs hm (e := (-1000000001 : Int32)) 1 (by decide +kernel) (by decide)) (gRecv.of hm.s66 rfl) rfl rfl (Nat.le_of_ble_eq_true rfl) ?_
    refine e_iret dX6_become_24 rfl ?_
    exact RA.mk (Jo.r) ho ((FrM.r).b (by decide)) rfl (rfl)
  · skip
    have n_5 : _ = true := b2_t c_5
    first | rw [ifT n_5] | rw [ifF n_5] | skip
    refine r_iload_n 2 dX6_become_8 rfl rfl ?_
    refine r_iconst (v := nI 0) dX6_become_9 rfl ?_
    refine r_bipush (v := nI 69) dX6_become_10 (by decide +kernel) ?_
    refine r_callS_1 dX6_become_12 kX6_48 (M_in)  rfl rfl (Nat.le_of_ble_eq_true rfl) ?_
    refine r_if_ne 25 dX6_become_15 (by decide) (fun c_15 => ?_) (fun c_15 => ?_)
    · skip
      have n_15 : _ = true := b2_t c_15
      first | rw [ifT n_15] | rw [ifF n_15] | skip
      obtain ⟨k, h_k, rfl⟩ := one_of w n_5
      have hn8 := w.n8
      have e_k : toN (nI k) = k := toN_nI (by omega)
      try simp only [e_k]
      refine r_aload_n 0 dX6_become_25 rfl rfl rfl ?_
      refine r_iload_n 1 dX6_become_26 rfl rfl ?_
      refine r_iconst (v := nI 1) dX6_become_27 rfl ?_
      refine r_iload_n 2 dX6_become_28 rfl rfl ?_
      refine r_bipush (v := nI 10) dX6_become_29 (by decide +kernel) ?_
      refine r_irem dX6_become_31 (by decide) ?_
      refine r_callV_0 dX6_become_32 kX6_58 (M_gets (p := k) (w := 1) hm (by omega)) (gRecv.of hm.s66 rfl) rfl rfl (Nat.le_of_ble_eq_true rfl) ?_
      refine r_aload_n 0 dX6_become_35 rfl rfl rfl ?_
      refine r_bipush (v := nI 7) dX6_become_36 (by decide +kernel) ?_
      refine r_iconst (v := nI 5) dX6_become_38 rfl ?_
      refine r_iload_n 1 dX6_become_39 rfl rfl ?_
      refine r_imul dX6_become_40 ?_
      refine r_iadd dX6_become_41 ?_
      refine r_eqi (show _ = nI (7 + (5 * k)) from by simp only [pk_mul, nI_add]) ?_
      refine r_iload_n 2 dX6_become_42 rfl rfl ?_
      refine r_bipush (v := nI 10) dX6_become_43 (by decide +kernel) ?_
      refine r_idiv dX6_become_45 (by decide) ?_
      refine r_callV_1 dX6_become_46 kX6_79 (M_becomes (k := (7 + (5 * k))) hm (by omega)) (gRecv.of hm.s66 rfl) rfl rfl (Nat.le_of_ble_eq_true rfl) ?_
      refine e_iret dX6_become_49 rfl ?_
      exact RA.mk (Jo.r) ho (FrM.r) rfl (by show spv r k 1 _ (7 + 5 * k) = pv r k 0; exact ru_n (by omega))
    · skip
      have n_15 : _ = false := b2_f c_15
      first | rw [ifT n_15] | rw [ifF n_15] | skip
      refine r_aload_n 0 dX6_become_18 rfl rfl rfl ?_
      refine r_ldc (v := -1000000001) dX6_become_19 q1511 ?_
      refine r_callV_1 dX6_become_21 kX6_53 (M_errs hm (e := (-1000000001 : Int32)) 1 (by decide +kernel) (by decide)) (gRecv.of hm.s66 rfl) rfl rfl (Nat.le_of_ble_eq_true rfl) ?_
      refine e_iret dX6_become_24 rfl ?_
      exact RA.mk (Jo.r) ho ((FrM.r).b (by decide)) rfl (rfl)
theorem A_change {d : Nat} {h : Hp} (hm : LayM (hS h) (hR h)) {r o : Row} (w : WF r) (ho : o 15 = -1) {p q v : Int32} : gC (d + 2) (0) (0) m_X6_change [.ref 66, .int p, .int q, .int v] (MH h r o) (RA h (aChange (mS h r o) p q v)) := by
  have e_0 : aChange (mS h r o) p q v = (if inB p 0 (r 2 - 1) = true then (if chgB q v = true then (r (7 + 5 * toN p + 2 + toN q), (mS h r o).s_r (ru r (7 + 5 * toN p + 2 + toN q) v)) else errA (mS h r o) (-1000000001) 1) else errA (mS h r o) (-1000000001) 1) := rfl
  rw [e_0]
  have hn8 := w.n8
  refine gC.of (ls := [some (.ref 66), some (.int p), some (.int q), some (.int v), none]) (by decide +kernel) rfl rfl rfl rfl (Nat.le_of_ble_eq_true rfl) ?_
  refine r_iload_n 2 dX6_change_0 rfl rfl ?_
  refine r_if_ne 14 dX6_change_1 (by decide) (fun c_1 => ?_) (fun c_1 => ?_)
  · skip
    first | rw [iP c_1] | rw [iN c_1] | rw [iN (i_le_nlt c_1)] | rw [iP (i_nle c_1)] | rw [iP (i_nlt c_1)] | rw [iN (i_lt_nle c_1)] | skip
    refine r_iload_n 2 dX6_change_14 rfl rfl ?_
    refine r_iconst (v := nI 1) dX6_change_15 rfl ?_
    refine r_icmp_ne 30 dX6_change_16 (by decide) (fun c_16 => ?_) (fun c_16 => ?_)
    · skip
      first | rw [iP c_16] | rw [iN c_16] | rw [iN (i_le_nlt c_16)] | rw [iP (i_nle c_16)] | rw [iP (i_nlt c_16)] | rw [iN (i_lt_nle c_16)] | skip
      refine r_iload_n 2 dX6_change_30 rfl rfl ?_
      refine r_iconst (v := nI 2) dX6_change_31 rfl ?_
      refine r_icmp_ne 49 dX6_change_32 (by decide) (fun c_32 => ?_) (fun c_32 => ?_)
      · skip
        first | rw [iP c_32] | rw [iN c_32] | rw [iN (i_le_nlt c_32)] | rw [iP (i_nle c_32)] | rw [iP (i_nlt c_32)] | rw [iN (i_lt_nle c_32)] | skip
        have n_50 : chgB q v = false := by unfold chgB; rw [iN c_1, iN c_16, iN c_32]
        refine r_iconst (v := nI 0) dX6_change_49 rfl ?_
        refine r_istore dX6_change_50 (by decide) rfl ?_
        refine gG_ls (ls' := [_, _, _, _, _]) rfl ?_
        refine r_aload_n 0 dX6_change_52 rfl rfl rfl ?_
        refine r_iload_n 1 dX6_change_53 rfl rfl ?_
        refine r_callV_1 dX6_change_54 kX6_62 (M_isOne hm) (gRecv.of hm.s66 rfl) rfl rfl (Nat.le_of_ble_eq_true rfl) ?_
        refine r_if_eq 83 dX6_change_57 (by decide) (fun c_57 => ?_) (fun c_57 => ?_)
        · skip
          have n_57 : _ = false := b2_f c_57
          first | rw [ifT n_57] | rw [ifF n_57] | skip
          refine r_aload_n 0 dX6_change_83 rfl rfl rfl ?_
          refine r_ldc (v := -1000000001) dX6_change_84 q1511 ?_
          refine r_callV_1 dX6_change_86 kX6_53 (M_errs hm (e := (-1000000001 : Int32)) 1 (by decide +kernel) (by decide)) (gRecv.of hm.s66 rfl) rfl rfl (Nat.le_of_ble_eq_true rfl) ?_
          refine e_iret dX6_change_89 rfl ?_
          exact RA.mk (Jo.r) ho ((FrM.r).b (by decide)) (rfl) (rfl)
        · skip
          have n_57 : _ = true := b2_t c_57
          first | rw [ifT n_57] | rw [ifF n_57] | skip
          refine r_iload dX6_change_60 rfl ?_
          refine r_if_eq 83 dX6_change_62 (by decide) (fun c_62 => ?_) (fun c_62 => ?_)
          · skip
            have n_62 : 0 = 0 := n_eq0 (by omega) c_62
            first | rw [iP n_62] | rw [iN n_62] | rw [iN (Nat.not_lt.mpr n_62)] | skip
            rw [ifF (show chgB q v = false from by unfold chgB; rw [iN c_1, iN c_16, iN c_32])]
            refine r_aload_n 0 dX6_change_83 rfl rfl rfl ?_
            refine r_ldc (v := -1000000001) dX6_change_84 q1511 ?_
            refine r_callV_1 dX6_change_86 kX6_53 (M_errs hm (e := (-1000000001 : Int32)) 1 (by decide +kernel) (by decide)) (gRecv.of hm.s66 rfl) rfl rfl (Nat.le_of_ble_eq_true rfl) ?_
            refine e_iret dX6_change_89 rfl ?_
            exact RA.mk (Jo.r) ho ((FrM.r).b (by decide)) (rfl) (rfl)
          · skip
            have n_62 : ¬ 0 = 0 := n_ne0 (by omega) c_62
            exact absurd n_62 (by decide)
      · skip
        first | rw [iP c_32] | rw [iN c_32] | rw [iN (i_le_nlt c_32)] | rw [iP (i_nle c_32)] | rw [iP (i_nlt c_32)] | rw [iN (i_lt_nle c_32)] | skip
        refine r_iload_n 3 dX6_change_35 rfl rfl ?_
        refine r_iconst (v := nI 0) dX6_change_36 rfl ?_
        refine r_bipush (v := nI 99) dX6_change_37 (by decide +kernel) ?_
        refine r_callS_1 dX6_change_39 kX6_48 (M_in)  rfl rfl (Nat.le_of_ble_eq_true rfl) ?_
        refine r_if_eq 49 dX6_change_42 (by decide) (fun c_42 => ?_) (fun c_42 => ?_)
        · skip
          have n_42 : (inB v (nI 0) (nI 99)) = false := b2_f c_42
          first | rw [ifT n_42] | rw [ifF n_42] | skip
          have n_50 : chgB q v = false := by unfold chgB; rw [iN c_1, iN c_16, iP c_32]; exact n_42
          refine r_iconst (v := nI 0) dX6_change_49 rfl ?_
          refine r_istore dX6_change_50 (by decide) rfl ?_
          refine gG_ls (ls' := [_, _, _, _, _]) rfl ?_
          refine r_aload_n 0 dX6_change_52 rfl rfl rfl ?_
          refine r_iload_n 1 dX6_change_53 rfl rfl ?_
          refine r_callV_1 dX6_change_54 kX6_62 (M_isOne hm) (gRecv.of hm.s66 rfl) rfl rfl (Nat.le_of_ble_eq_true rfl) ?_
          refine r_if_eq 83 dX6_change_57 (by decide) (fun c_57 => ?_) (fun c_57 => ?_)
          · skip
            have n_57 : _ = false := b2_f c_57
            first | rw [ifT n_57] | rw [ifF n_57] | skip
            refine r_aload_n 0 dX6_change_83 rfl rfl rfl ?_
            refine r_ldc (v := -1000000001) dX6_change_84 q1511 ?_
            refine r_callV_1 dX6_change_86 kX6_53 (M_errs hm (e := (-1000000001 : Int32)) 1 (by decide +kernel) (by decide)) (gRecv.of hm.s66 rfl) rfl rfl (Nat.le_of_ble_eq_true rfl) ?_
            refine e_iret dX6_change_89 rfl ?_
            exact RA.mk (Jo.r) ho ((FrM.r).b (by decide)) (rfl) (rfl)
          · skip
            have n_57 : _ = true := b2_t c_57
            first | rw [ifT n_57] | rw [ifF n_57] | skip
            refine r_iload dX6_change_60 rfl ?_
            refine r_if_eq 83 dX6_change_62 (by decide) (fun c_62 => ?_) (fun c_62 => ?_)
            · skip
              have n_62 : 0 = 0 := n_eq0 (by omega) c_62
              first | rw [iP n_62] | rw [iN n_62] | rw [iN (Nat.not_lt.mpr n_62)] | skip
              rw [ifF n_50]
              refine r_aload_n 0 dX6_change_83 rfl rfl rfl ?_
              refine r_ldc (v := -1000000001) dX6_change_84 q1511 ?_
              refine r_callV_1 dX6_change_86 kX6_53 (M_errs hm (e := (-1000000001 : Int32)) 1 (by decide +kernel) (by decide)) (gRecv.of hm.s66 rfl) rfl rfl (Nat.le_of_ble_eq_true rfl) ?_
              refine e_iret dX6_change_89 rfl ?_
              exact RA.mk (Jo.r) ho ((FrM.r).b (by decide)) (rfl) (rfl)
            · skip
              have n_62 : ¬ 0 = 0 := n_ne0 (by omega) c_62
              exact absurd n_62 (by decide)
        · skip
          have n_42 : (inB v (nI 0) (nI 99)) = true := b2_t c_42
          first | rw [ifT n_42] | rw [ifF n_42] | skip
          have n_50 : chgB q v = true := by unfold chgB; rw [iN c_1, iN c_16, iP c_32]; exact n_42
          refine r_iconst (v := nI 1) dX6_change_45 rfl ?_
          refine r_goto 50 dX6_change_46 (by decide) ?_
          refine r_istore dX6_change_50 (by decide) rfl ?_
          refine gG_ls (ls' := [_, _, _, _, _]) rfl ?_
          refine r_aload_n 0 dX6_change_52 rfl rfl rfl ?_
          refine r_iload_n 1 dX6_change_53 rfl rfl ?_
          refine r_callV_1 dX6_change_54 kX6_62 (M_isOne hm) (gRecv.of hm.s66 rfl) rfl rfl (Nat.le_of_ble_eq_true rfl) ?_
          refine r_if_eq 83 dX6_change_57 (by decide) (fun c_57 => ?_) (fun c_57 => ?_)
          · skip
            have n_57 : _ = false := b2_f c_57
            first | rw [ifT n_57] | rw [ifF n_57] | skip
            refine r_aload_n 0 dX6_change_83 rfl rfl rfl ?_
            refine r_ldc (v := -1000000001) dX6_change_84 q1511 ?_
            refine r_callV_1 dX6_change_86 kX6_53 (M_errs hm (e := (-1000000001 : Int32)) 1 (by decide +kernel) (by decide)) (gRecv.of hm.s66 rfl) rfl rfl (Nat.le_of_ble_eq_true rfl) ?_
            refine e_iret dX6_change_89 rfl ?_
            exact RA.mk (Jo.r) ho ((FrM.r).b (by decide)) (rfl) (rfl)
          · skip
            have n_57 : _ = true := b2_t c_57
            first | rw [ifT n_57] | rw [ifF n_57] | skip
            refine r_iload dX6_change_60 rfl ?_
            refine r_if_eq 83 dX6_change_62 (by decide) (fun c_62 => ?_) (fun c_62 => ?_)
            · skip
              have n_62 : 1 = 0 := n_eq0 (by omega) c_62
              exact absurd n_62 (by decide)
            · skip
              have n_62 : ¬ 1 = 0 := n_ne0 (by omega) c_62
              first | rw [iP n_62] | rw [iN n_62] | rw [iN (Nat.not_lt.mpr n_62)] | skip
              rw [ifT n_50]
              obtain ⟨k, h_k, rfl⟩ := one_of w n_57
              have e_k : toN (nI k) = k := toN_nI (by omega)
              have e_q : q = nI 2 := c_32
              subst e_q
              have e_2 : toN (nI 2) = 2 := toN_nI (by decide)
              simp only [e_k, e_2]
              refine r_aload_n 0 dX6_change_65 rfl rfl rfl ?_
              refine r_bipush (v := nI 7) dX6_change_66 (by decide +kernel) ?_
              refine r_iconst (v := nI 5) dX6_change_68 rfl ?_
              refine r_iload_n 1 dX6_change_69 rfl rfl ?_
              refine r_imul dX6_change_70 ?_
              refine r_iadd dX6_change_71 ?_
              refine r_eqi (show _ = nI (7 + (5 * k)) from by simp only [pk_mul, nI_add]) ?_
              refine r_iconst (v := nI 2) dX6_change_72 rfl ?_
              refine r_iadd dX6_change_73 ?_
              refine r_eqi (show _ = nI ((7 + (5 * k)) + 2) from by simp only [pk_mul, nI_add]) ?_
              refine r_iload_n 2 dX6_change_74 rfl rfl ?_
              refine r_iadd dX6_change_75 ?_
              refine r_eqi (show _ = nI (((7 + (5 * k)) + 2) + 2) from by simp only [pk_mul, nI_add]) ?_
              refine r_iload_n 3 dX6_change_76 rfl rfl ?_
              refine r_callV_1 dX6_change_77 kX6_79 (M_becomes (k := (((7 + (5 * k)) + 2) + 2)) hm (by omega)) (gRecv.of hm.s66 rfl) rfl rfl (Nat.le_of_ble_eq_true rfl) ?_
              refine r_goto 89 dX6_change_80 (by decide) ?_
              refine e_iret dX6_change_89 rfl ?_
              exact RA.mk (Jo.r) ho (FrM.r) (rfl) (rfl)
    · skip
      first | rw [iP c_16] | rw [iN c_16] | rw [iN (i_le_nlt c_16)] | rw [iP (i_nle c_16)] | rw [iP (i_nlt c_16)] | rw [iN (i_lt_nle c_16)] | skip
      refine r_iload_n 3 dX6_change_19 rfl rfl ?_
      refine r_iconst (v := nI 0) dX6_change_20 rfl ?_
      refine r_sipush (v := nI 999) dX6_change_21 (by decide +kernel) ?_
      refine r_callS_1 dX6_change_24 kX6_48 (M_in)  rfl rfl (Nat.le_of_ble_eq_true rfl) ?_
      refine r_goto 50 dX6_change_27 (by decide) ?_
      have n_49 : chgB q v = inB v (nI 0) (nI 999) := by unfold chgB; rw [iN c_1, iP c_16]
      refine r_istore dX6_change_50 (by decide) rfl ?_
      refine gG_ls (ls' := [_, _, _, _, _]) rfl ?_
      refine r_aload_n 0 dX6_change_52 rfl rfl rfl ?_
      refine r_iload_n 1 dX6_change_53 rfl rfl ?_
      refine r_callV_1 dX6_change_54 kX6_62 (M_isOne hm) (gRecv.of hm.s66 rfl) rfl rfl (Nat.le_of_ble_eq_true rfl) ?_
      refine r_if_eq 83 dX6_change_57 (by decide) (fun c_57 => ?_) (fun c_57 => ?_)
      · skip
        have n_57 : _ = false := b2_f c_57
        first | rw [ifT n_57] | rw [ifF n_57] | skip
        refine r_aload_n 0 dX6_change_83 rfl rfl rfl ?_
        refine r_ldc (v := -1000000001) dX6_change_84 q1511 ?_
        refine r_callV_1 dX6_change_86 kX6_53 (M_errs hm (e := (-1000000001 : Int32)) 1 (by decide +kernel) (by decide)) (gRecv.of hm.s66 rfl) rfl rfl (Nat.le_of_ble_eq_true rfl) ?_
        refine e_iret dX6_change_89 rfl ?_
        exact RA.mk (Jo.r) ho ((FrM.r).b (by decide)) (rfl) (rfl)
      · skip
        have n_57 : _ = true := b2_t c_57
        first | rw [ifT n_57] | rw [ifF n_57] | skip
        refine r_iload dX6_change_60 rfl ?_
        refine r_if_eq 83 dX6_change_62 (by decide) (fun c_62 => ?_) (fun c_62 => ?_)
        · skip
          have n_62 : (inB v (nI 0) (nI 999)) = false := b2_f c_62
          first | rw [ifT n_62] | rw [ifF n_62] | skip
          rw [ifF (n_49.trans n_62)]
          refine r_aload_n 0 dX6_change_83 rfl rfl rfl ?_
          refine r_ldc (v := -1000000001) dX6_change_84 q1511 ?_
          refine r_callV_1 dX6_change_86 kX6_53 (M_errs hm (e := (-1000000001 : Int32)) 1 (by decide +kernel) (by decide)) (gRecv.of hm.s66 rfl) rfl rfl (Nat.le_of_ble_eq_true rfl) ?_
          refine e_iret dX6_change_89 rfl ?_
          exact RA.mk (Jo.r) ho ((FrM.r).b (by decide)) (rfl) (rfl)
        · skip
          have n_62 : (inB v (nI 0) (nI 999)) = true := b2_t c_62
          first | rw [ifT n_62] | rw [ifF n_62] | skip
          rw [ifT (n_49.trans n_62)]
          obtain ⟨k, h_k, rfl⟩ := one_of w n_57
          have e_k : toN (nI k) = k := toN_nI (by omega)
          have e_q : q = nI 1 := c_16
          subst e_q
          have e_2 : toN (nI 1) = 1 := toN_nI (by decide)
          simp only [e_k, e_2]
          refine r_aload_n 0 dX6_change_65 rfl rfl rfl ?_
          refine r_bipush (v := nI 7) dX6_change_66 (by decide +kernel) ?_
          refine r_iconst (v := nI 5) dX6_change_68 rfl ?_
          refine r_iload_n 1 dX6_change_69 rfl rfl ?_
          refine r_imul dX6_change_70 ?_
          refine r_iadd dX6_change_71 ?_
          refine r_eqi (show _ = nI (7 + (5 * k)) from by simp only [pk_mul, nI_add]) ?_
          refine r_iconst (v := nI 2) dX6_change_72 rfl ?_
          refine r_iadd dX6_change_73 ?_
          refine r_eqi (show _ = nI ((7 + (5 * k)) + 2) from by simp only [pk_mul, nI_add]) ?_
          refine r_iload_n 2 dX6_change_74 rfl rfl ?_
          refine r_iadd dX6_change_75 ?_
          refine r_eqi (show _ = nI (((7 + (5 * k)) + 2) + 1) from by simp only [pk_mul, nI_add]) ?_
          refine r_iload_n 3 dX6_change_76 rfl rfl ?_
          refine r_callV_1 dX6_change_77 kX6_79 (M_becomes (k := (((7 + (5 * k)) + 2) + 1)) hm (by omega)) (gRecv.of hm.s66 rfl) rfl rfl (Nat.le_of_ble_eq_true rfl) ?_
          refine r_goto 89 dX6_change_80 (by decide) ?_
          refine e_iret dX6_change_89 rfl ?_
          exact RA.mk (Jo.r) ho (FrM.r) (rfl) (rfl)
  · skip
    first | rw [iP c_1] | rw [iN c_1] | rw [iN (i_le_nlt c_1)] | rw [iP (i_nle c_1)] | rw [iP (i_nlt c_1)] | rw [iN (i_lt_nle c_1)] | skip
    refine r_iload_n 3 dX6_change_4 rfl rfl ?_
    refine r_iconst (v := nI 0) dX6_change_5 rfl ?_
    refine r_bipush (v := nI 15) dX6_change_6 (by decide +kernel) ?_
    refine r_callS_1 dX6_change_8 kX6_48 (M_in)  rfl rfl (Nat.le_of_ble_eq_true rfl) ?_
    refine r_goto 50 dX6_change_11 (by decide) ?_
    have n_49 : chgB q v = inB v (nI 0) (nI 15) := by unfold chgB; rw [iP c_1]
    refine r_istore dX6_change_50 (by decide) rfl ?_
    refine gG_ls (ls' := [_, _, _, _, _]) rfl ?_
    refine r_aload_n 0 dX6_change_52 rfl rfl rfl ?_
    refine r_iload_n 1 dX6_change_53 rfl rfl ?_
    refine r_callV_1 dX6_change_54 kX6_62 (M_isOne hm) (gRecv.of hm.s66 rfl) rfl rfl (Nat.le_of_ble_eq_true rfl) ?_
    refine r_if_eq 83 dX6_change_57 (by decide) (fun c_57 => ?_) (fun c_57 => ?_)
    · skip
      have n_57 : _ = false := b2_f c_57
      first | rw [ifT n_57] | rw [ifF n_57] | skip
      refine r_aload_n 0 dX6_change_83 rfl rfl rfl ?_
      refine r_ldc (v := -1000000001) dX6_change_84 q1511 ?_
      refine r_callV_1 dX6_change_86 kX6_53 (M_errs hm (e := (-1000000001 : Int32)) 1 (by decide +kernel) (by decide)) (gRecv.of hm.s66 rfl) rfl rfl (Nat.le_of_ble_eq_true rfl) ?_
      refine e_iret dX6_change_89 rfl ?_
      exact RA.mk (Jo.r) ho ((FrM.r).b (by decide)) (rfl) (rfl)
    · skip
      have n_57 : _ = true := b2_t c_57
      first | rw [ifT n_57] | rw [ifF n_57] | skip
      refine r_iload dX6_change_60 rfl ?_
      refine r_if_eq 83 dX6_change_62 (by decide) (fun c_62 => ?_) (fun c_62 => ?_)
      · skip
        have n_62 : (inB v (nI 0) (nI 15)) = false := b2_f c_62
        first | rw [ifT n_62] | rw [ifF n_62] | skip
        rw [ifF (n_49.trans n_62)]
        refine r_aload_n 0 dX6_change_83 rfl rfl rfl ?_
        refine r_ldc (v := -1000000001) dX6_change_84 q1511 ?_
        refine r_callV_1 dX6_change_86 kX6_53 (M_errs hm (e := (-1000000001 : Int32)) 1 (by decide +kernel) (by decide)) (gRecv.of hm.s66 rfl) rfl rfl (Nat.le_of_ble_eq_true rfl) ?_
        refine e_iret dX6_change_89 rfl ?_
        exact RA.mk (Jo.r) ho ((FrM.r).b (by decide)) (rfl) (rfl)
      · skip
        have n_62 : (inB v (nI 0) (nI 15)) = true := b2_t c_62
        first | rw [ifT n_62] | rw [ifF n_62] | skip
        rw [ifT (n_49.trans n_62)]
        obtain ⟨k, h_k, rfl⟩ := one_of w n_57
        have e_k : toN (nI k) = k := toN_nI (by omega)
        have e_q : q = nI 0 := c_1
        subst e_q
        have e_2 : toN (nI 0) = 0 := toN_nI (by decide)
        simp only [e_k, e_2]
        refine r_aload_n 0 dX6_change_65 rfl rfl rfl ?_
        refine r_bipush (v := nI 7) dX6_change_66 (by decide +kernel) ?_
        refine r_iconst (v := nI 5) dX6_change_68 rfl ?_
        refine r_iload_n 1 dX6_change_69 rfl rfl ?_
        refine r_imul dX6_change_70 ?_
        refine r_iadd dX6_change_71 ?_
        refine r_eqi (show _ = nI (7 + (5 * k)) from by simp only [pk_mul, nI_add]) ?_
        refine r_iconst (v := nI 2) dX6_change_72 rfl ?_
        refine r_iadd dX6_change_73 ?_
        refine r_eqi (show _ = nI ((7 + (5 * k)) + 2) from by simp only [pk_mul, nI_add]) ?_
        refine r_iload_n 2 dX6_change_74 rfl rfl ?_
        refine r_iadd dX6_change_75 ?_
        refine r_eqi (show _ = nI (((7 + (5 * k)) + 2) + 0) from by simp only [pk_mul, nI_add]) ?_
        refine r_iload_n 3 dX6_change_76 rfl rfl ?_
        refine r_callV_1 dX6_change_77 kX6_79 (M_becomes (k := (((7 + (5 * k)) + 2) + 0)) hm (by omega)) (gRecv.of hm.s66 rfl) rfl rfl (Nat.le_of_ble_eq_true rfl) ?_
        refine r_goto 89 dX6_change_80 (by decide) ?_
        refine e_iret dX6_change_89 rfl ?_
        exact RA.mk (Jo.r) ho (FrM.r) (rfl) (rfl)
theorem M_above_0 {d : Nat} {h : Hp} : gC (d) (0) (0) m_X6_above [.int (nI 0)] (h) (Ret (some (.int (-1))) h) := by
  refine gC.of (ls := [some (.int (nI 0))]) (by decide +kernel) rfl rfl rfl rfl (Nat.le_of_ble_eq_true rfl) ?_
  refine r_iload_n 0 dX6_above_0 rfl rfl ?_
  refine r_if_ne 8 dX6_above_1 (by decide) (fun c_1 => ?_) (fun c_1 => ?_)
  · skip
    have n_1 : ¬ 0 = 0 := n_ne0 (by omega) c_1
    exact absurd n_1 (by decide)
  · skip
    have n_1 : 0 = 0 := n_eq0 (by omega) c_1
    refine r_iconst (v := (-1)) dX6_above_4 (by decide +kernel) ?_
    refine r_goto 20 dX6_above_5 (by decide) ?_
    refine e_iret dX6_above_20 rfl ?_
    exact ⟨rfl, rfl⟩
theorem M_above_1 {d : Nat} {h : Hp} : gC (d) (0) (0) m_X6_above [.int (nI 1)] (h) (Ret (some (.int (nI 0))) h) := by
  refine gC.of (ls := [some (.int (nI 1))]) (by decide +kernel) rfl rfl rfl rfl (Nat.le_of_ble_eq_true rfl) ?_
  refine r_iload_n 0 dX6_above_0 rfl rfl ?_
  refine r_if_ne 8 dX6_above_1 (by decide) (fun c_1 => ?_) (fun c_1 => ?_)
  · skip
    have n_1 : ¬ 1 = 0 := n_ne0 (by omega) c_1
    refine r_iload_n 0 dX6_above_8 rfl rfl ?_
    refine r_iconst (v := nI 3) dX6_above_9 rfl ?_
    refine r_icmp_le 19 dX6_above_10 (by decide) (fun c_10 => ?_) (fun c_10 => ?_)
    · skip
      have n_10 : 1 ≤ 3 := n_le (by omega) (by omega) c_10
      refine r_iconst (v := nI 0) dX6_above_19 rfl ?_
      refine e_iret dX6_above_20 rfl ?_
      exact ⟨rfl, rfl⟩
    · skip
      have n_10 : 3 < 1 := n_len (by omega) (by omega) c_10
      exact absurd n_10 (by decide)
  · skip
    have n_1 : 1 = 0 := n_eq0 (by omega) c_1
    exact absurd n_1 (by decide)
theorem M_above_2 {d : Nat} {h : Hp} : gC (d) (0) (0) m_X6_above [.int (nI 2)] (h) (Ret (some (.int (nI 0))) h) := by
  refine gC.of (ls := [some (.int (nI 2))]) (by decide +kernel) rfl rfl rfl rfl (Nat.le_of_ble_eq_true rfl) ?_
  refine r_iload_n 0 dX6_above_0 rfl rfl ?_
  refine r_if_ne 8 dX6_above_1 (by decide) (fun c_1 => ?_) (fun c_1 => ?_)
  · skip
    have n_1 : ¬ 2 = 0 := n_ne0 (by omega) c_1
    refine r_iload_n 0 dX6_above_8 rfl rfl ?_
    refine r_iconst (v := nI 3) dX6_above_9 rfl ?_
    refine r_icmp_le 19 dX6_above_10 (by decide) (fun c_10 => ?_) (fun c_10 => ?_)
    · skip
      have n_10 : 2 ≤ 3 := n_le (by omega) (by omega) c_10
      refine r_iconst (v := nI 0) dX6_above_19 rfl ?_
      refine e_iret dX6_above_20 rfl ?_
      exact ⟨rfl, rfl⟩
    · skip
      have n_10 : 3 < 2 := n_len (by omega) (by omega) c_10
      exact absurd n_10 (by decide)
  · skip
    have n_1 : 2 = 0 := n_eq0 (by omega) c_1
    exact absurd n_1 (by decide)
theorem M_above_3 {d : Nat} {h : Hp} : gC (d) (0) (0) m_X6_above [.int (nI 3)] (h) (Ret (some (.int (nI 0))) h) := by
  refine gC.of (ls := [some (.int (nI 3))]) (by decide +kernel) rfl rfl rfl rfl (Nat.le_of_ble_eq_true rfl) ?_
  refine r_iload_n 0 dX6_above_0 rfl rfl ?_
  refine r_if_ne 8 dX6_above_1 (by decide) (fun c_1 => ?_) (fun c_1 => ?_)
  · skip
    have n_1 : ¬ 3 = 0 := n_ne0 (by omega) c_1
    refine r_iload_n 0 dX6_above_8 rfl rfl ?_
    refine r_iconst (v := nI 3) dX6_above_9 rfl ?_
    refine r_icmp_le 19 dX6_above_10 (by decide) (fun c_10 => ?_) (fun c_10 => ?_)
    · skip
      have n_10 : 3 ≤ 3 := n_le (by omega) (by omega) c_10
      refine r_iconst (v := nI 0) dX6_above_19 rfl ?_
      refine e_iret dX6_above_20 rfl ?_
      exact ⟨rfl, rfl⟩
    · skip
      have n_10 : 3 < 3 := n_len (by omega) (by omega) c_10
      exact absurd n_10 (by decide)
  · skip
    have n_1 : 3 = 0 := n_eq0 (by omega) c_1
    exact absurd n_1 (by decide)
theorem M_above_4 {d : Nat} {h : Hp} : gC (d) (0) (0) m_X6_above [.int (nI 4)] (h) (Ret (some (.int (nI 1))) h) := by
  refine gC.of (ls := [some (.int (nI 4))]) (by decide +kernel) rfl rfl rfl rfl (Nat.le_of_ble_eq_true rfl) ?_
  refine r_iload_n 0 dX6_above_0 rfl rfl ?_
  refine r_if_ne 8 dX6_above_1 (by decide) (fun c_1 => ?_) (fun c_1 => ?_)
  · skip
    have n_1 : ¬ 4 = 0 := n_ne0 (by omega) c_1
    refine r_iload_n 0 dX6_above_8 rfl rfl ?_
    refine r_iconst (v := nI 3) dX6_above_9 rfl ?_
    refine r_icmp_le 19 dX6_above_10 (by decide) (fun c_10 => ?_) (fun c_10 => ?_)
    · skip
      have n_10 : 4 ≤ 3 := n_le (by omega) (by omega) c_10
      exact absurd n_10 (by decide)
    · skip
      have n_10 : 3 < 4 := n_len (by omega) (by omega) c_10
      refine r_iload_n 0 dX6_above_13 rfl rfl ?_
      refine r_iconst (v := nI 3) dX6_above_14 rfl ?_
      refine r_isub dX6_above_15 ?_
      refine r_goto 20 dX6_above_16 (by decide) ?_
      refine e_iret dX6_above_20 rfl ?_
      exact ⟨rfl, rfl⟩
  · skip
    have n_1 : 4 = 0 := n_eq0 (by omega) c_1
    exact absurd n_1 (by decide)
theorem M_above_5 {d : Nat} {h : Hp} : gC (d) (0) (0) m_X6_above [.int (nI 5)] (h) (Ret (some (.int (nI 2))) h) := by
  refine gC.of (ls := [some (.int (nI 5))]) (by decide +kernel) rfl rfl rfl rfl (Nat.le_of_ble_eq_true rfl) ?_
  refine r_iload_n 0 dX6_above_0 rfl rfl ?_
  refine r_if_ne 8 dX6_above_1 (by decide) (fun c_1 => ?_) (fun c_1 => ?_)
  · skip
    have n_1 : ¬ 5 = 0 := n_ne0 (by omega) c_1
    refine r_iload_n 0 dX6_above_8 rfl rfl ?_
    refine r_iconst (v := nI 3) dX6_above_9 rfl ?_
    refine r_icmp_le 19 dX6_above_10 (by decide) (fun c_10 => ?_) (fun c_10 => ?_)
    · skip
      have n_10 : 5 ≤ 3 := n_le (by omega) (by omega) c_10
      exact absurd n_10 (by decide)
    · skip
      have n_10 : 3 < 5 := n_len (by omega) (by omega) c_10
      refine r_iload_n 0 dX6_above_13 rfl rfl ?_
      refine r_iconst (v := nI 3) dX6_above_14 rfl ?_
      refine r_isub dX6_above_15 ?_
      refine r_goto 20 dX6_above_16 (by decide) ?_
      refine e_iret dX6_above_20 rfl ?_
      exact ⟨rfl, rfl⟩
  · skip
    have n_1 : 5 = 0 := n_eq0 (by omega) c_1
    exact absurd n_1 (by decide)
theorem M_above_6 {d : Nat} {h : Hp} : gC (d) (0) (0) m_X6_above [.int (nI 6)] (h) (Ret (some (.int (nI 3))) h) := by
  refine gC.of (ls := [some (.int (nI 6))]) (by decide +kernel) rfl rfl rfl rfl (Nat.le_of_ble_eq_true rfl) ?_
  refine r_iload_n 0 dX6_above_0 rfl rfl ?_
  refine r_if_ne 8 dX6_above_1 (by decide) (fun c_1 => ?_) (fun c_1 => ?_)
  · skip
    have n_1 : ¬ 6 = 0 := n_ne0 (by omega) c_1
    refine r_iload_n 0 dX6_above_8 rfl rfl ?_
    refine r_iconst (v := nI 3) dX6_above_9 rfl ?_
    refine r_icmp_le 19 dX6_above_10 (by decide) (fun c_10 => ?_) (fun c_10 => ?_)
    · skip
      have n_10 : 6 ≤ 3 := n_le (by omega) (by omega) c_10
      exact absurd n_10 (by decide)
    · skip
      have n_10 : 3 < 6 := n_len (by omega) (by omega) c_10
      refine r_iload_n 0 dX6_above_13 rfl rfl ?_
      refine r_iconst (v := nI 3) dX6_above_14 rfl ?_
      refine r_isub dX6_above_15 ?_
      refine r_goto 20 dX6_above_16 (by decide) ?_
      refine e_iret dX6_above_20 rfl ?_
      exact ⟨rfl, rfl⟩
  · skip
    have n_1 : 6 = 0 := n_eq0 (by omega) c_1
    exact absurd n_1 (by decide)
theorem A_as {d : Nat} {h : Hp} (hm : LayM (hS h) (hR h)) {r o : Row} (w : WF r) (ho : o 15 = -1) {p v : Int32} : gC (d + 2) (0) (0) m_X6_as [.ref 66, .int p, .int v] (MH h r o) (RA h (aAs (mS h r o) p v)) := by
  have e_0 : aAs (mS h r o) p v = (if inB p 0 (r 2 - 1) = true then (if inB v (nI 0) (nI 6) = true then (if isOfB (kindN r (toN p)) (toN v) = true then (pv r (toN p) 1, (mS h r o)) else errA (mS h r o) (-1000000005) 5) else errA (mS h r o) (-1000000001) 1) else errA (mS h r o) (-1000000001) 1) := rfl
  rw [e_0]
  have hn8 := w.n8
  refine gC.of (ls := [some (.ref 66), some (.int p), some (.int v), none]) (by decide +kernel) rfl rfl rfl rfl (Nat.le_of_ble_eq_true rfl) ?_
  refine r_aload_n 0 dX6_as_0 rfl rfl rfl ?_
  refine r_iload_n 1 dX6_as_1 rfl rfl ?_
  refine r_callV_1 dX6_as_2 kX6_62 (M_isOne hm) (gRecv.of hm.s66 rfl) rfl rfl (Nat.le_of_ble_eq_true rfl) ?_
  refine r_if_eq 18 dX6_as_5 (by decide) (fun c_5 => ?_) (fun c_5 => ?_)
  · skip
    have n_5 : _ = false := b2_f c_5
    first | rw [ifT n_5] | rw [ifF n_5] | skip
    refine r_aload_n 0 dX6_as_18 rfl rfl rfl ?_
    refine r_ldc (v := -1000000001) dX6_as_19 q1511 ?_
    refine r_callV_1 dX6_as_21 kX6_53 (M_errs hm (e := (-1000000001 : Int32)) 1 (by decide +kernel) (by decide)) (gRecv.of hm.s66 rfl) rfl rfl (Nat.le_of_ble_eq_true rfl) ?_
    refine e_iret dX6_as_24 rfl ?_
    exact RA.mk (Jo.r) ho ((FrM.r).b (by decide)) (rfl) (rfl)
  · skip
    have n_5 : _ = true := b2_t c_5
    first | rw [ifT n_5] | rw [ifF n_5] | skip
    obtain ⟨k, h_k, rfl⟩ := one_of w n_5
    have hn8 := w.n8
    have e_k : toN (nI k) = k := toN_nI (by omega)
    try simp only [e_k]
    refine r_iload_n 2 dX6_as_8 rfl rfl ?_
    refine r_iconst (v := nI 0) dX6_as_9 rfl ?_
    refine r_bipush (v := nI 6) dX6_as_10 (by decide +kernel) ?_
    refine r_callS_1 dX6_as_12 kX6_48 (M_in)  rfl rfl (Nat.le_of_ble_eq_true rfl) ?_
    refine r_if_ne 25 dX6_as_15 (by decide) (fun c_15 => ?_) (fun c_15 => ?_)
    · skip
      have n_15 : _ = true := b2_t c_15
      first | rw [ifT n_15] | rw [ifF n_15] | skip
      obtain ⟨c, h_c, rfl⟩ := inB_n (by decide) n_15
      have e_c : toN (nI c) = c := toN_nI (by omega)
      try simp only [e_c]
      obtain ⟨q, m9, hk, h7, -, -⟩ := w.K k (by omega)
      refine r_aload_n 0 dX6_as_25 rfl rfl rfl ?_
      refine r_iload_n 1 dX6_as_26 rfl rfl ?_
      refine r_iconst (v := nI 0) dX6_as_27 rfl ?_
      refine r_callV_1 dX6_as_28 kX6_75 (M_its (p := k) (w := 0) hm (by omega)) (gRecv.of hm.s66 rfl) rfl rfl (Nat.le_of_ble_eq_true rfl) ?_
      refine r_eqi (show _ = nI (q) from hk) ?_
      refine r_istore_n 3 dX6_as_31 rfl (by decide) rfl ?_
      refine gG_ls (ls' := [_, _, _, _]) rfl ?_
      rcases (show q = 0 ∨ q = 1 ∨ q = 2 ∨ q = 3 ∨ q = 4 ∨ q = 5 ∨ q = 6 by omega) with rfl | rfl | rfl | rfl | rfl | rfl | rfl
      · skip
        refine r_iload_n 3 dX6_as_32 rfl rfl ?_
        refine r_if_lt 49 dX6_as_33 (by decide) (fun c_33 => ?_) (fun c_33 => ?_)
        · skip
          have n_33 : False := n_lt0 (by omega) c_33
          exact absurd n_33 (by decide)
        · skip
          have n_33 : True := n_lt0n (by omega) c_33
          refine r_iload_n 3 dX6_as_36 rfl rfl ?_
          refine r_iload_n 2 dX6_as_37 rfl rfl ?_
          refine r_icmp_eq 49 dX6_as_38 (by decide) (fun c_38 => ?_) (fun c_38 => ?_)
          · skip
            have n_38 : 0 = c := n_eq (by omega) (by omega) c_38
            refine r_iload_n 3 dX6_as_49 rfl rfl ?_
            refine r_if_ge 62 dX6_as_50 (by decide) (fun c_50 => ?_) (fun c_50 => ?_)
            · skip
              have n_50 : True := n_ge0 (by omega) c_50
              rw [kindN_of hk h7, ifT (show isOfB 0 c = true from by rw [← n_38]; rfl)]
              refine r_aload_n 0 dX6_as_62 rfl rfl rfl ?_
              refine r_iload_n 1 dX6_as_63 rfl rfl ?_
              refine r_iconst (v := nI 1) dX6_as_64 rfl ?_
              refine r_callV_1 dX6_as_65 kX6_75 (M_its (p := k) (w := 1) hm (by omega)) (gRecv.of hm.s66 rfl) rfl rfl (Nat.le_of_ble_eq_true rfl) ?_
              refine e_iret dX6_as_68 rfl ?_
              exact RA.mk (Jo.r) ho (FrM.r) (rfl) (rfl)
            · skip
              have n_50 : False := n_ge0n (by omega) c_50
              exact absurd n_50 (by decide)
          · skip
            have n_38 : ¬ 0 = c := n_eqn (by omega) (by omega) c_38
            refine r_iload_n 3 dX6_as_41 rfl rfl ?_
            refine r_callS_1 dX6_as_42 kX6_89 (M_above_0)  rfl rfl (Nat.le_of_ble_eq_true rfl) ?_
            refine r_istore_n 3 dX6_as_45 rfl (by decide) rfl ?_
            refine gG_ls (ls' := [_, _, _, _]) rfl ?_
            refine r_goto 32 dX6_as_46 (by decide) ?_
            refine r_iload_n 3 dX6_as_32 rfl rfl ?_
            refine r_if_lt 49 dX6_as_33 (by decide) (fun c_33 => ?_) (fun c_33 => ?_)
            · skip
              refine r_iload_n 3 dX6_as_49 rfl rfl ?_
              refine r_if_ge 62 dX6_as_50 (by decide) (fun c_50 => ?_) (fun c_50 => ?_)
              · skip
                exact absurd c_50 (by decide)
              · skip
                rw [kindN_of hk h7, ifF (show isOfB 0 c = false from (by decide : ∀ c, c < 7 → ¬ 0 = c → isOfB 0 c = false) c (by omega) (by assumption))]
                refine r_aload_n 0 dX6_as_53 rfl rfl rfl ?_
                refine r_ldc (v := -1000000005) dX6_as_54 q1639 ?_
                refine r_callV_1 dX6_as_56 kX6_53 (M_errs hm (e := (-1000000005 : Int32)) 5 (by decide +kernel) (by decide)) (gRecv.of hm.s66 rfl) rfl rfl (Nat.le_of_ble_eq_true rfl) ?_
                refine r_goto 68 dX6_as_59 (by decide) ?_
                refine e_iret dX6_as_68 rfl ?_
                exact RA.mk (Jo.r) ho ((FrM.r).b (by decide)) (rfl) (rfl)
            · skip
              exact absurd (by decide) c_33
      · skip
        refine r_iload_n 3 dX6_as_32 rfl rfl ?_
        refine r_if_lt 49 dX6_as_33 (by decide) (fun c_33 => ?_) (fun c_33 => ?_)
        · skip
          have n_33 : False := n_lt0 (by omega) c_33
          exact absurd n_33 (by decide)
        · skip
          have n_33 : True := n_lt0n (by omega) c_33
          refine r_iload_n 3 dX6_as_36 rfl rfl ?_
          refine r_iload_n 2 dX6_as_37 rfl rfl ?_
          refine r_icmp_eq 49 dX6_as_38 (by decide) (fun c_38 => ?_) (fun c_38 => ?_)
          · skip
            have n_38 : 1 = c := n_eq (by omega) (by omega) c_38
            refine r_iload_n 3 dX6_as_49 rfl rfl ?_
            refine r_if_ge 62 dX6_as_50 (by decide) (fun c_50 => ?_) (fun c_50 => ?_)
            · skip
              have n_50 : True := n_ge0 (by omega) c_50
              rw [kindN_of hk h7, ifT (show isOfB 1 c = true from by rw [← n_38]; rfl)]
              refine r_aload_n 0 dX6_as_62 rfl rfl rfl ?_
              refine r_iload_n 1 dX6_as_63 rfl rfl ?_
              refine r_iconst (v := nI 1) dX6_as_64 rfl ?_
              refine r_callV_1 dX6_as_65 kX6_75 (M_its (p := k) (w := 1) hm (by omega)) (gRecv.of hm.s66 rfl) rfl rfl (Nat.le_of_ble_eq_true rfl) ?_
              refine e_iret dX6_as_68 rfl ?_
              exact RA.mk (Jo.r) ho (FrM.r) (rfl) (rfl)
            · skip
              have n_50 : False := n_ge0n (by omega) c_50
              exact absurd n_50 (by decide)
          · skip
            have n_38 : ¬ 1 = c := n_eqn (by omega) (by omega) c_38
            refine r_iload_n 3 dX6_as_41 rfl rfl ?_
            refine r_callS_1 dX6_as_42 kX6_89 (M_above_1)  rfl rfl (Nat.le_of_ble_eq_true rfl) ?_
            refine r_istore_n 3 dX6_as_45 rfl (by decide) rfl ?_
            refine gG_ls (ls' := [_, _, _, _]) rfl ?_
            refine r_goto 32 dX6_as_46 (by decide) ?_
            refine r_iload_n 3 dX6_as_32 rfl rfl ?_
            refine r_if_lt 49 dX6_as_33 (by decide) (fun c_33 => ?_) (fun c_33 => ?_)
            · skip
              have n_33 : False := n_lt0 (by omega) c_33
              exact absurd n_33 (by decide)
            · skip
              have n_33 : True := n_lt0n (by omega) c_33
              refine r_iload_n 3 dX6_as_36 rfl rfl ?_
              refine r_iload_n 2 dX6_as_37 rfl rfl ?_
              refine r_icmp_eq 49 dX6_as_38 (by decide) (fun c_38 => ?_) (fun c_38 => ?_)
              · skip
                have n_38 : 0 = c := n_eq (by omega) (by omega) c_38
                refine r_iload_n 3 dX6_as_49 rfl rfl ?_
                refine r_if_ge 62 dX6_as_50 (by decide) (fun c_50 => ?_) (fun c_50 => ?_)
                · skip
                  have n_50 : True := n_ge0 (by omega) c_50
                  rw [kindN_of hk h7, ifT (show isOfB 1 c = true from by rw [← n_38]; rfl)]
                  refine r_aload_n 0 dX6_as_62 rfl rfl rfl ?_
                  refine r_iload_n 1 dX6_as_63 rfl rfl ?_
                  refine r_iconst (v := nI 1) dX6_as_64 rfl ?_
                  refine r_callV_1 dX6_as_65 kX6_75 (M_its (p := k) (w := 1) hm (by omega)) (gRecv.of hm.s66 rfl) rfl rfl (Nat.le_of_ble_eq_true rfl) ?_
                  refine e_iret dX6_as_68 rfl ?_
                  exact RA.mk (Jo.r) ho (FrM.r) (rfl) (rfl)
                · skip
                  have n_50 : False := n_ge0n (by omega) c_50
                  exact absurd n_50 (by decide)
              · skip
                have n_38 : ¬ 0 = c := n_eqn (by omega) (by omega) c_38
                refine r_iload_n 3 dX6_as_41 rfl rfl ?_
                refine r_callS_1 dX6_as_42 kX6_89 (M_above_0)  rfl rfl (Nat.le_of_ble_eq_true rfl) ?_
                refine r_istore_n 3 dX6_as_45 rfl (by decide) rfl ?_
                refine gG_ls (ls' := [_, _, _, _]) rfl ?_
                refine r_goto 32 dX6_as_46 (by decide) ?_
                refine r_iload_n 3 dX6_as_32 rfl rfl ?_
                refine r_if_lt 49 dX6_as_33 (by decide) (fun c_33 => ?_) (fun c_33 => ?_)
                · skip
                  refine r_iload_n 3 dX6_as_49 rfl rfl ?_
                  refine r_if_ge 62 dX6_as_50 (by decide) (fun c_50 => ?_) (fun c_50 => ?_)
                  · skip
                    exact absurd c_50 (by decide)
                  · skip
                    rw [kindN_of hk h7, ifF (show isOfB 1 c = false from (by decide : ∀ c, c < 7 → ¬ 1 = c → ¬ 0 = c → isOfB 1 c = false) c (by omega) (by assumption) (by assumption))]
                    refine r_aload_n 0 dX6_as_53 rfl rfl rfl ?_
                    refine r_ldc (v := -1000000005) dX6_as_54 q1639 ?_
                    refine r_callV_1 dX6_as_56 kX6_53 (M_errs hm (e := (-1000000005 : Int32)) 5 (by decide +kernel) (by decide)) (gRecv.of hm.s66 rfl) rfl rfl (Nat.le_of_ble_eq_true rfl) ?_
                    refine r_goto 68 dX6_as_59 (by decide) ?_
                    refine e_iret dX6_as_68 rfl ?_
                    exact RA.mk (Jo.r) ho ((FrM.r).b (by decide)) (rfl) (rfl)
                · skip
                  exact absurd (by decide) c_33
      · skip
        refine r_iload_n 3 dX6_as_32 rfl rfl ?_
        refine r_if_lt 49 dX6_as_33 (by decide) (fun c_33 => ?_) (fun c_33 => ?_)
        · skip
          have n_33 : False := n_lt0 (by omega) c_33
          exact absurd n_33 (by decide)
        · skip
          have n_33 : True := n_lt0n (by omega) c_33
          refine r_iload_n 3 dX6_as_36 rfl rfl ?_
          refine r_iload_n 2 dX6_as_37 rfl rfl ?_
          refine r_icmp_eq 49 dX6_as_38 (by decide) (fun c_38 => ?_) (fun c_38 => ?_)
          · skip
            have n_38 : 2 = c := n_eq (by omega) (by omega) c_38
            refine r_iload_n 3 dX6_as_49 rfl rfl ?_
            refine r_if_ge 62 dX6_as_50 (by decide) (fun c_50 => ?_) (fun c_50 => ?_)
            · skip
              have n_50 : True := n_ge0 (by omega) c_50
              rw [kindN_of hk h7, ifT (show isOfB 2 c = true from by rw [← n_38]; rfl)]
              refine r_aload_n 0 dX6_as_62 rfl rfl rfl ?_
              refine r_iload_n 1 dX6_as_63 rfl rfl ?_
              refine r_iconst (v := nI 1) dX6_as_64 rfl ?_
              refine r_callV_1 dX6_as_65 kX6_75 (M_its (p := k) (w := 1) hm (by omega)) (gRecv.of hm.s66 rfl) rfl rfl (Nat.le_of_ble_eq_true rfl) ?_
              refine e_iret dX6_as_68 rfl ?_
              exact RA.mk (Jo.r) ho (FrM.r) (rfl) (rfl)
            · skip
              have n_50 : False := n_ge0n (by omega) c_50
              exact absurd n_50 (by decide)
          · skip
            have n_38 : ¬ 2 = c := n_eqn (by omega) (by omega) c_38
            refine r_iload_n 3 dX6_as_41 rfl rfl ?_
            refine r_callS_1 dX6_as_42 kX6_89 (M_above_2)  rfl rfl (Nat.le_of_ble_eq_true rfl) ?_
            refine r_istore_n 3 dX6_as_45 rfl (by decide) rfl ?_
            refine gG_ls (ls' := [_, _, _, _]) rfl ?_
            refine r_goto 32 dX6_as_46 (by decide) ?_
            refine r_iload_n 3 dX6_as_32 rfl rfl ?_
            refine r_if_lt 49 dX6_as_33 (by decide) (fun c_33 => ?_) (fun c_33 => ?_)
            · skip
              have n_33 : False := n_lt0 (by omega) c_33
              exact absurd n_33 (by decide)
            · skip
              have n_33 : True := n_lt0n (by omega) c_33
              refine r_iload_n 3 dX6_as_36 rfl rfl ?_
              refine r_iload_n 2 dX6_as_37 rfl rfl ?_
              refine r_icmp_eq 49 dX6_as_38 (by decide) (fun c_38 => ?_) (fun c_38 => ?_)
              · skip
                have n_38 : 0 = c := n_eq (by omega) (by omega) c_38
                refine r_iload_n 3 dX6_as_49 rfl rfl ?_
                refine r_if_ge 62 dX6_as_50 (by decide) (fun c_50 => ?_) (fun c_50 => ?_)
                · skip
                  have n_50 : True := n_ge0 (by omega) c_50
                  rw [kindN_of hk h7, ifT (show isOfB 2 c = true from by rw [← n_38]; rfl)]
                  refine r_aload_n 0 dX6_as_62 rfl rfl rfl ?_
                  refine r_iload_n 1 dX6_as_63 rfl rfl ?_
                  refine r_iconst (v := nI 1) dX6_as_64 rfl ?_
                  refine r_callV_1 dX6_as_65 kX6_75 (M_its (p := k) (w := 1) hm (by omega)) (gRecv.of hm.s66 rfl) rfl rfl (Nat.le_of_ble_eq_true rfl) ?_
                  refine e_iret dX6_as_68 rfl ?_
                  exact RA.mk (Jo.r) ho (FrM.r) (rfl) (rfl)
                · skip
                  have n_50 : False := n_ge0n (by omega) c_50
                  exact absurd n_50 (by decide)
              · skip
                have n_38 : ¬ 0 = c := n_eqn (by omega) (by omega) c_38
                refine r_iload_n 3 dX6_as_41 rfl rfl ?_
                refine r_callS_1 dX6_as_42 kX6_89 (M_above_0)  rfl rfl (Nat.le_of_ble_eq_true rfl) ?_
                refine r_istore_n 3 dX6_as_45 rfl (by decide) rfl ?_
                refine gG_ls (ls' := [_, _, _, _]) rfl ?_
                refine r_goto 32 dX6_as_46 (by decide) ?_
                refine r_iload_n 3 dX6_as_32 rfl rfl ?_
                refine r_if_lt 49 dX6_as_33 (by decide) (fun c_33 => ?_) (fun c_33 => ?_)
                · skip
                  refine r_iload_n 3 dX6_as_49 rfl rfl ?_
                  refine r_if_ge 62 dX6_as_50 (by decide) (fun c_50 => ?_) (fun c_50 => ?_)
                  · skip
                    exact absurd c_50 (by decide)
                  · skip
                    rw [kindN_of hk h7, ifF (show isOfB 2 c = false from (by decide : ∀ c, c < 7 → ¬ 2 = c → ¬ 0 = c → isOfB 2 c = false) c (by omega) (by assumption) (by assumption))]
                    refine r_aload_n 0 dX6_as_53 rfl rfl rfl ?_
                    refine r_ldc (v := -1000000005) dX6_as_54 q1639 ?_
                    refine r_callV_1 dX6_as_56 kX6_53 (M_errs hm (e := (-1000000005 : Int32)) 5 (by decide +kernel) (by decide)) (gRecv.of hm.s66 rfl) rfl rfl (Nat.le_of_ble_eq_true rfl) ?_
                    refine r_goto 68 dX6_as_59 (by decide) ?_
                    refine e_iret dX6_as_68 rfl ?_
                    exact RA.mk (Jo.r) ho ((FrM.r).b (by decide)) (rfl) (rfl)
                · skip
                  exact absurd (by decide) c_33
      · skip
        refine r_iload_n 3 dX6_as_32 rfl rfl ?_
        refine r_if_lt 49 dX6_as_33 (by decide) (fun c_33 => ?_) (fun c_33 => ?_)
        · skip
          have n_33 : False := n_lt0 (by omega) c_33
          exact absurd n_33 (by decide)
        · skip
          have n_33 : True := n_lt0n (by omega) c_33
          refine r_iload_n 3 dX6_as_36 rfl rfl ?_
          refine r_iload_n 2 dX6_as_37 rfl rfl ?_
          refine r_icmp_eq 49 dX6_as_38 (by decide) (fun c_38 => ?_) (fun c_38 => ?_)
          · skip
            have n_38 : 3 = c := n_eq (by omega) (by omega) c_38
            refine r_iload_n 3 dX6_as_49 rfl rfl ?_
            refine r_if_ge 62 dX6_as_50 (by decide) (fun c_50 => ?_) (fun c_50 => ?_)
            · skip
              have n_50 : True := n_ge0 (by omega) c_50
              rw [kindN_of hk h7, ifT (show isOfB 3 c = true from by rw [← n_38]; rfl)]
              refine r_aload_n 0 dX6_as_62 rfl rfl rfl ?_
              refine r_iload_n 1 dX6_as_63 rfl rfl ?_
              refine r_iconst (v := nI 1) dX6_as_64 rfl ?_
              refine r_callV_1 dX6_as_65 kX6_75 (M_its (p := k) (w := 1) hm (by omega)) (gRecv.of hm.s66 rfl) rfl rfl (Nat.le_of_ble_eq_true rfl) ?_
              refine e_iret dX6_as_68 rfl ?_
              exact RA.mk (Jo.r) ho (FrM.r) (rfl) (rfl)
            · skip
              have n_50 : False := n_ge0n (by omega) c_50
              exact absurd n_50 (by decide)
          · skip
            have n_38 : ¬ 3 = c := n_eqn (by omega) (by omega) c_38
            refine r_iload_n 3 dX6_as_41 rfl rfl ?_
            refine r_callS_1 dX6_as_42 kX6_89 (M_above_3)  rfl rfl (Nat.le_of_ble_eq_true rfl) ?_
            refine r_istore_n 3 dX6_as_45 rfl (by decide) rfl ?_
            refine gG_ls (ls' := [_, _, _, _]) rfl ?_
            refine r_goto 32 dX6_as_46 (by decide) ?_
            refine r_iload_n 3 dX6_as_32 rfl rfl ?_
            refine r_if_lt 49 dX6_as_33 (by decide) (fun c_33 => ?_) (fun c_33 => ?_)
            · skip
              have n_33 : False := n_lt0 (by omega) c_33
              exact absurd n_33 (by decide)
            · skip
              have n_33 : True := n_lt0n (by omega) c_33
              refine r_iload_n 3 dX6_as_36 rfl rfl ?_
              refine r_iload_n 2 dX6_as_37 rfl rfl ?_
              refine r_icmp_eq 49 dX6_as_38 (by decide) (fun c_38 => ?_) (fun c_38 => ?_)
              · skip
                have n_38 : 0 = c := n_eq (by omega) (by omega) c_38
                refine r_iload_n 3 dX6_as_49 rfl rfl ?_
                refine r_if_ge 62 dX6_as_50 (by decide) (fun c_50 => ?_) (fun c_50 => ?_)
                · skip
                  have n_50 : True := n_ge0 (by omega) c_50
                  rw [kindN_of hk h7, ifT (show isOfB 3 c = true from by rw [← n_38]; rfl)]
                  refine r_aload_n 0 dX6_as_62 rfl rfl rfl ?_
                  refine r_iload_n 1 dX6_as_63 rfl rfl ?_
                  refine r_iconst (v := nI 1) dX6_as_64 rfl ?_
                  refine r_callV_1 dX6_as_65 kX6_75 (M_its (p := k) (w := 1) hm (by omega)) (gRecv.of hm.s66 rfl) rfl rfl (Nat.le_of_ble_eq_true rfl) ?_
                  refine e_iret dX6_as_68 rfl ?_
                  exact RA.mk (Jo.r) ho (FrM.r) (rfl) (rfl)
                · skip
                  have n_50 : False := n_ge0n (by omega) c_50
                  exact absurd n_50 (by decide)
              · skip
                have n_38 : ¬ 0 = c := n_eqn (by omega) (by omega) c_38
                refine r_iload_n 3 dX6_as_41 rfl rfl ?_
                refine r_callS_1 dX6_as_42 kX6_89 (M_above_0)  rfl rfl (Nat.le_of_ble_eq_true rfl) ?_
                refine r_istore_n 3 dX6_as_45 rfl (by decide) rfl ?_
                refine gG_ls (ls' := [_, _, _, _]) rfl ?_
                refine r_goto 32 dX6_as_46 (by decide) ?_
                refine r_iload_n 3 dX6_as_32 rfl rfl ?_
                refine r_if_lt 49 dX6_as_33 (by decide) (fun c_33 => ?_) (fun c_33 => ?_)
                · skip
                  refine r_iload_n 3 dX6_as_49 rfl rfl ?_
                  refine r_if_ge 62 dX6_as_50 (by decide) (fun c_50 => ?_) (fun c_50 => ?_)
                  · skip
                    exact absurd c_50 (by decide)
                  · skip
                    rw [kindN_of hk h7, ifF (show isOfB 3 c = false from (by decide : ∀ c, c < 7 → ¬ 3 = c → ¬ 0 = c → isOfB 3 c = false) c (by omega) (by assumption) (by assumption))]
                    refine r_aload_n 0 dX6_as_53 rfl rfl rfl ?_
                    refine r_ldc (v := -1000000005) dX6_as_54 q1639 ?_
                    refine r_callV_1 dX6_as_56 kX6_53 (M_errs hm (e := (-1000000005 : Int32)) 5 (by decide +kernel) (by decide)) (gRecv.of hm.s66 rfl) rfl rfl (Nat.le_of_ble_eq_true rfl) ?_
                    refine r_goto 68 dX6_as_59 (by decide) ?_
                    refine e_iret dX6_as_68 rfl ?_
                    exact RA.mk (Jo.r) ho ((FrM.r).b (by decide)) (rfl) (rfl)
                · skip
                  exact absurd (by decide) c_33
      · skip
        refine r_iload_n 3 dX6_as_32 rfl rfl ?_
        refine r_if_lt 49 dX6_as_33 (by decide) (fun c_33 => ?_) (fun c_33 => ?_)
        · skip
          have n_33 : False := n_lt0 (by omega) c_33
          exact absurd n_33 (by decide)
        · skip
          have n_33 : True := n_lt0n (by omega) c_33
          refine r_iload_n 3 dX6_as_36 rfl rfl ?_
          refine r_iload_n 2 dX6_as_37 rfl rfl ?_
          refine r_icmp_eq 49 dX6_as_38 (by decide) (fun c_38 => ?_) (fun c_38 => ?_)
          · skip
            have n_38 : 4 = c := n_eq (by omega) (by omega) c_38
            refine r_iload_n 3 dX6_as_49 rfl rfl ?_
            refine r_if_ge 62 dX6_as_50 (by decide) (fun c_50 => ?_) (fun c_50 => ?_)
            · skip
              have n_50 : True := n_ge0 (by omega) c_50
              rw [kindN_of hk h7, ifT (show isOfB 4 c = true from by rw [← n_38]; rfl)]
              refine r_aload_n 0 dX6_as_62 rfl rfl rfl ?_
              refine r_iload_n 1 dX6_as_63 rfl rfl ?_
              refine r_iconst (v := nI 1) dX6_as_64 rfl ?_
              refine r_callV_1 dX6_as_65 kX6_75 (M_its (p := k) (w := 1) hm (by omega)) (gRecv.of hm.s66 rfl) rfl rfl (Nat.le_of_ble_eq_true rfl) ?_
              refine e_iret dX6_as_68 rfl ?_
              exact RA.mk (Jo.r) ho (FrM.r) (rfl) (rfl)
            · skip
              have n_50 : False := n_ge0n (by omega) c_50
              exact absurd n_50 (by decide)
          · skip
            have n_38 : ¬ 4 = c := n_eqn (by omega) (by omega) c_38
            refine r_iload_n 3 dX6_as_41 rfl rfl ?_
            refine r_callS_1 dX6_as_42 kX6_89 (M_above_4)  rfl rfl (Nat.le_of_ble_eq_true rfl) ?_
            refine r_istore_n 3 dX6_as_45 rfl (by decide) rfl ?_
            refine gG_ls (ls' := [_, _, _, _]) rfl ?_
            refine r_goto 32 dX6_as_46 (by decide) ?_
            refine r_iload_n 3 dX6_as_32 rfl rfl ?_
            refine r_if_lt 49 dX6_as_33 (by decide) (fun c_33 => ?_) (fun c_33 => ?_)
            · skip
              have n_33 : False := n_lt0 (by omega) c_33
              exact absurd n_33 (by decide)
            · skip
              have n_33 : True := n_lt0n (by omega) c_33
              refine r_iload_n 3 dX6_as_36 rfl rfl ?_
              refine r_iload_n 2 dX6_as_37 rfl rfl ?_
              refine r_icmp_eq 49 dX6_as_38 (by decide) (fun c_38 => ?_) (fun c_38 => ?_)
              · skip
                have n_38 : 1 = c := n_eq (by omega) (by omega) c_38
                refine r_iload_n 3 dX6_as_49 rfl rfl ?_
                refine r_if_ge 62 dX6_as_50 (by decide) (fun c_50 => ?_) (fun c_50 => ?_)
                · skip
                  have n_50 : True := n_ge0 (by omega) c_50
                  rw [kindN_of hk h7, ifT (show isOfB 4 c = true from by rw [← n_38]; rfl)]
                  refine r_aload_n 0 dX6_as_62 rfl rfl rfl ?_
                  refine r_iload_n 1 dX6_as_63 rfl rfl ?_
                  refine r_iconst (v := nI 1) dX6_as_64 rfl ?_
                  refine r_callV_1 dX6_as_65 kX6_75 (M_its (p := k) (w := 1) hm (by omega)) (gRecv.of hm.s66 rfl) rfl rfl (Nat.le_of_ble_eq_true rfl) ?_
                  refine e_iret dX6_as_68 rfl ?_
                  exact RA.mk (Jo.r) ho (FrM.r) (rfl) (rfl)
                · skip
                  have n_50 : False := n_ge0n (by omega) c_50
                  exact absurd n_50 (by decide)
              · skip
                have n_38 : ¬ 1 = c := n_eqn (by omega) (by omega) c_38
                refine r_iload_n 3 dX6_as_41 rfl rfl ?_
                refine r_callS_1 dX6_as_42 kX6_89 (M_above_1)  rfl rfl (Nat.le_of_ble_eq_true rfl) ?_
                refine r_istore_n 3 dX6_as_45 rfl (by decide) rfl ?_
                refine gG_ls (ls' := [_, _, _, _]) rfl ?_
                refine r_goto 32 dX6_as_46 (by decide) ?_
                refine r_iload_n 3 dX6_as_32 rfl rfl ?_
                refine r_if_lt 49 dX6_as_33 (by decide) (fun c_33 => ?_) (fun c_33 => ?_)
                · skip
                  have n_33 : False := n_lt0 (by omega) c_33
                  exact absurd n_33 (by decide)
                · skip
                  have n_33 : True := n_lt0n (by omega) c_33
                  refine r_iload_n 3 dX6_as_36 rfl rfl ?_
                  refine r_iload_n 2 dX6_as_37 rfl rfl ?_
                  refine r_icmp_eq 49 dX6_as_38 (by decide) (fun c_38 => ?_) (fun c_38 => ?_)
                  · skip
                    have n_38 : 0 = c := n_eq (by omega) (by omega) c_38
                    refine r_iload_n 3 dX6_as_49 rfl rfl ?_
                    refine r_if_ge 62 dX6_as_50 (by decide) (fun c_50 => ?_) (fun c_50 => ?_)
                    · skip
                      have n_50 : True := n_ge0 (by omega) c_50
                      rw [kindN_of hk h7, ifT (show isOfB 4 c = true from by rw [← n_38]; rfl)]
                      refine r_aload_n 0 dX6_as_62 rfl rfl rfl ?_
                      refine r_iload_n 1 dX6_as_63 rfl rfl ?_
                      refine r_iconst (v := nI 1) dX6_as_64 rfl ?_
                      refine r_callV_1 dX6_as_65 kX6_75 (M_its (p := k) (w := 1) hm (by omega)) (gRecv.of hm.s66 rfl) rfl rfl (Nat.le_of_ble_eq_true rfl) ?_
                      refine e_iret dX6_as_68 rfl ?_
                      exact RA.mk (Jo.r) ho (FrM.r) (rfl) (rfl)
                    · skip
                      have n_50 : False := n_ge0n (by omega) c_50
                      exact absurd n_50 (by decide)
                  · skip
                    have n_38 : ¬ 0 = c := n_eqn (by omega) (by omega) c_38
                    refine r_iload_n 3 dX6_as_41 rfl rfl ?_
                    refine r_callS_1 dX6_as_42 kX6_89 (M_above_0)  rfl rfl (Nat.le_of_ble_eq_true rfl) ?_
                    refine r_istore_n 3 dX6_as_45 rfl (by decide) rfl ?_
                    refine gG_ls (ls' := [_, _, _, _]) rfl ?_
                    refine r_goto 32 dX6_as_46 (by decide) ?_
                    refine r_iload_n 3 dX6_as_32 rfl rfl ?_
                    refine r_if_lt 49 dX6_as_33 (by decide) (fun c_33 => ?_) (fun c_33 => ?_)
                    · skip
                      refine r_iload_n 3 dX6_as_49 rfl rfl ?_
                      refine r_if_ge 62 dX6_as_50 (by decide) (fun c_50 => ?_) (fun c_50 => ?_)
                      · skip
                        exact absurd c_50 (by decide)
                      · skip
                        rw [kindN_of hk h7, ifF (show isOfB 4 c = false from (by decide : ∀ c, c < 7 → ¬ 4 = c → ¬ 1 = c → ¬ 0 = c → isOfB 4 c = false) c (by omega) (by assumption) (by assumption) (by assumption))]
                        refine r_aload_n 0 dX6_as_53 rfl rfl rfl ?_
                        refine r_ldc (v := -1000000005) dX6_as_54 q1639 ?_
                        refine r_callV_1 dX6_as_56 kX6_53 (M_errs hm (e := (-1000000005 : Int32)) 5 (by decide +kernel) (by decide)) (gRecv.of hm.s66 rfl) rfl rfl (Nat.le_of_ble_eq_true rfl) ?_
                        refine r_goto 68 dX6_as_59 (by decide) ?_
                        refine e_iret dX6_as_68 rfl ?_
                        exact RA.mk (Jo.r) ho ((FrM.r).b (by decide)) (rfl) (rfl)
                    · skip
                      exact absurd (by decide) c_33
      · skip
        refine r_iload_n 3 dX6_as_32 rfl rfl ?_
        refine r_if_lt 49 dX6_as_33 (by decide) (fun c_33 => ?_) (fun c_33 => ?_)
        · skip
          have n_33 : False := n_lt0 (by omega) c_33
          exact absurd n_33 (by decide)
        · skip
          have n_33 : True := n_lt0n (by omega) c_33
          refine r_iload_n 3 dX6_as_36 rfl rfl ?_
          refine r_iload_n 2 dX6_as_37 rfl rfl ?_
          refine r_icmp_eq 49 dX6_as_38 (by decide) (fun c_38 => ?_) (fun c_38 => ?_)
          · skip
            have n_38 : 5 = c := n_eq (by omega) (by omega) c_38
            refine r_iload_n 3 dX6_as_49 rfl rfl ?_
            refine r_if_ge 62 dX6_as_50 (by decide) (fun c_50 => ?_) (fun c_50 => ?_)
            · skip
              have n_50 : True := n_ge0 (by omega) c_50
              rw [kindN_of hk h7, ifT (show isOfB 5 c = true from by rw [← n_38]; rfl)]
              refine r_aload_n 0 dX6_as_62 rfl rfl rfl ?_
              refine r_iload_n 1 dX6_as_63 rfl rfl ?_
              refine r_iconst (v := nI 1) dX6_as_64 rfl ?_
              refine r_callV_1 dX6_as_65 kX6_75 (M_its (p := k) (w := 1) hm (by omega)) (gRecv.of hm.s66 rfl) rfl rfl (Nat.le_of_ble_eq_true rfl) ?_
              refine e_iret dX6_as_68 rfl ?_
              exact RA.mk (Jo.r) ho (FrM.r) (rfl) (rfl)
            · skip
              have n_50 : False := n_ge0n (by omega) c_50
              exact absurd n_50 (by decide)
          · skip
            have n_38 : ¬ 5 = c := n_eqn (by omega) (by omega) c_38
            refine r_iload_n 3 dX6_as_41 rfl rfl ?_
            refine r_callS_1 dX6_as_42 kX6_89 (M_above_5)  rfl rfl (Nat.le_of_ble_eq_true rfl) ?_
            refine r_istore_n 3 dX6_as_45 rfl (by decide) rfl ?_
            refine gG_ls (ls' := [_, _, _, _]) rfl ?_
            refine r_goto 32 dX6_as_46 (by decide) ?_
            refine r_iload_n 3 dX6_as_32 rfl rfl ?_
            refine r_if_lt 49 dX6_as_33 (by decide) (fun c_33 => ?_) (fun c_33 => ?_)
            · skip
              have n_33 : False := n_lt0 (by omega) c_33
              exact absurd n_33 (by decide)
            · skip
              have n_33 : True := n_lt0n (by omega) c_33
              refine r_iload_n 3 dX6_as_36 rfl rfl ?_
              refine r_iload_n 2 dX6_as_37 rfl rfl ?_
              refine r_icmp_eq 49 dX6_as_38 (by decide) (fun c_38 => ?_) (fun c_38 => ?_)
              · skip
                have n_38 : 2 = c := n_eq (by omega) (by omega) c_38
                refine r_iload_n 3 dX6_as_49 rfl rfl ?_
                refine r_if_ge 62 dX6_as_50 (by decide) (fun c_50 => ?_) (fun c_50 => ?_)
                · skip
                  have n_50 : True := n_ge0 (by omega) c_50
                  rw [kindN_of hk h7, ifT (show isOfB 5 c = true from by rw [← n_38]; rfl)]
                  refine r_aload_n 0 dX6_as_62 rfl rfl rfl ?_
                  refine r_iload_n 1 dX6_as_63 rfl rfl ?_
                  refine r_iconst (v := nI 1) dX6_as_64 rfl ?_
                  refine r_callV_1 dX6_as_65 kX6_75 (M_its (p := k) (w := 1) hm (by omega)) (gRecv.of hm.s66 rfl) rfl rfl (Nat.le_of_ble_eq_true rfl) ?_
                  refine e_iret dX6_as_68 rfl ?_
                  exact RA.mk (Jo.r) ho (FrM.r) (rfl) (rfl)
                · skip
                  have n_50 : False := n_ge0n (by omega) c_50
                  exact absurd n_50 (by decide)
              · skip
                have n_38 : ¬ 2 = c := n_eqn (by omega) (by omega) c_38
                refine r_iload_n 3 dX6_as_41 rfl rfl ?_
                refine r_callS_1 dX6_as_42 kX6_89 (M_above_2)  rfl rfl (Nat.le_of_ble_eq_true rfl) ?_
                refine r_istore_n 3 dX6_as_45 rfl (by decide) rfl ?_
                refine gG_ls (ls' := [_, _, _, _]) rfl ?_
                refine r_goto 32 dX6_as_46 (by decide) ?_
                refine r_iload_n 3 dX6_as_32 rfl rfl ?_
                refine r_if_lt 49 dX6_as_33 (by decide) (fun c_33 => ?_) (fun c_33 => ?_)
                · skip
                  have n_33 : False := n_lt0 (by omega) c_33
                  exact absurd n_33 (by decide)
                · skip
                  have n_33 : True := n_lt0n (by omega) c_33
                  refine r_iload_n 3 dX6_as_36 rfl rfl ?_
                  refine r_iload_n 2 dX6_as_37 rfl rfl ?_
                  refine r_icmp_eq 49 dX6_as_38 (by decide) (fun c_38 => ?_) (fun c_38 => ?_)
                  · skip
                    have n_38 : 0 = c := n_eq (by omega) (by omega) c_38
                    refine r_iload_n 3 dX6_as_49 rfl rfl ?_
                    refine r_if_ge 62 dX6_as_50 (by decide) (fun c_50 => ?_) (fun c_50 => ?_)
                    · skip
                      have n_50 : True := n_ge0 (by omega) c_50
                      rw [kindN_of hk h7, ifT (show isOfB 5 c = true from by rw [← n_38]; rfl)]
                      refine r_aload_n 0 dX6_as_62 rfl rfl rfl ?_
                      refine r_iload_n 1 dX6_as_63 rfl rfl ?_
                      refine r_iconst (v := nI 1) dX6_as_64 rfl ?_
                      refine r_callV_1 dX6_as_65 kX6_75 (M_its (p := k) (w := 1) hm (by omega)) (gRecv.of hm.s66 rfl) rfl rfl (Nat.le_of_ble_eq_true rfl) ?_
                      refine e_iret dX6_as_68 rfl ?_
                      exact RA.mk (Jo.r) ho (FrM.r) (rfl) (rfl)
                    · skip
                      have n_50 : False := n_ge0n (by omega) c_50
                      exact absurd n_50 (by decide)
                  · skip
                    have n_38 : ¬ 0 = c := n_eqn (by omega) (by omega) c_38
                    refine r_iload_n 3 dX6_as_41 rfl rfl ?_
                    refine r_callS_1 dX6_as_42 kX6_89 (M_above_0)  rfl rfl (Nat.le_of_ble_eq_true rfl) ?_
                    refine r_istore_n 3 dX6_as_45 rfl (by decide) rfl ?_
                    refine gG_ls (ls' := [_, _, _, _]) rfl ?_
                    refine r_goto 32 dX6_as_46 (by decide) ?_
                    refine r_iload_n 3 dX6_as_32 rfl rfl ?_
                    refine r_if_lt 49 dX6_as_33 (by decide) (fun c_33 => ?_) (fun c_33 => ?_)
                    · skip
                      refine r_iload_n 3 dX6_as_49 rfl rfl ?_
                      refine r_if_ge 62 dX6_as_50 (by decide) (fun c_50 => ?_) (fun c_50 => ?_)
                      · skip
                        exact absurd c_50 (by decide)
                      · skip
                        rw [kindN_of hk h7, ifF (show isOfB 5 c = false from (by decide : ∀ c, c < 7 → ¬ 5 = c → ¬ 2 = c → ¬ 0 = c → isOfB 5 c = false) c (by omega) (by assumption) (by assumption) (by assumption))]
                        refine r_aload_n 0 dX6_as_53 rfl rfl rfl ?_
                        refine r_ldc (v := -1000000005) dX6_as_54 q1639 ?_
                        refine r_callV_1 dX6_as_56 kX6_53 (M_errs hm (e := (-1000000005 : Int32)) 5 (by decide +kernel) (by decide)) (gRecv.of hm.s66 rfl) rfl rfl (Nat.le_of_ble_eq_true rfl) ?_
                        refine r_goto 68 dX6_as_59 (by decide) ?_
                        refine e_iret dX6_as_68 rfl ?_
                        exact RA.mk (Jo.r) ho ((FrM.r).b (by decide)) (rfl) (rfl)
                    · skip
                      exact absurd (by decide) c_33
      · skip
        refine r_iload_n 3 dX6_as_32 rfl rfl ?_
        refine r_if_lt 49 dX6_as_33 (by decide) (fun c_33 => ?_) (fun c_33 => ?_)
        · skip
          have n_33 : False := n_lt0 (by omega) c_33
          exact absurd n_33 (by decide)
        · skip
          have n_33 : True := n_lt0n (by omega) c_33
          refine r_iload_n 3 dX6_as_36 rfl rfl ?_
          refine r_iload_n 2 dX6_as_37 rfl rfl ?_
          refine r_icmp_eq 49 dX6_as_38 (by decide) (fun c_38 => ?_) (fun c_38 => ?_)
          · skip
            have n_38 : 6 = c := n_eq (by omega) (by omega) c_38
            refine r_iload_n 3 dX6_as_49 rfl rfl ?_
            refine r_if_ge 62 dX6_as_50 (by decide) (fun c_50 => ?_) (fun c_50 => ?_)
            · skip
              have n_50 : True := n_ge0 (by omega) c_50
              rw [kindN_of hk h7, ifT (show isOfB 6 c = true from by rw [← n_38]; rfl)]
              refine r_aload_n 0 dX6_as_62 rfl rfl rfl ?_
              refine r_iload_n 1 dX6_as_63 rfl rfl ?_
              refine r_iconst (v := nI 1) dX6_as_64 rfl ?_
              refine r_callV_1 dX6_as_65 kX6_75 (M_its (p := k) (w := 1) hm (by omega)) (gRecv.of hm.s66 rfl) rfl rfl (Nat.le_of_ble_eq_true rfl) ?_
              refine e_iret dX6_as_68 rfl ?_
              exact RA.mk (Jo.r) ho (FrM.r) (rfl) (rfl)
            · skip
              have n_50 : False := n_ge0n (by omega) c_50
              exact absurd n_50 (by decide)
          · skip
            have n_38 : ¬ 6 = c := n_eqn (by omega) (by omega) c_38
            refine r_iload_n 3 dX6_as_41 rfl rfl ?_
            refine r_callS_1 dX6_as_42 kX6_89 (M_above_6)  rfl rfl (Nat.le_of_ble_eq_true rfl) ?_
            refine r_istore_n 3 dX6_as_45 rfl (by decide) rfl ?_
            refine gG_ls (ls' := [_, _, _, _]) rfl ?_
            refine r_goto 32 dX6_as_46 (by decide) ?_
            refine r_iload_n 3 dX6_as_32 rfl rfl ?_
            refine r_if_lt 49 dX6_as_33 (by decide) (fun c_33 => ?_) (fun c_33 => ?_)
            · skip
              have n_33 : False := n_lt0 (by omega) c_33
              exact absurd n_33 (by decide)
            · skip
              have n_33 : True := n_lt0n (by omega) c_33
              refine r_iload_n 3 dX6_as_36 rfl rfl ?_
              refine r_iload_n 2 dX6_as_37 rfl rfl ?_
              refine r_icmp_eq 49 dX6_as_38 (by decide) (fun c_38 => ?_) (fun c_38 => ?_)
              · skip
                have n_38 : 3 = c := n_eq (by omega) (by omega) c_38
                refine r_iload_n 3 dX6_as_49 rfl rfl ?_
                refine r_if_ge 62 dX6_as_50 (by decide) (fun c_50 => ?_) (fun c_50 => ?_)
                · skip
                  have n_50 : True := n_ge0 (by omega) c_50
                  rw [kindN_of hk h7, ifT (show isOfB 6 c = true from by rw [← n_38]; rfl)]
                  refine r_aload_n 0 dX6_as_62 rfl rfl rfl ?_
                  refine r_iload_n 1 dX6_as_63 rfl rfl ?_
                  refine r_iconst (v := nI 1) dX6_as_64 rfl ?_
                  refine r_callV_1 dX6_as_65 kX6_75 (M_its (p := k) (w := 1) hm (by omega)) (gRecv.of hm.s66 rfl) rfl rfl (Nat.le_of_ble_eq_true rfl) ?_
                  refine e_iret dX6_as_68 rfl ?_
                  exact RA.mk (Jo.r) ho (FrM.r) (rfl) (rfl)
                · skip
                  have n_50 : False := n_ge0n (by omega) c_50
                  exact absurd n_50 (by decide)
              · skip
                have n_38 : ¬ 3 = c := n_eqn (by omega) (by omega) c_38
                refine r_iload_n 3 dX6_as_41 rfl rfl ?_
                refine r_callS_1 dX6_as_42 kX6_89 (M_above_3)  rfl rfl (Nat.le_of_ble_eq_true rfl) ?_
                refine r_istore_n 3 dX6_as_45 rfl (by decide) rfl ?_
                refine gG_ls (ls' := [_, _, _, _]) rfl ?_
                refine r_goto 32 dX6_as_46 (by decide) ?_
                refine r_iload_n 3 dX6_as_32 rfl rfl ?_
                refine r_if_lt 49 dX6_as_33 (by decide) (fun c_33 => ?_) (fun c_33 => ?_)
                · skip
                  have n_33 : False := n_lt0 (by omega) c_33
                  exact absurd n_33 (by decide)
                · skip
                  have n_33 : True := n_lt0n (by omega) c_33
                  refine r_iload_n 3 dX6_as_36 rfl rfl ?_
                  refine r_iload_n 2 dX6_as_37 rfl rfl ?_
                  refine r_icmp_eq 49 dX6_as_38 (by decide) (fun c_38 => ?_) (fun c_38 => ?_)
                  · skip
                    have n_38 : 0 = c := n_eq (by omega) (by omega) c_38
                    refine r_iload_n 3 dX6_as_49 rfl rfl ?_
                    refine r_if_ge 62 dX6_as_50 (by decide) (fun c_50 => ?_) (fun c_50 => ?_)
                    · skip
                      have n_50 : True := n_ge0 (by omega) c_50
                      rw [kindN_of hk h7, ifT (show isOfB 6 c = true from by rw [← n_38]; rfl)]
                      refine r_aload_n 0 dX6_as_62 rfl rfl rfl ?_
                      refine r_iload_n 1 dX6_as_63 rfl rfl ?_
                      refine r_iconst (v := nI 1) dX6_as_64 rfl ?_
                      refine r_callV_1 dX6_as_65 kX6_75 (M_its (p := k) (w := 1) hm (by omega)) (gRecv.of hm.s66 rfl) rfl rfl (Nat.le_of_ble_eq_true rfl) ?_
                      refine e_iret dX6_as_68 rfl ?_
                      exact RA.mk (Jo.r) ho (FrM.r) (rfl) (rfl)
                    · skip
                      have n_50 : False := n_ge0n (by omega) c_50
                      exact absurd n_50 (by decide)
                  · skip
                    have n_38 : ¬ 0 = c := n_eqn (by omega) (by omega) c_38
                    refine r_iload_n 3 dX6_as_41 rfl rfl ?_
                    refine r_callS_1 dX6_as_42 kX6_89 (M_above_0)  rfl rfl (Nat.le_of_ble_eq_true rfl) ?_
                    refine r_istore_n 3 dX6_as_45 rfl (by decide) rfl ?_
                    refine gG_ls (ls' := [_, _, _, _]) rfl ?_
                    refine r_goto 32 dX6_as_46 (by decide) ?_
                    refine r_iload_n 3 dX6_as_32 rfl rfl ?_
                    refine r_if_lt 49 dX6_as_33 (by decide) (fun c_33 => ?_) (fun c_33 => ?_)
                    · skip
                      refine r_iload_n 3 dX6_as_49 rfl rfl ?_
                      refine r_if_ge 62 dX6_as_50 (by decide) (fun c_50 => ?_) (fun c_50 => ?_)
                      · skip
                        exact absurd c_50 (by decide)
                      · skip
                        rw [kindN_of hk h7, ifF (show isOfB 6 c = false from (by decide : ∀ c, c < 7 → ¬ 6 = c → ¬ 3 = c → ¬ 0 = c → isOfB 6 c = false) c (by omega) (by assumption) (by assumption) (by assumption))]
                        refine r_aload_n 0 dX6_as_53 rfl rfl rfl ?_
                        refine r_ldc (v := -1000000005) dX6_as_54 q1639 ?_
                        refine r_callV_1 dX6_as_56 kX6_53 (M_errs hm (e := (-1000000005 : Int32)) 5 (by decide +kernel) (by decide)) (gRecv.of hm.s66 rfl) rfl rfl (Nat.le_of_ble_eq_true rfl) ?_
                        refine r_goto 68 dX6_as_59 (by decide) ?_
                        refine e_iret dX6_as_68 rfl ?_
                        exact RA.mk (Jo.r) ho ((FrM.r).b (by decide)) (rfl) (rfl)
                    · skip
                      exact absurd (by decide) c_33
    · skip
      have n_15 : _ = false := b2_f c_15
      first | rw [ifT n_15] | rw [ifF n_15] | skip
      refine r_aload_n 0 dX6_as_18 rfl rfl rfl ?_
      refine r_ldc (v := -1000000001) dX6_as_19 q1511 ?_
      refine r_callV_1 dX6_as_21 kX6_53 (M_errs hm (e := (-1000000001 : Int32)) 1 (by decide +kernel) (by decide)) (gRecv.of hm.s66 rfl) rfl rfl (Nat.le_of_ble_eq_true rfl) ?_
      refine e_iret dX6_as_24 rfl ?_
      exact RA.mk (Jo.r) ho ((FrM.r).b (by decide)) (rfl) (rfl)
theorem A_law {d : Nat} {h : Hp} (hm : LayM (hS h) (hR h)) {r o : Row} (w : WF r) (ho : o 15 = -1) {u a b c : Int32} : gC (d + 420) (0) (0) m_X6_law [.ref 66, .int u, .int a, .int b, .int c] (MH h r o) (RA h (aLaw (mS h r o) u a b c)) := by
  have e_0 : aLaw (mS h r o) u a b c = (if inB u (nI 0) (nI 1) = true then (lawV r (toN u) a b c, (mS h r o)) else errA (mS h r o) (-1000000001) 1) := rfl
  rw [e_0]
  have hn8 := w.n8
  refine gC.of (ls := [some (.ref 66), some (.int u), some (.int a), some (.int b), some (.int c)]) (by decide +kernel) rfl rfl rfl rfl (Nat.le_of_ble_eq_true rfl) ?_
  refine r_iload_n 1 dX6_law_0 rfl rfl ?_
  refine r_iconst (v := nI 0) dX6_law_1 rfl ?_
  refine r_iconst (v := nI 1) dX6_law_2 rfl ?_
  refine r_callS_1 dX6_law_3 kX6_48 (M_in)  rfl rfl (Nat.le_of_ble_eq_true rfl) ?_
  refine r_if_eq 21 dX6_law_6 (by decide) (fun c_6 => ?_) (fun c_6 => ?_)
  · skip
    have n_6 : _ = false := b2_f c_6
    first | rw [ifT n_6] | rw [ifF n_6] | skip
    refine r_aload_n 0 dX6_law_21 rfl rfl rfl ?_
    refine r_ldc (v := -1000000001) dX6_law_22 q1511 ?_
    refine r_callV_1 dX6_law_24 kX6_53 (M_errs hm (e := (-1000000001 : Int32)) 1 (by decide +kernel) (by decide)) (gRecv.of hm.s66 rfl) rfl rfl (Nat.le_of_ble_eq_true rfl) ?_
    refine e_iret dX6_law_27 rfl ?_
    exact RA.mk (Jo.r) ho ((FrM.r).b (by decide)) (rfl) (rfl)
  · skip
    have n_6 : _ = true := b2_t c_6
    first | rw [ifT n_6] | rw [ifF n_6] | skip
    obtain ⟨k, h_k, rfl⟩ := inB_n (by decide) n_6
    have e_k : toN (nI k) = k := toN_nI (by omega)
    try simp only [e_k]
    refine r_aload_n 0 dX6_law_9 rfl rfl rfl ?_
    refine r_iload_n 1 dX6_law_10 rfl rfl ?_
    refine r_iload_n 2 dX6_law_11 rfl rfl ?_
    refine r_iload_n 3 dX6_law_12 rfl rfl ?_
    refine r_iload dX6_law_13 rfl ?_
    refine r_callV_1m dX6_law_15 kX6_160 (M_lawOf (u := k) hm w.T (by omega)) (gRecv.of hm.s66 rfl) rfl rfl (Nat.le_of_ble_eq_true rfl) (fun o_1 j_1 => ?_)
    refine r_goto 27 dX6_law_18 (by decide) ?_
    refine e_iret dX6_law_27 rfl ?_
    exact RA.mk ((Jo.r).t j_1) ho (FrM.r) (rfl) (rfl)
theorem M_moveAll_L {d : Nat} {h : Hp} {a b : Nat} (hab : a ≠ b) (ha : hS h a = .inr (0, 281)) (hb : hS h b = .inr (0, 281)) : ∀ (k i : Nat), i ≤ 281 → 282 ≤ i + k → gG (d) (0) (0) m_X6_moveAll 2 [some (.ref 66), some (.ref a), some (.ref b), some (.int (nI i))] [] (bI h b (cpR i (hI h a) (hI h b))) (Ret none (bI h b (cpR 281 (hI h a) (hI h b)))) := by
  intro k
  induction k with
  | zero => exact fun i h1 h2 => absurd h2 (by omega)
  | succ k ih =>
  intro i hi hk
  refine r_iload_n 3 dX6_moveAll_2 rfl rfl ?_
  refine r_sipush (v := nI 281) dX6_moveAll_3 (by decide +kernel) ?_
  refine r_icmp_ge 21 dX6_moveAll_6 (by decide) (fun c_6 => ?_) (fun c_6 => ?_)
  · skip
    have n_6 : 281 ≤ i := n_ge (by omega) (by omega) c_6
    have hin : i = 281 := by omega
    subst hin
    refine e_vret dX6_moveAll_21 rfl ?_
    exact ⟨rfl, rfl⟩
  · skip
    have n_6 : i < 281 := n_gen (by omega) (by omega) c_6
    refine r_aload_n 2 dX6_moveAll_9 rfl rfl rfl ?_
    refine r_iload_n 3 dX6_moveAll_10 rfl rfl ?_
    refine r_aload_n 1 dX6_moveAll_11 rfl rfl rfl ?_
    refine r_iload_n 3 dX6_moveAll_12 rfl rfl ?_
    refine r_ialdN (i) dX6_moveAll_13 ha rfl (by omega) (by decide) ?_
    refine r_iastN (i) dX6_moveAll_14 hb rfl (by omega) (by decide) ?_
    refine gG_h (show _ = bI h b (cpR (i + 1) (hI h a) (hI h b)) from by rw [bI_step hab, cpR_s]) ?_
    refine r_iinc dX6_moveAll_15 rfl (by decide) rfl ?_
    refine gG_ls (ls' := [_, _, _, some (.int (nI ((i + 1))))]) (by rw [show (Int32.ofInt 1) = nI 1 from rfl, nI_add]; rfl) ?_
    refine r_goto 2 dX6_moveAll_18 (by decide) ?_
    exact ih (i + 1) (by omega) (by omega)
theorem M_moveAll {d : Nat} {h : Hp} {a b : Nat} (hab : a ≠ b) (ha : hS h a = .inr (0, 281)) (hb : hS h b = .inr (0, 281)) : gC d 0 0 m_X6_moveAll [.ref 66, .ref a, .ref b] h (Ret none (bI h b (cpR 281 (hI h a) (hI h b)))) := by
  refine gC.of (ls := [some (.ref 66), some (.ref a), some (.ref b), none]) (by decide +kernel) rfl rfl rfl rfl (Nat.le_of_ble_eq_true rfl) ?_
  refine r_iconst (v := nI 0) dX6_moveAll_0 rfl ?_
  refine r_istore_n 3 dX6_moveAll_1 rfl (by decide) rfl ?_
  have k9 := M_moveAll_L (d := d) hab ha hb 282 0 (by omega) (by omega)
  rw [cpR_0] at k9
  have e9 : bI h b (hI h b) = h := by
    show sI h (uf (hI h) b (hI h b)) = h
    have e : uf (hI h) b (hI h b) = hI h := by funext c; unfold uf; by_cases q : c = b <;> simp [q]
    rw [e]; rfl
  rw [e9] at k9
  exact k9
theorem M_move_out {d : Nat} {h : Hp} (hm : LayM (hS h) (hR h)) {r o : Row} (b : Nat) (hb : b = 68 ∨ b = 69 ∨ b = 70) : gC d 0 0 m_X6_moveAll [.ref 66, .ref 67, .ref b] (MH h r o) (Ret none (MH (bI h b (cpR 281 r (hI h b))) r o)) := by
  have hs : hS h b = .inr (0, 281) := by exact (by rcases hb with rfl | rfl | rfl; exact hm.s68; exact hm.s69; exact hm.s70)
  have k9 := M_moveAll (d := d) (h := MH h r o) (a := 67) (b := b) (by omega) hm.s67 hs
  rw [MH_bI _ _ _ _ _ (by omega) (by omega)] at k9
  have e : hI (MH h r o) b = hI h b := by show uf (uf (hI h) 67 r) 66 o b = _; rw [uf_n _ _ _ _ (by omega), uf_n _ _ _ _ (by omega)]
  rw [e] at k9
  exact k9
theorem M_move_in {d : Nat} {h : Hp} (hm : LayM (hS h) (hR h)) {r o : Row} (b : Nat) (hb : b = 68 ∨ b = 69 ∨ b = 70) : gC d 0 0 m_X6_moveAll [.ref 66, .ref b, .ref 67] (MH h r o) (Ret none (MH h (cpR 281 (hI h b) r) o)) := by
  have hs : hS h b = .inr (0, 281) := by exact (by rcases hb with rfl | rfl | rfl; exact hm.s68; exact hm.s69; exact hm.s70)
  have k9 := M_moveAll (d := d) (h := MH h r o) (a := b) (b := 67) (by omega) hs hm.s67
  rw [MH_bI67] at k9
  have e : hI (MH h r o) b = hI h b := by show uf (uf (hI h) 67 r) 66 o b = _; rw [uf_n _ _ _ _ (by omega), uf_n _ _ _ _ (by omega)]
  rw [e] at k9
  exact k9
theorem M_feed_L {d : Nat} {h : Hp} (hm : LayM (hS h) (hR h)) {r o : Row} {wd : Int64} {t n : Nat} (h3 : r 3 = nI t) (hle : t + n ≤ 50) {Q : gQ} : ∀ (k i : Nat), i ≤ n → n + 1 ≤ i + k → (gG (d + 1) (0) (0) m_X6_feed 88 [some (.ref 66), some (.long wd), none, some (.int (nI n)), some (.int (nI n))] [] (MH h (feedR r wd t (n)) o) (Q)) → gG (d + 1) (0) (0) m_X6_feed 40 [some (.ref 66), some (.long wd), none, some (.int (nI n)), some (.int (nI i))] [] (MH h (feedR r wd t (i)) o) (Q) := by
  intro k
  induction k with
  | zero => exact fun i h1 h2 => absurd h2 (by omega)
  | succ k ih =>
  intro i hi hk kk
  refine r_iload dX6_feed_40 rfl ?_
  refine r_iload_n 3 dX6_feed_42 rfl rfl ?_
  refine r_icmp_ge 88 dX6_feed_43 (by decide) (fun c_43 => ?_) (fun c_43 => ?_)
  · skip
    have n_43 : n ≤ i := n_ge (by omega) (by omega) c_43
    have hin : i = n := by omega
    subst hin
    exact kk
  · skip
    have n_43 : i < n := n_gen (by omega) (by omega) c_43
    refine r_aload_n 0 dX6_feed_46 rfl rfl rfl ?_
    refine r_getr (k := 0) (b := 67) dX6_feed_47 hm.s66 rfl (by decide) (Or.inl q1416) (Or.inl rfl) rfl hm.r_row ?_
    refine r_bipush (v := nI 111) dX6_feed_50 (by decide +kernel) ?_
    refine r_aload_n 0 dX6_feed_52 rfl rfl rfl ?_
    refine r_getr (k := 0) (b := 67) dX6_feed_53 hm.s66 rfl (by decide) (Or.inl q1416) (Or.inl rfl) rfl hm.r_row ?_
    refine r_iconst (v := nI 3) dX6_feed_56 rfl ?_
    refine r_ialdN (3) dX6_feed_57 hm.s67 rfl (by omega) (by decide) ?_
    refine r_eqi (show _ = nI ((t + i)) from feedR_3 h3 i) ?_
    refine r_iadd dX6_feed_58 ?_
    refine r_eqi (show _ = nI (111 + (t + i)) from by simp only [pk_mul, nI_add]) ?_
    refine r_lload_n 1 dX6_feed_59 rfl rfl ?_
    refine r_bipush (v := nI 8) dX6_feed_60 (by decide +kernel) ?_
    refine r_iload dX6_feed_62 rfl ?_
    refine r_imul dX6_feed_64 ?_
    refine r_eqi (show _ = nI (8 * i) from by simp only [pk_mul, nI_add]) ?_
    refine r_lshr dX6_feed_65 ?_
    refine r_ldc2 (v := 255) dX6_feed_66 q1648 ?_
    refine r_land dX6_feed_69 ?_
    refine r_l2i dX6_feed_70 ?_
    refine r_iastN ((111 + (t + i))) dX6_feed_71 hm.s67 rfl (by omega) (by decide) ?_
    refine gG_h (MH_67 _ _ _ _ _) ?_
    refine r_aload_n 0 dX6_feed_72 rfl rfl rfl ?_
    refine r_getr (k := 0) (b := 67) dX6_feed_73 hm.s66 rfl (by decide) (Or.inl q1416) (Or.inl rfl) rfl hm.r_row ?_
    refine r_iconst (v := nI 3) dX6_feed_76 rfl ?_
    refine r_dup2 dX6_feed_77 rfl rfl ?_
    refine r_ialdN (3) dX6_feed_78 hm.s67 rfl (by omega) (by decide) ?_
    refine r_eqi (show _ = nI ((t + i)) from (ru_n (by omega)).trans (feedR_3 h3 i)) ?_
    refine r_iconst (v := nI 1) dX6_feed_79 rfl ?_
    refine r_iadd dX6_feed_80 ?_
    refine r_eqi (show _ = nI ((t + i + 1)) from (by simp only [nI_add])) ?_
    refine r_iastN (3) dX6_feed_81 hm.s67 rfl (by omega) (by decide) ?_
    refine gG_h (MH_67 _ _ _ _ _) ?_
    refine r_iinc dX6_feed_82 rfl (by decide) rfl ?_
    refine gG_ls (ls' := [_, _, _, _, some (.int (nI ((i + 1))))]) (by rw [show (Int32.ofInt 1) = nI 1 from rfl, nI_add]; rfl) ?_
    refine r_goto 40 dX6_feed_85 (by decide) ?_
    exact ih (i + 1) (by omega) (by omega) kk
theorem A_feed {d : Nat} {h : Hp} (hm : LayM (hS h) (hR h)) {r o : Row} (w : WF r) (ho : o 15 = -1) {wd : Int64} {c : Int32} : gC (d + 1) (0) (0) m_X6_feed [.ref 66, .long wd, .int c] (MH h r o) (RA h (aFeed (mS h r o) wd c)) := by
  have e_0 : aFeed (mS h r o) wd c = (if inB c (nI 1) (nI 8) = true then (if 50 < toN (r 3) + toN c then errA (mS h r o) (-1000000004) 4 else (nI (toN (r 3) + toN c), (mS h r o).s_r (feedR r wd (toN (r 3)) (toN c)))) else errA (mS h r o) (-1000000001) 1) := rfl
  rw [e_0]
  have hn8 := w.n8
  obtain ⟨t, h3, h50⟩ := w.A
  have e_t : toN (r 3) = t := by rw [h3]; exact toN_nI (by omega)
  rw [e_t]
  refine gC.of (ls := [some (.ref 66), some (.long wd), none, some (.int c), none]) (by decide +kernel) rfl rfl rfl rfl (Nat.le_of_ble_eq_true rfl) ?_
  refine r_iload_n 3 dX6_feed_0 rfl rfl ?_
  refine r_iconst (v := nI 1) dX6_feed_1 rfl ?_
  refine r_bipush (v := nI 8) dX6_feed_2 (by decide +kernel) ?_
  refine r_callS_1 dX6_feed_4 kX6_48 (M_in)  rfl rfl (Nat.le_of_ble_eq_true rfl) ?_
  refine r_if_ne 17 dX6_feed_7 (by decide) (fun c_7 => ?_) (fun c_7 => ?_)
  · skip
    have n_7 : _ = true := b2_t c_7
    first | rw [ifT n_7] | rw [ifF n_7] | skip
    obtain ⟨n, h_1, h_8, rfl⟩ := inB_p (by decide) n_7
    have e_n : toN (nI n) = n := toN_nI (by omega)
    rw [e_n]
    refine r_aload_n 0 dX6_feed_17 rfl rfl rfl ?_
    refine r_getr (k := 0) (b := 67) dX6_feed_18 hm.s66 rfl (by decide) (Or.inl q1416) (Or.inl rfl) rfl hm.r_row ?_
    refine r_iconst (v := nI 3) dX6_feed_21 rfl ?_
    refine r_ialdN (3) dX6_feed_22 hm.s67 rfl (by omega) (by decide) ?_
    refine r_eqi (show _ = nI (t) from h3) ?_
    refine r_iload_n 3 dX6_feed_23 rfl rfl ?_
    refine r_iadd dX6_feed_24 ?_
    refine r_eqi (show _ = nI (t + n) from by simp only [pk_mul, nI_add]) ?_
    refine r_bipush (v := nI 50) dX6_feed_25 (by decide +kernel) ?_
    refine r_icmp_le 37 dX6_feed_27 (by decide) (fun c_27 => ?_) (fun c_27 => ?_)
    · skip
      have n_27 : (t + n) ≤ 50 := n_le (by omega) (by omega) c_27
      first | rw [iP n_27] | rw [iN n_27] | rw [iN (Nat.not_lt.mpr n_27)] | skip
      refine r_iconst (v := nI 0) dX6_feed_37 rfl ?_
      refine r_istore dX6_feed_38 (by decide) rfl ?_
      refine gG_ls (ls' := [_, _, _, _, _]) rfl ?_
      refine M_feed_L hm h3 (by omega) (n + 1) 0 (by omega) (by omega) ?_
      refine r_aload_n 0 dX6_feed_88 rfl rfl rfl ?_
      refine r_getr (k := 0) (b := 67) dX6_feed_89 hm.s66 rfl (by decide) (Or.inl q1416) (Or.inl rfl) rfl hm.r_row ?_
      refine r_iconst (v := nI 3) dX6_feed_92 rfl ?_
      refine r_ialdN (3) dX6_feed_93 hm.s67 rfl (by omega) (by decide) ?_
      refine r_eqi (show _ = nI ((t + n)) from feedR_3 h3 n) ?_
      refine e_iret dX6_feed_94 rfl ?_
      exact RA.mk (Jo.r) ho (FrM.r) (rfl) (rfl)
    · skip
      have n_27 : 50 < (t + n) := n_len (by omega) (by omega) c_27
      first | rw [iP n_27] | rw [iN n_27] | rw [iN (Nat.not_lt.mpr n_27)] | skip
      refine r_aload_n 0 dX6_feed_30 rfl rfl rfl ?_
      refine r_ldc (v := -1000000004) dX6_feed_31 q1517 ?_
      refine r_callV_1 dX6_feed_33 kX6_53 (M_errs hm (e := (-1000000004 : Int32)) 4 (by decide +kernel) (by decide)) (gRecv.of hm.s66 rfl) rfl rfl (Nat.le_of_ble_eq_true rfl) ?_
      refine e_iret dX6_feed_36 rfl ?_
      exact RA.mk (Jo.r) ho ((FrM.r).b (by decide)) (rfl) (rfl)
  · skip
    have n_7 : _ = false := b2_f c_7
    first | rw [ifT n_7] | rw [ifF n_7] | skip
    refine r_aload_n 0 dX6_feed_10 rfl rfl rfl ?_
    refine r_ldc (v := -1000000001) dX6_feed_11 q1511 ?_
    refine r_callV_1 dX6_feed_13 kX6_53 (M_errs hm (e := (-1000000001 : Int32)) 1 (by decide +kernel) (by decide)) (gRecv.of hm.s66 rfl) rfl rfl (Nat.le_of_ble_eq_true rfl) ?_
    refine e_iret dX6_feed_16 rfl ?_
    exact RA.mk (Jo.r) ho ((FrM.r).b (by decide)) (rfl) (rfl)
theorem M_text_L {d : Nat} {h : Hp} (hm : LayM (hS h) (hR h)) {r o : Row} {u : Nat} (hu : u < 2) {x1 x2 : Option Value} {Q : gQ} : ∀ (k i : Nat), i ≤ 50 → 50 + 1 ≤ i + k → (gG (d + 1) (0) (0) m_X6_text 66 [some (.ref 66), some (.int (nI u)), some (.int (nI 50)), x1, x2] [] (MH h (cpT r u (50)) o) (Q)) → gG (d + 1) (0) (0) m_X6_text 30 [some (.ref 66), some (.int (nI u)), some (.int (nI i)), x1, x2] [] (MH h (cpT r u (i)) o) (Q) := by
  intro k
  induction k with
  | zero => exact fun i h1 h2 => absurd h2 (by omega)
  | succ k ih =>
  intro i hi hk kk
  refine r_iload_n 2 dX6_text_30 rfl rfl ?_
  refine r_bipush (v := nI 50) dX6_text_31 (by decide +kernel) ?_
  refine r_icmp_ge 66 dX6_text_33 (by decide) (fun c_33 => ?_) (fun c_33 => ?_)
  · skip
    have n_33 : 50 ≤ i := n_ge (by omega) (by omega) c_33
    have hin : i = 50 := by omega
    subst hin
    exact kk
  · skip
    have n_33 : i < 50 := n_gen (by omega) (by omega) c_33
    refine r_aload_n 0 dX6_text_36 rfl rfl rfl ?_
    refine r_getr (k := 0) (b := 67) dX6_text_37 hm.s66 rfl (by decide) (Or.inl q1416) (Or.inl rfl) rfl hm.r_row ?_
    refine r_sipush (v := nI 181) dX6_text_40 (by decide +kernel) ?_
    refine r_bipush (v := nI 50) dX6_text_43 (by decide +kernel) ?_
    refine r_iload_n 1 dX6_text_45 rfl rfl ?_
    refine r_imul dX6_text_46 ?_
    refine r_iadd dX6_text_47 ?_
    refine r_eqi (show _ = nI (181 + (50 * u)) from by simp only [pk_mul, nI_add]) ?_
    refine r_iload_n 2 dX6_text_48 rfl rfl ?_
    refine r_iadd dX6_text_49 ?_
    refine r_eqi (show _ = nI ((181 + (50 * u)) + i) from by simp only [pk_mul, nI_add]) ?_
    refine r_aload_n 0 dX6_text_50 rfl rfl rfl ?_
    refine r_getr (k := 0) (b := 67) dX6_text_51 hm.s66 rfl (by decide) (Or.inl q1416) (Or.inl rfl) rfl hm.r_row ?_
    refine r_bipush (v := nI 111) dX6_text_54 (by decide +kernel) ?_
    refine r_iload_n 2 dX6_text_56 rfl rfl ?_
    refine r_iadd dX6_text_57 ?_
    refine r_ialdN ((111 + i)) dX6_text_58 hm.s67 (by simp only [pk_mul, nI_add]) (by omega) (by decide) ?_
    refine r_eqi (show _ = (r (111 + i)) from cpT_n (by omega) hu i (by omega)) ?_
    refine r_iastN (((181 + (50 * u)) + i)) dX6_text_59 hm.s67 rfl (by omega) (by decide) ?_
    refine gG_h (MH_67 _ _ _ _ _) ?_
    refine r_iinc dX6_text_60 rfl (by decide) rfl ?_
    refine gG_ls (ls' := [_, _, some (.int (nI ((i + 1)))), _, _]) (by rw [show (Int32.ofInt 1) = nI 1 from rfl, nI_add]; rfl) ?_
    refine r_goto 30 dX6_text_63 (by decide) ?_
    exact ih (i + 1) (by omega) (by omega) kk
theorem A_text {d : Nat} {h : Hp} (hm : LayM (hS h) (hR h)) {r o : Row} (w : WF r) (ho : o 15 = -1) {u : Int32} : gC (d + 411) (0) (0) m_X6_text [.ref 66, .int u] (MH h r o) (RA h (aText (mS h r o) u)) := by
  have e_0 : aText (mS h r o) u = (if inB u (nI 0) (nI 1) = true then (if okT r (toN u) (toN (r 3)) = true then (nI 1, (mS h r o).s_r (ru (textR r (toN u)) 3 (nI 0))) else ((-10) - nI (walkP (textR r (toN u)) (toN u) (toN (r 3)) (nI 1) (nI 1) (nI 1)).2.1, (mS h r o).s_r (ru r 3 (nI 0)))) else errA (mS h r o) (-1000000001) 1) := rfl
  rw [e_0]
  have hn8 := w.n8
  obtain ⟨t, h3, h50⟩ := w.A
  have e_t : toN (r 3) = t := by rw [h3]; exact toN_nI (by omega)
  rw [e_t]
  refine gC.of (ls := [some (.ref 66), some (.int u), none, none, none]) (by decide +kernel) rfl rfl rfl rfl (Nat.le_of_ble_eq_true rfl) ?_
  refine r_iload_n 1 dX6_text_0 rfl rfl ?_
  refine r_iconst (v := nI 0) dX6_text_1 rfl ?_
  refine r_iconst (v := nI 1) dX6_text_2 rfl ?_
  refine r_callS_1 dX6_text_3 kX6_48 (M_in)  rfl rfl (Nat.le_of_ble_eq_true rfl) ?_
  refine r_if_ne 16 dX6_text_6 (by decide) (fun c_6 => ?_) (fun c_6 => ?_)
  · skip
    have n_6 : _ = true := b2_t c_6
    first | rw [ifT n_6] | rw [ifF n_6] | skip
    obtain ⟨k, h_k, rfl⟩ := inB_n (by decide) n_6
    have e_k : toN (nI k) = k := toN_nI (by omega)
    try simp only [e_k]
    have hu : k < 2 := by omega
    refine r_aload_n 0 dX6_text_16 rfl rfl rfl ?_
    refine r_aload_n 0 dX6_text_17 rfl rfl rfl ?_
    refine r_getr (k := 0) (b := 67) dX6_text_18 hm.s66 rfl (by decide) (Or.inl q1416) (Or.inl rfl) rfl hm.r_row ?_
    refine r_aload_n 0 dX6_text_21 rfl rfl rfl ?_
    refine r_getr (k := 3) (b := 70) dX6_text_22 hm.s66 rfl (by decide) (Or.inl q1419) (Or.inl rfl) rfl hm.r_before ?_
    refine r_callV_0 dX6_text_25 kX6_165 (M_move_out hm 70 (by decide)) (gRecv.of hm.s66 rfl) rfl rfl (Nat.le_of_ble_eq_true rfl) ?_
    refine r_iconst (v := nI 0) dX6_text_28 rfl ?_
    refine r_istore_n 2 dX6_text_29 rfl (by decide) rfl ?_
    refine gG_ls (ls' := [_, _, _, _, _]) rfl ?_
    refine M_text_L (h := bI h 70 (cpR 281 r (hI h 70))) hm hu 51 0 (by omega) (by omega) ?_
    refine r_aload_n 0 dX6_text_66 rfl rfl rfl ?_
    refine r_getr (k := 0) (b := 67) dX6_text_67 hm.s66 rfl (by decide) (Or.inl q1416) (Or.inl rfl) rfl hm.r_row ?_
    refine r_iconst (v := nI 5) dX6_text_70 rfl ?_
    refine r_iload_n 1 dX6_text_71 rfl rfl ?_
    refine r_iadd dX6_text_72 ?_
    refine r_eqi (show _ = nI (5 + k) from by simp only [pk_mul, nI_add]) ?_
    refine r_aload_n 0 dX6_text_73 rfl rfl rfl ?_
    refine r_getr (k := 0) (b := 67) dX6_text_74 hm.s66 rfl (by decide) (Or.inl q1416) (Or.inl rfl) rfl hm.r_row ?_
    refine r_iconst (v := nI 3) dX6_text_77 rfl ?_
    refine r_ialdN (3) dX6_text_78 hm.s67 rfl (by omega) (by decide) ?_
    refine r_eqi (show _ = (r 3) from cpT_n (r := r) (u := k) (j := 3) (by omega) hu 50 (by omega)) ?_
    refine r_iastN ((5 + k)) dX6_text_79 hm.s67 rfl (by omega) (by decide) ?_
    refine gG_h (MH_67 _ _ _ _ _) ?_
    refine gG_h (show _ = MH (bI h 70 (cpR 281 r (hI h 70))) (textR r k) o from rfl) ?_
    refine r_aload_n 0 dX6_text_80 rfl rfl rfl ?_
    refine r_iload_n 1 dX6_text_81 rfl rfl ?_
    refine r_iconst (v := nI 1) dX6_text_82 rfl ?_
    refine r_iconst (v := nI 1) dX6_text_83 rfl ?_
    refine r_iconst (v := nI 1) dX6_text_84 rfl ?_
    refine r_callV (mc1 := 0) (ms1 := 0) dX6_text_85 kX6_152 (M_walks (u := k) (e := t) (by exact hm) hu ((ru_s _ _ _).trans h3) (by omega)) (gRecv.of hm.s66 rfl) rfl rfl (Nat.le_of_ble_eq_true rfl) (fun v_85 h_85 q_85 => ?_) (fun a_85 h_85 q_85 => ?_)
    · skip
      obtain ⟨e1, o9, j9, e2, h8, h14⟩ := q_85
      cases e1
      subst e2
      refine r_istore_n 2 dX6_text_88 rfl (by decide) rfl ?_
      refine gG_ls (ls' := [_, _, _, _, _]) rfl ?_
      refine r_aload_n 0 dX6_text_89 rfl rfl rfl ?_
      refine r_geti (k := 14) dX6_text_90 hm.s66 rfl (by decide) (Or.inl q1430) (Or.inl rfl) rfl ?_
      refine r_eqi (show _ = b2 ((okT r k t)) from h14) ?_
      refine r_if_eq 105 dX6_text_93 (by decide) (fun c_93 => ?_) (fun c_93 => ?_)
      · skip
        have n_93 : (okT r k t) = false := b2_f c_93
        first | rw [ifT n_93] | rw [ifF n_93] | skip
        refine r_iconst (v := nI 0) dX6_text_105 rfl ?_
        refine r_istore_n 3 dX6_text_106 rfl (by decide) rfl ?_
        refine gG_ls (ls' := [_, _, _, _, _]) rfl ?_
        refine r_aload_n 0 dX6_text_107 rfl rfl rfl ?_
        refine r_geti (k := 8) dX6_text_108 hm.s66 rfl (by decide) (Or.inl q1424) (Or.inl rfl) rfl ?_
        refine r_eqi (show _ = nI ((walkP (textR r k) k t (nI 1) (nI 1) (nI 1)).2.1) from h8) ?_
        refine r_istore dX6_text_111 (by decide) rfl ?_
        refine gG_ls (ls' := [_, _, _, _, _]) rfl ?_
        refine r_iload_n 3 dX6_text_113 rfl rfl ?_
        refine r_if_ne 129 dX6_text_114 (by decide) (fun c_114 => ?_) (fun c_114 => ?_)
        · skip
          have n_114 : ¬ 0 = 0 := n_ne0 (by omega) c_114
          exact absurd n_114 (by decide)
        · skip
          have n_114 : 0 = 0 := n_eq0 (by omega) c_114
          first | rw [iP n_114] | rw [iN n_114] | rw [iN (Nat.not_lt.mpr n_114)] | skip
          refine r_aload_n 0 dX6_text_117 rfl rfl rfl ?_
          refine r_aload_n 0 dX6_text_118 rfl rfl rfl ?_
          refine r_getr (k := 3) (b := 70) dX6_text_119 hm.s66 rfl (by decide) (Or.inl q1419) (Or.inl rfl) rfl hm.r_before ?_
          refine r_aload_n 0 dX6_text_122 rfl rfl rfl ?_
          refine r_getr (k := 0) (b := 67) dX6_text_123 hm.s66 rfl (by decide) (Or.inl q1416) (Or.inl rfl) rfl hm.r_row ?_
          refine r_callV_0 dX6_text_126 kX6_165 (M_move_in (by exact hm) 70 (by decide)) (gRecv.of hm.s66 rfl) rfl rfl (Nat.le_of_ble_eq_true rfl) ?_
          refine gG_h (show _ = MH _ r _ from by rw [bI_s, textR_b hu]) ?_
          refine r_aload_n 0 dX6_text_129 rfl rfl rfl ?_
          refine r_getr (k := 0) (b := 67) dX6_text_130 hm.s66 rfl (by decide) (Or.inl q1416) (Or.inl rfl) rfl hm.r_row ?_
          refine r_iconst (v := nI 3) dX6_text_133 rfl ?_
          refine r_iconst (v := nI 0) dX6_text_134 rfl ?_
          refine r_iastN (3) dX6_text_135 hm.s67 rfl (by omega) (by decide) ?_
          refine gG_h (MH_67 _ _ _ _ _) ?_
          refine r_iload_n 3 dX6_text_136 rfl rfl ?_
          refine r_if_eq 144 dX6_text_137 (by decide) (fun c_137 => ?_) (fun c_137 => ?_)
          · skip
            have n_137 : 0 = 0 := n_eq0 (by omega) c_137
            first | rw [iP n_137] | rw [iN n_137] | rw [iN (Nat.not_lt.mpr n_137)] | skip
            refine r_bipush (v := (-10)) dX6_text_144 (by decide +kernel) ?_
            refine r_iload dX6_text_146 rfl ?_
            refine r_isub dX6_text_148 ?_
            refine e_iret dX6_text_149 rfl ?_
            exact RA.mk ((Jo.r).t j9) ho ((FrM.r).b (by decide)) (rfl) (rfl)
          · skip
            have n_137 : ¬ 0 = 0 := n_ne0 (by omega) c_137
            exact absurd n_137 (by decide)
      · skip
        have n_93 : (okT r k t) = true := b2_t c_93
        first | rw [ifT n_93] | rw [ifF n_93] | skip
        refine r_iload_n 2 dX6_text_96 rfl rfl ?_
        refine r_iload_n 2 dX6_text_97 rfl rfl ?_
        refine r_icmp_ne 105 dX6_text_98 (by decide) (fun c_98 => ?_) (fun c_98 => ?_)
        · skip
          first | rw [iP c_98] | rw [iN c_98] | rw [iN (i_le_nlt c_98)] | rw [iP (i_nle c_98)] | rw [iP (i_nlt c_98)] | rw [iN (i_lt_nle c_98)] | skip
          exact absurd rfl c_98
        · skip
          first | rw [iP c_98] | rw [iN c_98] | rw [iN (i_le_nlt c_98)] | rw [iP (i_nle c_98)] | rw [iP (i_nlt c_98)] | rw [iN (i_lt_nle c_98)] | skip
          refine r_iconst (v := nI 1) dX6_text_101 rfl ?_
          refine r_goto 106 dX6_text_102 (by decide) ?_
          refine r_istore_n 3 dX6_text_106 rfl (by decide) rfl ?_
          refine gG_ls (ls' := [_, _, _, _, _]) rfl ?_
          refine r_aload_n 0 dX6_text_107 rfl rfl rfl ?_
          refine r_geti (k := 8) dX6_text_108 hm.s66 rfl (by decide) (Or.inl q1424) (Or.inl rfl) rfl ?_
          refine r_eqi (show _ = nI ((walkP (textR r k) k t (nI 1) (nI 1) (nI 1)).2.1) from h8) ?_
          refine r_istore dX6_text_111 (by decide) rfl ?_
          refine gG_ls (ls' := [_, _, _, _, _]) rfl ?_
          refine r_iload_n 3 dX6_text_113 rfl rfl ?_
          refine r_if_ne 129 dX6_text_114 (by decide) (fun c_114 => ?_) (fun c_114 => ?_)
          · skip
            have n_114 : ¬ 1 = 0 := n_ne0 (by omega) c_114
            first | rw [iP n_114] | rw [iN n_114] | rw [iN (Nat.not_lt.mpr n_114)] | skip
            refine r_aload_n 0 dX6_text_129 rfl rfl rfl ?_
            refine r_getr (k := 0) (b := 67) dX6_text_130 hm.s66 rfl (by decide) (Or.inl q1416) (Or.inl rfl) rfl hm.r_row ?_
            refine r_iconst (v := nI 3) dX6_text_133 rfl ?_
            refine r_iconst (v := nI 0) dX6_text_134 rfl ?_
            refine r_iastN (3) dX6_text_135 hm.s67 rfl (by omega) (by decide) ?_
            refine gG_h (MH_67 _ _ _ _ _) ?_
            refine r_iload_n 3 dX6_text_136 rfl rfl ?_
            refine r_if_eq 144 dX6_text_137 (by decide) (fun c_137 => ?_) (fun c_137 => ?_)
            · skip
              have n_137 : 1 = 0 := n_eq0 (by omega) c_137
              exact absurd n_137 (by decide)
            · skip
              have n_137 : ¬ 1 = 0 := n_ne0 (by omega) c_137
              first | rw [iP n_137] | rw [iN n_137] | rw [iN (Nat.not_lt.mpr n_137)] | skip
              refine r_iconst (v := nI 1) dX6_text_140 rfl ?_
              refine r_goto 149 dX6_text_141 (by decide) ?_
              refine e_iret dX6_text_149 rfl ?_
              exact RA.mk ((Jo.r).t j9) ho ((FrM.r).b (by decide)) (rfl) (rfl)
          · skip
            have n_114 : 1 = 0 := n_eq0 (by omega) c_114
            exact absurd n_114 (by decide)
    · skip
      cases q_85.1
  · skip
    have n_6 : _ = false := b2_f c_6
    first | rw [ifT n_6] | rw [ifF n_6] | skip
    refine r_aload_n 0 dX6_text_9 rfl rfl rfl ?_
    refine r_ldc (v := -1000000001) dX6_text_10 q1511 ?_
    refine r_callV_1 dX6_text_12 kX6_53 (M_errs hm (e := (-1000000001 : Int32)) 1 (by decide +kernel) (by decide)) (gRecv.of hm.s66 rfl) rfl rfl (Nat.le_of_ble_eq_true rfl) ?_
    refine e_iret dX6_text_15 rfl ?_
    exact RA.mk (Jo.r) ho ((FrM.r).b (by decide)) (rfl) (rfl)
