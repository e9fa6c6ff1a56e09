theorem A_count {d : Nat} {h : Hp} (hm : LayM (hS h) (hR h)) {r o : Row} (w : WF r) (ho : o 15 = -1) {v : Int32} : gC (d + 421) (0) (0) m_X6_count [.ref 66, .int v] (MH h r o) (RA h (aCount (mS h r o) v)) := by
  have e_0 : aCount (mS h r o) v = (if inB v (nI 0) (nI 9) = true then (if toN v = 0 then nI (np r) else if toN v = 1 then r 0 else if toN v = 2 then sumW r 3 (np r) else if toN v = 3 then sumW r 4 (np r) else if toN v = 4 then sumD r 64 else if toN v = 5 then givenSet r (np r) else if toN v = 6 then r 3 else if toN v = 7 then r 4 else if toN v = 8 then (o 25) else r 1, (mS h r o)) else errA (mS h r o) (-1000000001) 1) := rfl
  rw [e_0]
  have hn8 := w.n8
  refine gC.of (ls := [some (.ref 66), some (.int v)]) (by decide +kernel) rfl rfl rfl rfl (Nat.le_of_ble_eq_true rfl) ?_
  refine r_iload_n 1 dX6_count_0 rfl rfl ?_
  rcases (Bool.eq_false_or_eq_true (inB v (nI 0) (nI 9))).symm with hb | hb
  · rw [ifF hb]
    refine r_tabOut 118 dX6_count_1 (inB_toInt (by decide) hb) (by decide) ?_
    refine r_aload_n 0 dX6_count_118 rfl rfl rfl ?_
    refine r_ldc (v := -1000000001) dX6_count_119 q1511 ?_
    refine r_callV_1 dX6_count_121 kX6_53 (M_errs hm (e := (-1000000001 : Int32)) 1 (by decide +kernel) (by decide)) (gRecv.of hm.s66 rfl) rfl rfl (Nat.le_of_ble_eq_true rfl) ?_
    refine e_iret dX6_count_124 rfl ?_
    exact RA.mk (Jo.r) ho ((FrM.r).b (by decide)) (rfl) (rfl)
  · rw [ifT hb]
    obtain ⟨c, h_c, rfl⟩ := inB_n (by decide) hb
    have e_c : toN (nI c) = c := toN_nI (by omega)
    simp only [e_c]
    rcases (show c = 0 ∨ c = 1 ∨ c = 2 ∨ c = 3 ∨ c = 4 ∨ c = 5 ∨ c = 6 ∨ c = 7 ∨ c = 8 ∨ c = 9 by omega) with rfl | rfl | rfl | rfl | rfl | rfl | rfl | rfl | rfl | rfl
    · skip
      refine r_tabIn 56 (off := 55) dX6_count_1 (by decide) (by decide) (by decide +kernel) (by decide) ?_
      refine r_aload_n 0 dX6_count_56 rfl rfl rfl ?_
      refine r_getr (k := 0) (b := 67) dX6_count_57 hm.s66 rfl (by decide) (Or.inl q1416) (Or.inl rfl) rfl hm.r_row ?_
      refine r_iconst (v := nI 2) dX6_count_60 rfl ?_
      refine r_ialdN (2) dX6_count_61 hm.s67 rfl (by omega) (by decide) ?_
      refine r_eqi (show _ = nI (np r) from w.n) ?_
      refine e_iret dX6_count_62 rfl ?_
      exact RA.mk (Jo.r) ho (FrM.r) (rfl) (rfl)
    · skip
      refine r_tabIn 63 (off := 62) dX6_count_1 (by decide) (by decide) (by decide +kernel) (by decide) ?_
      refine r_aload_n 0 dX6_count_63 rfl rfl rfl ?_
      refine r_getr (k := 0) (b := 67) dX6_count_64 hm.s66 rfl (by decide) (Or.inl q1416) (Or.inl rfl) rfl hm.r_row ?_
      refine r_iconst (v := nI 0) dX6_count_67 rfl ?_
      refine r_ialdN (0) dX6_count_68 hm.s67 rfl (by omega) (by decide) ?_
      refine e_iret dX6_count_69 rfl ?_
      exact RA.mk (Jo.r) ho (FrM.r) (rfl) (rfl)
    · skip
      refine r_tabIn 70 (off := 69) dX6_count_1 (by decide) (by decide) (by decide +kernel) (by decide) ?_
      refine r_aload_n 0 dX6_count_70 rfl rfl rfl ?_
      refine r_iconst (v := nI 3) dX6_count_71 rfl ?_
      refine r_callV_1 dX6_count_72 kX6_186 (M_sumOf (q := 3) (n := np r) hm (by decide) w.n w.n8) (gRecv.of hm.s66 rfl) rfl rfl (Nat.le_of_ble_eq_true rfl) ?_
      refine e_iret dX6_count_75 rfl ?_
      exact RA.mk (Jo.r) ho (FrM.r) (rfl) (rfl)
    · skip
      refine r_tabIn 76 (off := 75) dX6_count_1 (by decide) (by decide) (by decide +kernel) (by decide) ?_
      refine r_aload_n 0 dX6_count_76 rfl rfl rfl ?_
      refine r_iconst (v := nI 4) dX6_count_77 rfl ?_
      refine r_callV_1 dX6_count_78 kX6_186 (M_sumOf (q := 4) (n := np r) hm (by decide) w.n w.n8) (gRecv.of hm.s66 rfl) rfl rfl (Nat.le_of_ble_eq_true rfl) ?_
      refine e_iret dX6_count_81 rfl ?_
      exact RA.mk (Jo.r) ho (FrM.r) (rfl) (rfl)
    · skip
      refine r_tabIn 82 (off := 81) dX6_count_1 (by decide) (by decide) (by decide +kernel) (by decide) ?_
      refine r_aload_n 0 dX6_count_82 rfl rfl rfl ?_
      refine r_callV_1 dX6_count_83 kX6_218 (M_owed hm) (gRecv.of hm.s66 rfl) rfl rfl (Nat.le_of_ble_eq_true rfl) ?_
      refine e_iret dX6_count_86 rfl ?_
      exact RA.mk (Jo.r) ho (FrM.r) (rfl) (rfl)
    · skip
      refine r_tabIn 87 (off := 86) dX6_count_1 (by decide) (by decide) (by decide +kernel) (by decide) ?_
      refine r_aload_n 0 dX6_count_87 rfl rfl rfl ?_
      refine r_callV_1m dX6_count_88 kX6_240 (M_givenSet (n := np r) hm w.T w.n w.n8) (gRecv.of hm.s66 rfl) rfl rfl (Nat.le_of_ble_eq_true rfl) (fun o_1 j_1 => ?_)
      refine e_iret dX6_count_91 rfl ?_
      exact RA.mk ((Jo.r).t j_1) ho (FrM.r) (rfl) (rfl)
    · skip
      refine r_tabIn 92 (off := 91) dX6_count_1 (by decide) (by decide) (by decide +kernel) (by decide) ?_
      refine r_aload_n 0 dX6_count_92 rfl rfl rfl ?_
      refine r_getr (k := 0) (b := 67) dX6_count_93 hm.s66 rfl (by decide) (Or.inl q1416) (Or.inl rfl) rfl hm.r_row ?_
      refine r_iconst (v := nI 3) dX6_count_96 rfl ?_
      refine r_ialdN (3) dX6_count_97 hm.s67 rfl (by omega) (by decide) ?_
      refine e_iret dX6_count_98 rfl ?_
      exact RA.mk (Jo.r) ho (FrM.r) (rfl) (rfl)
    · skip
      refine r_tabIn 99 (off := 98) dX6_count_1 (by decide) (by decide) (by decide +kernel) (by decide) ?_
      refine r_aload_n 0 dX6_count_99 rfl rfl rfl ?_
      refine r_getr (k := 0) (b := 67) dX6_count_100 hm.s66 rfl (by decide) (Or.inl q1416) (Or.inl rfl) rfl hm.r_row ?_
      refine r_iconst (v := nI 4) dX6_count_103 rfl ?_
      refine r_ialdN (4) dX6_count_104 hm.s67 rfl (by omega) (by decide) ?_
      refine e_iret dX6_count_105 rfl ?_
      exact RA.mk (Jo.r) ho (FrM.r) (rfl) (rfl)
    · skip
      refine r_tabIn 106 (off := 105) dX6_count_1 (by decide) (by decide) (by decide +kernel) (by decide) ?_
      refine r_aload_n 0 dX6_count_106 rfl rfl rfl ?_
      refine r_geti (k := 25) dX6_count_107 hm.s66 rfl (by decide) (Or.inl q1441) (Or.inl rfl) rfl ?_
      refine r_eqi (show _ = (o 25) from rfl) ?_
      refine e_iret dX6_count_110 rfl ?_
      exact RA.mk (Jo.r) ho (FrM.r) (rfl) (rfl)
    · skip
      refine r_tabIn 111 (off := 110) dX6_count_1 (by decide) (by decide) (by decide +kernel) (by decide) ?_
      refine r_aload_n 0 dX6_count_111 rfl rfl rfl ?_
      refine r_getr (k := 0) (b := 67) dX6_count_112 hm.s66 rfl (by decide) (Or.inl q1416) (Or.inl rfl) rfl hm.r_row ?_
      refine r_iconst (v := nI 1) dX6_count_115 rfl ?_
      refine r_ialdN (1) dX6_count_116 hm.s67 rfl (by omega) (by decide) ?_
      refine e_iret dX6_count_117 rfl ?_
      exact RA.mk (Jo.r) ho (FrM.r) (rfl) (rfl)
theorem M_divisor_0 {d : Nat} {h : Hp} : gC (d) (0) (0) m_X6_divisor [.int (nI 0), .int (nI 7)] (h) (Ret (some (.int (nI 7))) h) := by
  refine gC.of (ls := [some (.int (nI 0)), some (.int (nI 7)), none, none, none]) (by decide +kernel) rfl rfl rfl rfl (Nat.le_of_ble_eq_true rfl) ?_
  refine r_iload_n 0 dX6_divisor_0 rfl rfl ?_
  refine r_istore_n 2 dX6_divisor_1 rfl (by decide) rfl ?_
  refine gG_ls (ls' := [_, _, _, _, _]) rfl ?_
  refine r_iload_n 1 dX6_divisor_2 rfl rfl ?_
  refine r_istore_n 3 dX6_divisor_3 rfl (by decide) rfl ?_
  refine gG_ls (ls' := [_, _, _, _, _]) rfl ?_
  refine r_iload_n 3 dX6_divisor_4 rfl rfl ?_
  refine r_if_eq 21 dX6_divisor_5 (by decide) (fun c_5 => ?_) (fun c_5 => ?_)
  · skip
    have n_5 : 7 = 0 := n_eq0 (by omega) c_5
    exact absurd n_5 (by decide)
  · skip
    have n_5 : ¬ 7 = 0 := n_ne0 (by omega) c_5
    refine r_iload_n 2 dX6_divisor_8 rfl rfl ?_
    refine r_iload_n 3 dX6_divisor_9 rfl rfl ?_
    refine r_irem dX6_divisor_10 (by decide) ?_
    refine r_eqi (show _ = nI 0 from (by decide)) ?_
    refine r_istore dX6_divisor_11 (by decide) rfl ?_
    refine gG_ls (ls' := [_, _, _, _, _]) rfl ?_
    refine r_iload_n 3 dX6_divisor_13 rfl rfl ?_
    refine r_istore_n 2 dX6_divisor_14 rfl (by decide) rfl ?_
    refine gG_ls (ls' := [_, _, _, _, _]) rfl ?_
    refine r_iload dX6_divisor_15 rfl ?_
    refine r_istore_n 3 dX6_divisor_17 rfl (by decide) rfl ?_
    refine gG_ls (ls' := [_, _, _, _, _]) rfl ?_
    refine r_goto 4 dX6_divisor_18 (by decide) ?_
    refine r_iload_n 3 dX6_divisor_4 rfl rfl ?_
    refine r_if_eq 21 dX6_divisor_5 (by decide) (fun c_5 => ?_) (fun c_5 => ?_)
    · skip
      have n_5 : 0 = 0 := n_eq0 (by omega) c_5
      refine r_iload_n 2 dX6_divisor_21 rfl rfl ?_
      refine e_iret dX6_divisor_22 rfl ?_
      exact ⟨rfl, rfl⟩
    · skip
      have n_5 : ¬ 0 = 0 := n_ne0 (by omega) c_5
      exact absurd n_5 (by decide)
theorem M_divisor_1 {d : Nat} {h : Hp} : gC (d) (0) (0) m_X6_divisor [.int (nI 1), .int (nI 7)] (h) (Ret (some (.int (nI 1))) h) := by
  refine gC.of (ls := [some (.int (nI 1)), some (.int (nI 7)), none, none, none]) (by decide +kernel) rfl rfl rfl rfl (Nat.le_of_ble_eq_true rfl) ?_
  refine r_iload_n 0 dX6_divisor_0 rfl rfl ?_
  refine r_istore_n 2 dX6_divisor_1 rfl (by decide) rfl ?_
  refine gG_ls (ls' := [_, _, _, _, _]) rfl ?_
  refine r_iload_n 1 dX6_divisor_2 rfl rfl ?_
  refine r_istore_n 3 dX6_divisor_3 rfl (by decide) rfl ?_
  refine gG_ls (ls' := [_, _, _, _, _]) rfl ?_
  refine r_iload_n 3 dX6_divisor_4 rfl rfl ?_
  refine r_if_eq 21 dX6_divisor_5 (by decide) (fun c_5 => ?_) (fun c_5 => ?_)
  · skip
    have n_5 : 7 = 0 := n_eq0 (by omega) c_5
    exact absurd n_5 (by decide)
  · skip
    have n_5 : ¬ 7 = 0 := n_ne0 (by omega) c_5
    refine r_iload_n 2 dX6_divisor_8 rfl rfl ?_
    refine r_iload_n 3 dX6_divisor_9 rfl rfl ?_
    refine r_irem dX6_divisor_10 (by decide) ?_
    refine r_eqi (show _ = nI 1 from (by decide)) ?_
    refine r_istore dX6_divisor_11 (by decide) rfl ?_
    refine gG_ls (ls' := [_, _, _, _, _]) rfl ?_
    refine r_iload_n 3 dX6_divisor_13 rfl rfl ?_
    refine r_istore_n 2 dX6_divisor_14 rfl (by decide) rfl ?_
    refine gG_ls (ls' := [_, _, _, _, _]) rfl ?_
    refine r_iload dX6_divisor_15 rfl ?_
    refine r_istore_n 3 dX6_divisor_17 rfl (by decide) rfl ?_
    refine gG_ls (ls' := [_, _, _, _, _]) rfl ?_
    refine r_goto 4 dX6_divisor_18 (by decide) ?_
    refine r_iload_n 3 dX6_divisor_4 rfl rfl ?_
    refine r_if_eq 21 dX6_divisor_5 (by decide) (fun c_5 => ?_) (fun c_5 => ?_)
    · skip
      have n_5 : 1 = 0 := n_eq0 (by omega) c_5
      exact absurd n_5 (by decide)
    · skip
      have n_5 : ¬ 1 = 0 := n_ne0 (by omega) c_5
      refine r_iload_n 2 dX6_divisor_8 rfl rfl ?_
      refine r_iload_n 3 dX6_divisor_9 rfl rfl ?_
      refine r_irem dX6_divisor_10 (by decide) ?_
      refine r_eqi (show _ = nI 0 from (by decide)) ?_
      refine r_istore dX6_divisor_11 (by decide) rfl ?_
      refine gG_ls (ls' := [_, _, _, _, _]) rfl ?_
      refine r_iload_n 3 dX6_divisor_13 rfl rfl ?_
      refine r_istore_n 2 dX6_divisor_14 rfl (by decide) rfl ?_
      refine gG_ls (ls' := [_, _, _, _, _]) rfl ?_
      refine r_iload dX6_divisor_15 rfl ?_
      refine r_istore_n 3 dX6_divisor_17 rfl (by decide) rfl ?_
      refine gG_ls (ls' := [_, _, _, _, _]) rfl ?_
      refine r_goto 4 dX6_divisor_18 (by decide) ?_
      refine r_iload_n 3 dX6_divisor_4 rfl rfl ?_
      refine r_if_eq 21 dX6_divisor_5 (by decide) (fun c_5 => ?_) (fun c_5 => ?_)
      · skip
        have n_5 : 0 = 0 := n_eq0 (by omega) c_5
        refine r_iload_n 2 dX6_divisor_21 rfl rfl ?_
        refine e_iret dX6_divisor_22 rfl ?_
        exact ⟨rfl, rfl⟩
      · skip
        have n_5 : ¬ 0 = 0 := n_ne0 (by omega) c_5
        exact absurd n_5 (by decide)
theorem M_divisor_2 {d : Nat} {h : Hp} : gC (d) (0) (0) m_X6_divisor [.int (nI 2), .int (nI 7)] (h) (Ret (some (.int (nI 1))) h) := by
  refine gC.of (ls := [some (.int (nI 2)), some (.int (nI 7)), none, none, none]) (by decide +kernel) rfl rfl rfl rfl (Nat.le_of_ble_eq_true rfl) ?_
  refine r_iload_n 0 dX6_divisor_0 rfl rfl ?_
  refine r_istore_n 2 dX6_divisor_1 rfl (by decide) rfl ?_
  refine gG_ls (ls' := [_, _, _, _, _]) rfl ?_
  refine r_iload_n 1 dX6_divisor_2 rfl rfl ?_
  refine r_istore_n 3 dX6_divisor_3 rfl (by decide) rfl ?_
  refine gG_ls (ls' := [_, _, _, _, _]) rfl ?_
  refine r_iload_n 3 dX6_divisor_4 rfl rfl ?_
  refine r_if_eq 21 dX6_divisor_5 (by decide) (fun c_5 => ?_) (fun c_5 => ?_)
  · skip
    have n_5 : 7 = 0 := n_eq0 (by omega) c_5
    exact absurd n_5 (by decide)
  · skip
    have n_5 : ¬ 7 = 0 := n_ne0 (by omega) c_5
    refine r_iload_n 2 dX6_divisor_8 rfl rfl ?_
    refine r_iload_n 3 dX6_divisor_9 rfl rfl ?_
    refine r_irem dX6_divisor_10 (by decide) ?_
    refine r_eqi (show _ = nI 2 from (by decide)) ?_
    refine r_istore dX6_divisor_11 (by decide) rfl ?_
    refine gG_ls (ls' := [_, _, _, _, _]) rfl ?_
    refine r_iload_n 3 dX6_divisor_13 rfl rfl ?_
    refine r_istore_n 2 dX6_divisor_14 rfl (by decide) rfl ?_
    refine gG_ls (ls' := [_, _, _, _, _]) rfl ?_
    refine r_iload dX6_divisor_15 rfl ?_
    refine r_istore_n 3 dX6_divisor_17 rfl (by decide) rfl ?_
    refine gG_ls (ls' := [_, _, _, _, _]) rfl ?_
    refine r_goto 4 dX6_divisor_18 (by decide) ?_
    refine r_iload_n 3 dX6_divisor_4 rfl rfl ?_
    refine r_if_eq 21 dX6_divisor_5 (by decide) (fun c_5 => ?_) (fun c_5 => ?_)
    · skip
      have n_5 : 2 = 0 := n_eq0 (by omega) c_5
      exact absurd n_5 (by decide)
    · skip
      have n_5 : ¬ 2 = 0 := n_ne0 (by omega) c_5
      refine r_iload_n 2 dX6_divisor_8 rfl rfl ?_
      refine r_iload_n 3 dX6_divisor_9 rfl rfl ?_
      refine r_irem dX6_divisor_10 (by decide) ?_
      refine r_eqi (show _ = nI 1 from (by decide)) ?_
      refine r_istore dX6_divisor_11 (by decide) rfl ?_
      refine gG_ls (ls' := [_, _, _, _, _]) rfl ?_
      refine r_iload_n 3 dX6_divisor_13 rfl rfl ?_
      refine r_istore_n 2 dX6_divisor_14 rfl (by decide) rfl ?_
      refine gG_ls (ls' := [_, _, _, _, _]) rfl ?_
      refine r_iload dX6_divisor_15 rfl ?_
      refine r_istore_n 3 dX6_divisor_17 rfl (by decide) rfl ?_
      refine gG_ls (ls' := [_, _, _, _, _]) rfl ?_
      refine r_goto 4 dX6_divisor_18 (by decide) ?_
      refine r_iload_n 3 dX6_divisor_4 rfl rfl ?_
      refine r_if_eq 21 dX6_divisor_5 (by decide) (fun c_5 => ?_) (fun c_5 => ?_)
      · skip
        have n_5 : 1 = 0 := n_eq0 (by omega) c_5
        exact absurd n_5 (by decide)
      · skip
        have n_5 : ¬ 1 = 0 := n_ne0 (by omega) c_5
        refine r_iload_n 2 dX6_divisor_8 rfl rfl ?_
        refine r_iload_n 3 dX6_divisor_9 rfl rfl ?_
        refine r_irem dX6_divisor_10 (by decide) ?_
        refine r_eqi (show _ = nI 0 from (by decide)) ?_
        refine r_istore dX6_divisor_11 (by decide) rfl ?_
        refine gG_ls (ls' := [_, _, _, _, _]) rfl ?_
        refine r_iload_n 3 dX6_divisor_13 rfl rfl ?_
        refine r_istore_n 2 dX6_divisor_14 rfl (by decide) rfl ?_
        refine gG_ls (ls' := [_, _, _, _, _]) rfl ?_
        refine r_iload dX6_divisor_15 rfl ?_
        refine r_istore_n 3 dX6_divisor_17 rfl (by decide) rfl ?_
        refine gG_ls (ls' := [_, _, _, _, _]) rfl ?_
        refine r_goto 4 dX6_divisor_18 (by decide) ?_
        refine r_iload_n 3 dX6_divisor_4 rfl rfl ?_
        refine r_if_eq 21 dX6_divisor_5 (by decide) (fun c_5 => ?_) (fun c_5 => ?_)
        · skip
          have n_5 : 0 = 0 := n_eq0 (by omega) c_5
          refine r_iload_n 2 dX6_divisor_21 rfl rfl ?_
          refine e_iret dX6_divisor_22 rfl ?_
          exact ⟨rfl, rfl⟩
        · skip
          have n_5 : ¬ 0 = 0 := n_ne0 (by omega) c_5
          exact absurd n_5 (by decide)
theorem M_divisor_3 {d : Nat} {h : Hp} : gC (d) (0) (0) m_X6_divisor [.int (nI 3), .int (nI 7)] (h) (Ret (some (.int (nI 1))) h) := by
  refine gC.of (ls := [some (.int (nI 3)), some (.int (nI 7)), none, none, none]) (by decide +kernel) rfl rfl rfl rfl (Nat.le_of_ble_eq_true rfl) ?_
  refine r_iload_n 0 dX6_divisor_0 rfl rfl ?_
  refine r_istore_n 2 dX6_divisor_1 rfl (by decide) rfl ?_
  refine gG_ls (ls' := [_, _, _, _, _]) rfl ?_
  refine r_iload_n 1 dX6_divisor_2 rfl rfl ?_
  refine r_istore_n 3 dX6_divisor_3 rfl (by decide) rfl ?_
  refine gG_ls (ls' := [_, _, _, _, _]) rfl ?_
  refine r_iload_n 3 dX6_divisor_4 rfl rfl ?_
  refine r_if_eq 21 dX6_divisor_5 (by decide) (fun c_5 => ?_) (fun c_5 => ?_)
  · skip
    have n_5 : 7 = 0 := n_eq0 (by omega) c_5
    exact absurd n_5 (by decide)
  · skip
    have n_5 : ¬ 7 = 0 := n_ne0 (by omega) c_5
    refine r_iload_n 2 dX6_divisor_8 rfl rfl ?_
    refine r_iload_n 3 dX6_divisor_9 rfl rfl ?_
    refine r_irem dX6_divisor_10 (by decide) ?_
    refine r_eqi (show _ = nI 3 from (by decide)) ?_
    refine r_istore dX6_divisor_11 (by decide) rfl ?_
    refine gG_ls (ls' := [_, _, _, _, _]) rfl ?_
    refine r_iload_n 3 dX6_divisor_13 rfl rfl ?_
    refine r_istore_n 2 dX6_divisor_14 rfl (by decide) rfl ?_
    refine gG_ls (ls' := [_, _, _, _, _]) rfl ?_
    refine r_iload dX6_divisor_15 rfl ?_
    refine r_istore_n 3 dX6_divisor_17 rfl (by decide) rfl ?_
    refine gG_ls (ls' := [_, _, _, _, _]) rfl ?_
    refine r_goto 4 dX6_divisor_18 (by decide) ?_
    refine r_iload_n 3 dX6_divisor_4 rfl rfl ?_
    refine r_if_eq 21 dX6_divisor_5 (by decide) (fun c_5 => ?_) (fun c_5 => ?_)
    · skip
      have n_5 : 3 = 0 := n_eq0 (by omega) c_5
      exact absurd n_5 (by decide)
    · skip
      have n_5 : ¬ 3 = 0 := n_ne0 (by omega) c_5
      refine r_iload_n 2 dX6_divisor_8 rfl rfl ?_
      refine r_iload_n 3 dX6_divisor_9 rfl rfl ?_
      refine r_irem dX6_divisor_10 (by decide) ?_
      refine r_eqi (show _ = nI 1 from (by decide)) ?_
      refine r_istore dX6_divisor_11 (by decide) rfl ?_
      refine gG_ls (ls' := [_, _, _, _, _]) rfl ?_
      refine r_iload_n 3 dX6_divisor_13 rfl rfl ?_
      refine r_istore_n 2 dX6_divisor_14 rfl (by decide) rfl ?_
      refine gG_ls (ls' := [_, _, _, _, _]) rfl ?_
      refine r_iload dX6_divisor_15 rfl ?_
      refine r_istore_n 3 dX6_divisor_17 rfl (by decide) rfl ?_
      refine gG_ls (ls' := [_, _, _, _, _]) rfl ?_
      refine r_goto 4 dX6_divisor_18 (by decide) ?_
      refine r_iload_n 3 dX6_divisor_4 rfl rfl ?_
      refine r_if_eq 21 dX6_divisor_5 (by decide) (fun c_5 => ?_) (fun c_5 => ?_)
      · skip
        have n_5 : 1 = 0 := n_eq0 (by omega) c_5
        exact absurd n_5 (by decide)
      · skip
        have n_5 : ¬ 1 = 0 := n_ne0 (by omega) c_5
        refine r_iload_n 2 dX6_divisor_8 rfl rfl ?_
        refine r_iload_n 3 dX6_divisor_9 rfl rfl ?_
        refine r_irem dX6_divisor_10 (by decide) ?_
        refine r_eqi (show _ = nI 0 from (by decide)) ?_
        refine r_istore dX6_divisor_11 (by decide) rfl ?_
        refine gG_ls (ls' := [_, _, _, _, _]) rfl ?_
        refine r_iload_n 3 dX6_divisor_13 rfl rfl ?_
        refine r_istore_n 2 dX6_divisor_14 rfl (by decide) rfl ?_
        refine gG_ls (ls' := [_, _, _, _, _]) rfl ?_
        refine r_iload dX6_divisor_15 rfl ?_
        refine r_istore_n 3 dX6_divisor_17 rfl (by decide) rfl ?_
        refine gG_ls (ls' := [_, _, _, _, _]) rfl ?_
        refine r_goto 4 dX6_divisor_18 (by decide) ?_
        refine r_iload_n 3 dX6_divisor_4 rfl rfl ?_
        refine r_if_eq 21 dX6_divisor_5 (by decide) (fun c_5 => ?_) (fun c_5 => ?_)
        · skip
          have n_5 : 0 = 0 := n_eq0 (by omega) c_5
          refine r_iload_n 2 dX6_divisor_21 rfl rfl ?_
          refine e_iret dX6_divisor_22 rfl ?_
          exact ⟨rfl, rfl⟩
        · skip
          have n_5 : ¬ 0 = 0 := n_ne0 (by omega) c_5
          exact absurd n_5 (by decide)
theorem M_divisor_4 {d : Nat} {h : Hp} : gC (d) (0) (0) m_X6_divisor [.int (nI 4), .int (nI 7)] (h) (Ret (some (.int (nI 1))) h) := by
  refine gC.of (ls := [some (.int (nI 4)), some (.int (nI 7)), none, none, none]) (by decide +kernel) rfl rfl rfl rfl (Nat.le_of_ble_eq_true rfl) ?_
  refine r_iload_n 0 dX6_divisor_0 rfl rfl ?_
  refine r_istore_n 2 dX6_divisor_1 rfl (by decide) rfl ?_
  refine gG_ls (ls' := [_, _, _, _, _]) rfl ?_
  refine r_iload_n 1 dX6_divisor_2 rfl rfl ?_
  refine r_istore_n 3 dX6_divisor_3 rfl (by decide) rfl ?_
  refine gG_ls (ls' := [_, _, _, _, _]) rfl ?_
  refine r_iload_n 3 dX6_divisor_4 rfl rfl ?_
  refine r_if_eq 21 dX6_divisor_5 (by decide) (fun c_5 => ?_) (fun c_5 => ?_)
  · skip
    have n_5 : 7 = 0 := n_eq0 (by omega) c_5
    exact absurd n_5 (by decide)
  · skip
    have n_5 : ¬ 7 = 0 := n_ne0 (by omega) c_5
    refine r_iload_n 2 dX6_divisor_8 rfl rfl ?_
    refine r_iload_n 3 dX6_divisor_9 rfl rfl ?_
    refine r_irem dX6_divisor_10 (by decide) ?_
    refine r_eqi (show _ = nI 4 from (by decide)) ?_
    refine r_istore dX6_divisor_11 (by decide) rfl ?_
    refine gG_ls (ls' := [_, _, _, _, _]) rfl ?_
    refine r_iload_n 3 dX6_divisor_13 rfl rfl ?_
    refine r_istore_n 2 dX6_divisor_14 rfl (by decide) rfl ?_
    refine gG_ls (ls' := [_, _, _, _, _]) rfl ?_
    refine r_iload dX6_divisor_15 rfl ?_
    refine r_istore_n 3 dX6_divisor_17 rfl (by decide) rfl ?_
    refine gG_ls (ls' := [_, _, _, _, _]) rfl ?_
    refine r_goto 4 dX6_divisor_18 (by decide) ?_
    refine r_iload_n 3 dX6_divisor_4 rfl rfl ?_
    refine r_if_eq 21 dX6_divisor_5 (by decide) (fun c_5 => ?_) (fun c_5 => ?_)
    · skip
      have n_5 : 4 = 0 := n_eq0 (by omega) c_5
      exact absurd n_5 (by decide)
    · skip
      have n_5 : ¬ 4 = 0 := n_ne0 (by omega) c_5
      refine r_iload_n 2 dX6_divisor_8 rfl rfl ?_
      refine r_iload_n 3 dX6_divisor_9 rfl rfl ?_
      refine r_irem dX6_divisor_10 (by decide) ?_
      refine r_eqi (show _ = nI 3 from (by decide)) ?_
      refine r_istore dX6_divisor_11 (by decide) rfl ?_
      refine gG_ls (ls' := [_, _, _, _, _]) rfl ?_
      refine r_iload_n 3 dX6_divisor_13 rfl rfl ?_
      refine r_istore_n 2 dX6_divisor_14 rfl (by decide) rfl ?_
      refine gG_ls (ls' := [_, _, _, _, _]) rfl ?_
      refine r_iload dX6_divisor_15 rfl ?_
      refine r_istore_n 3 dX6_divisor_17 rfl (by decide) rfl ?_
      refine gG_ls (ls' := [_, _, _, _, _]) rfl ?_
      refine r_goto 4 dX6_divisor_18 (by decide) ?_
      refine r_iload_n 3 dX6_divisor_4 rfl rfl ?_
      refine r_if_eq 21 dX6_divisor_5 (by decide) (fun c_5 => ?_) (fun c_5 => ?_)
      · skip
        have n_5 : 3 = 0 := n_eq0 (by omega) c_5
        exact absurd n_5 (by decide)
      · skip
        have n_5 : ¬ 3 = 0 := n_ne0 (by omega) c_5
        refine r_iload_n 2 dX6_divisor_8 rfl rfl ?_
        refine r_iload_n 3 dX6_divisor_9 rfl rfl ?_
        refine r_irem dX6_divisor_10 (by decide) ?_
        refine r_eqi (show _ = nI 1 from (by decide)) ?_
        refine r_istore dX6_divisor_11 (by decide) rfl ?_
        refine gG_ls (ls' := [_, _, _, _, _]) rfl ?_
        refine r_iload_n 3 dX6_divisor_13 rfl rfl ?_
        refine r_istore_n 2 dX6_divisor_14 rfl (by decide) rfl ?_
        refine gG_ls (ls' := [_, _, _, _, _]) rfl ?_
        refine r_iload dX6_divisor_15 rfl ?_
        refine r_istore_n 3 dX6_divisor_17 rfl (by decide) rfl ?_
        refine gG_ls (ls' := [_, _, _, _, _]) rfl ?_
        refine r_goto 4 dX6_divisor_18 (by decide) ?_
        refine r_iload_n 3 dX6_divisor_4 rfl rfl ?_
        refine r_if_eq 21 dX6_divisor_5 (by decide) (fun c_5 => ?_) (fun c_5 => ?_)
        · skip
          have n_5 : 1 = 0 := n_eq0 (by omega) c_5
          exact absurd n_5 (by decide)
        · skip
          have n_5 : ¬ 1 = 0 := n_ne0 (by omega) c_5
          refine r_iload_n 2 dX6_divisor_8 rfl rfl ?_
          refine r_iload_n 3 dX6_divisor_9 rfl rfl ?_
          refine r_irem dX6_divisor_10 (by decide) ?_
          refine r_eqi (show _ = nI 0 from (by decide)) ?_
          refine r_istore dX6_divisor_11 (by decide) rfl ?_
          refine gG_ls (ls' := [_, _, _, _, _]) rfl ?_
          refine r_iload_n 3 dX6_divisor_13 rfl rfl ?_
          refine r_istore_n 2 dX6_divisor_14 rfl (by decide) rfl ?_
          refine gG_ls (ls' := [_, _, _, _, _]) rfl ?_
          refine r_iload dX6_divisor_15 rfl ?_
          refine r_istore_n 3 dX6_divisor_17 rfl (by decide) rfl ?_
          refine gG_ls (ls' := [_, _, _, _, _]) rfl ?_
          refine r_goto 4 dX6_divisor_18 (by decide) ?_
          refine r_iload_n 3 dX6_divisor_4 rfl rfl ?_
          refine r_if_eq 21 dX6_divisor_5 (by decide) (fun c_5 => ?_) (fun c_5 => ?_)
          · skip
            have n_5 : 0 = 0 := n_eq0 (by omega) c_5
            refine r_iload_n 2 dX6_divisor_21 rfl rfl ?_
            refine e_iret dX6_divisor_22 rfl ?_
            exact ⟨rfl, rfl⟩
          · skip
            have n_5 : ¬ 0 = 0 := n_ne0 (by omega) c_5
            exact absurd n_5 (by decide)
theorem M_divisor_5 {d : Nat} {h : Hp} : gC (d) (0) (0) m_X6_divisor [.int (nI 5), .int (nI 7)] (h) (Ret (some (.int (nI 1))) h) := by
  refine gC.of (ls := [some (.int (nI 5)), some (.int (nI 7)), none, none, none]) (by decide +kernel) rfl rfl rfl rfl (Nat.le_of_ble_eq_true rfl) ?_
  refine r_iload_n 0 dX6_divisor_0 rfl rfl ?_
  refine r_istore_n 2 dX6_divisor_1 rfl (by decide) rfl ?_
  refine gG_ls (ls' := [_, _, _, _, _]) rfl ?_
  refine r_iload_n 1 dX6_divisor_2 rfl rfl ?_
  refine r_istore_n 3 dX6_divisor_3 rfl (by decide) rfl ?_
  refine gG_ls (ls' := [_, _, _, _, _]) rfl ?_
  refine r_iload_n 3 dX6_divisor_4 rfl rfl ?_
  refine r_if_eq 21 dX6_divisor_5 (by decide) (fun c_5 => ?_) (fun c_5 => ?_)
  · skip
    have n_5 : 7 = 0 := n_eq0 (by omega) c_5
    exact absurd n_5 (by decide)
  · skip
    have n_5 : ¬ 7 = 0 := n_ne0 (by omega) c_5
    refine r_iload_n 2 dX6_divisor_8 rfl rfl ?_
    refine r_iload_n 3 dX6_divisor_9 rfl rfl ?_
    refine r_irem dX6_divisor_10 (by decide) ?_
    refine r_eqi (show _ = nI 5 from (by decide)) ?_
    refine r_istore dX6_divisor_11 (by decide) rfl ?_
    refine gG_ls (ls' := [_, _, _, _, _]) rfl ?_
    refine r_iload_n 3 dX6_divisor_13 rfl rfl ?_
    refine r_istore_n 2 dX6_divisor_14 rfl (by decide) rfl ?_
    refine gG_ls (ls' := [_, _, _, _, _]) rfl ?_
    refine r_iload dX6_divisor_15 rfl ?_
    refine r_istore_n 3 dX6_divisor_17 rfl (by decide) rfl ?_
    refine gG_ls (ls' := [_, _, _, _, _]) rfl ?_
    refine r_goto 4 dX6_divisor_18 (by decide) ?_
    refine r_iload_n 3 dX6_divisor_4 rfl rfl ?_
    refine r_if_eq 21 dX6_divisor_5 (by decide) (fun c_5 => ?_) (fun c_5 => ?_)
    · skip
      have n_5 : 5 = 0 := n_eq0 (by omega) c_5
      exact absurd n_5 (by decide)
    · skip
      have n_5 : ¬ 5 = 0 := n_ne0 (by omega) c_5
      refine r_iload_n 2 dX6_divisor_8 rfl rfl ?_
      refine r_iload_n 3 dX6_divisor_9 rfl rfl ?_
      refine r_irem dX6_divisor_10 (by decide) ?_
      refine r_eqi (show _ = nI 2 from (by decide)) ?_
      refine r_istore dX6_divisor_11 (by decide) rfl ?_
      refine gG_ls (ls' := [_, _, _, _, _]) rfl ?_
      refine r_iload_n 3 dX6_divisor_13 rfl rfl ?_
      refine r_istore_n 2 dX6_divisor_14 rfl (by decide) rfl ?_
      refine gG_ls (ls' := [_, _, _, _, _]) rfl ?_
      refine r_iload dX6_divisor_15 rfl ?_
      refine r_istore_n 3 dX6_divisor_17 rfl (by decide) rfl ?_
      refine gG_ls (ls' := [_, _, _, _, _]) rfl ?_
      refine r_goto 4 dX6_divisor_18 (by decide) ?_
      refine r_iload_n 3 dX6_divisor_4 rfl rfl ?_
      refine r_if_eq 21 dX6_divisor_5 (by decide) (fun c_5 => ?_) (fun c_5 => ?_)
      · skip
        have n_5 : 2 = 0 := n_eq0 (by omega) c_5
        exact absurd n_5 (by decide)
      · skip
        have n_5 : ¬ 2 = 0 := n_ne0 (by omega) c_5
        refine r_iload_n 2 dX6_divisor_8 rfl rfl ?_
        refine r_iload_n 3 dX6_divisor_9 rfl rfl ?_
        refine r_irem dX6_divisor_10 (by decide) ?_
        refine r_eqi (show _ = nI 1 from (by decide)) ?_
        refine r_istore dX6_divisor_11 (by decide) rfl ?_
        refine gG_ls (ls' := [_, _, _, _, _]) rfl ?_
        refine r_iload_n 3 dX6_divisor_13 rfl rfl ?_
        refine r_istore_n 2 dX6_divisor_14 rfl (by decide) rfl ?_
        refine gG_ls (ls' := [_, _, _, _, _]) rfl ?_
        refine r_iload dX6_divisor_15 rfl ?_
        refine r_istore_n 3 dX6_divisor_17 rfl (by decide) rfl ?_
        refine gG_ls (ls' := [_, _, _, _, _]) rfl ?_
        refine r_goto 4 dX6_divisor_18 (by decide) ?_
        refine r_iload_n 3 dX6_divisor_4 rfl rfl ?_
        refine r_if_eq 21 dX6_divisor_5 (by decide) (fun c_5 => ?_) (fun c_5 => ?_)
        · skip
          have n_5 : 1 = 0 := n_eq0 (by omega) c_5
          exact absurd n_5 (by decide)
        · skip
          have n_5 : ¬ 1 = 0 := n_ne0 (by omega) c_5
          refine r_iload_n 2 dX6_divisor_8 rfl rfl ?_
          refine r_iload_n 3 dX6_divisor_9 rfl rfl ?_
          refine r_irem dX6_divisor_10 (by decide) ?_
          refine r_eqi (show _ = nI 0 from (by decide)) ?_
          refine r_istore dX6_divisor_11 (by decide) rfl ?_
          refine gG_ls (ls' := [_, _, _, _, _]) rfl ?_
          refine r_iload_n 3 dX6_divisor_13 rfl rfl ?_
          refine r_istore_n 2 dX6_divisor_14 rfl (by decide) rfl ?_
          refine gG_ls (ls' := [_, _, _, _, _]) rfl ?_
          refine r_iload dX6_divisor_15 rfl ?_
          refine r_istore_n 3 dX6_divisor_17 rfl (by decide) rfl ?_
          refine gG_ls (ls' := [_, _, _, _, _]) rfl ?_
          refine r_goto 4 dX6_divisor_18 (by decide) ?_
          refine r_iload_n 3 dX6_divisor_4 rfl rfl ?_
          refine r_if_eq 21 dX6_divisor_5 (by decide) (fun c_5 => ?_) (fun c_5 => ?_)
          · skip
            have n_5 : 0 = 0 := n_eq0 (by omega) c_5
            refine r_iload_n 2 dX6_divisor_21 rfl rfl ?_
            refine e_iret dX6_divisor_22 rfl ?_
            exact ⟨rfl, rfl⟩
          · skip
            have n_5 : ¬ 0 = 0 := n_ne0 (by omega) c_5
            exact absurd n_5 (by decide)
theorem M_divisor_6 {d : Nat} {h : Hp} : gC (d) (0) (0) m_X6_divisor [.int (nI 6), .int (nI 7)] (h) (Ret (some (.int (nI 1))) h) := by
  refine gC.of (ls := [some (.int (nI 6)), some (.int (nI 7)), none, none, none]) (by decide +kernel) rfl rfl rfl rfl (Nat.le_of_ble_eq_true rfl) ?_
  refine r_iload_n 0 dX6_divisor_0 rfl rfl ?_
  refine r_istore_n 2 dX6_divisor_1 rfl (by decide) rfl ?_
  refine gG_ls (ls' := [_, _, _, _, _]) rfl ?_
  refine r_iload_n 1 dX6_divisor_2 rfl rfl ?_
  refine r_istore_n 3 dX6_divisor_3 rfl (by decide) rfl ?_
  refine gG_ls (ls' := [_, _, _, _, _]) rfl ?_
  refine r_iload_n 3 dX6_divisor_4 rfl rfl ?_
  refine r_if_eq 21 dX6_divisor_5 (by decide) (fun c_5 => ?_) (fun c_5 => ?_)
  · skip
    have n_5 : 7 = 0 := n_eq0 (by omega) c_5
    exact absurd n_5 (by decide)
  · skip
    have n_5 : ¬ 7 = 0 := n_ne0 (by omega) c_5
    refine r_iload_n 2 dX6_divisor_8 rfl rfl ?_
    refine r_iload_n 3 dX6_divisor_9 rfl rfl ?_
    refine r_irem dX6_divisor_10 (by decide) ?_
    refine r_eqi (show _ = nI 6 from (by decide)) ?_
    refine r_istore dX6_divisor_11 (by decide) rfl ?_
    refine gG_ls (ls' := [_, _, _, _, _]) rfl ?_
    refine r_iload_n 3 dX6_divisor_13 rfl rfl ?_
    refine r_istore_n 2 dX6_divisor_14 rfl (by decide) rfl ?_
    refine gG_ls (ls' := [_, _, _, _, _]) rfl ?_
    refine r_iload dX6_divisor_15 rfl ?_
    refine r_istore_n 3 dX6_divisor_17 rfl (by decide) rfl ?_
    refine gG_ls (ls' := [_, _, _, _, _]) rfl ?_
    refine r_goto 4 dX6_divisor_18 (by decide) ?_
    refine r_iload_n 3 dX6_divisor_4 rfl rfl ?_
    refine r_if_eq 21 dX6_divisor_5 (by decide) (fun c_5 => ?_) (fun c_5 => ?_)
    · skip
      have n_5 : 6 = 0 := n_eq0 (by omega) c_5
      exact absurd n_5 (by decide)
    · skip
      have n_5 : ¬ 6 = 0 := n_ne0 (by omega) c_5
      refine r_iload_n 2 dX6_divisor_8 rfl rfl ?_
      refine r_iload_n 3 dX6_divisor_9 rfl rfl ?_
      refine r_irem dX6_divisor_10 (by decide) ?_
      refine r_eqi (show _ = nI 1 from (by decide)) ?_
      refine r_istore dX6_divisor_11 (by decide) rfl ?_
      refine gG_ls (ls' := [_, _, _, _, _]) rfl ?_
      refine r_iload_n 3 dX6_divisor_13 rfl rfl ?_
      refine r_istore_n 2 dX6_divisor_14 rfl (by decide) rfl ?_
      refine gG_ls (ls' := [_, _, _, _, _]) rfl ?_
      refine r_iload dX6_divisor_15 rfl ?_
      refine r_istore_n 3 dX6_divisor_17 rfl (by decide) rfl ?_
      refine gG_ls (ls' := [_, _, _, _, _]) rfl ?_
      refine r_goto 4 dX6_divisor_18 (by decide) ?_
      refine r_iload_n 3 dX6_divisor_4 rfl rfl ?_
      refine r_if_eq 21 dX6_divisor_5 (by decide) (fun c_5 => ?_) (fun c_5 => ?_)
      · skip
        have n_5 : 1 = 0 := n_eq0 (by omega) c_5
        exact absurd n_5 (by decide)
      · skip
        have n_5 : ¬ 1 = 0 := n_ne0 (by omega) c_5
        refine r_iload_n 2 dX6_divisor_8 rfl rfl ?_
        refine r_iload_n 3 dX6_divisor_9 rfl rfl ?_
        refine r_irem dX6_divisor_10 (by decide) ?_
        refine r_eqi (show _ = nI 0 from (by decide)) ?_
        refine r_istore dX6_divisor_11 (by decide) rfl ?_
        refine gG_ls (ls' := [_, _, _, _, _]) rfl ?_
        refine r_iload_n 3 dX6_divisor_13 rfl rfl ?_
        refine r_istore_n 2 dX6_divisor_14 rfl (by decide) rfl ?_
        refine gG_ls (ls' := [_, _, _, _, _]) rfl ?_
        refine r_iload dX6_divisor_15 rfl ?_
        refine r_istore_n 3 dX6_divisor_17 rfl (by decide) rfl ?_
        refine gG_ls (ls' := [_, _, _, _, _]) rfl ?_
        refine r_goto 4 dX6_divisor_18 (by decide) ?_
        refine r_iload_n 3 dX6_divisor_4 rfl rfl ?_
        refine r_if_eq 21 dX6_divisor_5 (by decide) (fun c_5 => ?_) (fun c_5 => ?_)
        · skip
          have n_5 : 0 = 0 := n_eq0 (by omega) c_5
          refine r_iload_n 2 dX6_divisor_21 rfl rfl ?_
          refine e_iret dX6_divisor_22 rfl ?_
          exact ⟨rfl, rfl⟩
        · skip
          have n_5 : ¬ 0 = 0 := n_ne0 (by omega) c_5
          exact absurd n_5 (by decide)
theorem M_divisor_7 {d : Nat} {h : Hp} : gC (d) (0) (0) m_X6_divisor [.int (nI 7), .int (nI 7)] (h) (Ret (some (.int (nI 7))) h) := by
  refine gC.of (ls := [some (.int (nI 7)), some (.int (nI 7)), none, none, none]) (by decide +kernel) rfl rfl rfl rfl (Nat.le_of_ble_eq_true rfl) ?_
  refine r_iload_n 0 dX6_divisor_0 rfl rfl ?_
  refine r_istore_n 2 dX6_divisor_1 rfl (by decide) rfl ?_
  refine gG_ls (ls' := [_, _, _, _, _]) rfl ?_
  refine r_iload_n 1 dX6_divisor_2 rfl rfl ?_
  refine r_istore_n 3 dX6_divisor_3 rfl (by decide) rfl ?_
  refine gG_ls (ls' := [_, _, _, _, _]) rfl ?_
  refine r_iload_n 3 dX6_divisor_4 rfl rfl ?_
  refine r_if_eq 21 dX6_divisor_5 (by decide) (fun c_5 => ?_) (fun c_5 => ?_)
  · skip
    have n_5 : 7 = 0 := n_eq0 (by omega) c_5
    exact absurd n_5 (by decide)
  · skip
    have n_5 : ¬ 7 = 0 := n_ne0 (by omega) c_5
    refine r_iload_n 2 dX6_divisor_8 rfl rfl ?_
    refine r_iload_n 3 dX6_divisor_9 rfl rfl ?_
    refine r_irem dX6_divisor_10 (by decide) ?_
    refine r_eqi (show _ = nI 0 from (by decide)) ?_
    refine r_istore dX6_divisor_11 (by decide) rfl ?_
    refine gG_ls (ls' := [_, _, _, _, _]) rfl ?_
    refine r_iload_n 3 dX6_divisor_13 rfl rfl ?_
    refine r_istore_n 2 dX6_divisor_14 rfl (by decide) rfl ?_
    refine gG_ls (ls' := [_, _, _, _, _]) rfl ?_
    refine r_iload dX6_divisor_15 rfl ?_
    refine r_istore_n 3 dX6_divisor_17 rfl (by decide) rfl ?_
    refine gG_ls (ls' := [_, _, _, _, _]) rfl ?_
    refine r_goto 4 dX6_divisor_18 (by decide) ?_
    refine r_iload_n 3 dX6_divisor_4 rfl rfl ?_
    refine r_if_eq 21 dX6_divisor_5 (by decide) (fun c_5 => ?_) (fun c_5 => ?_)
    · skip
      have n_5 : 0 = 0 := n_eq0 (by omega) c_5
      refine r_iload_n 2 dX6_divisor_21 rfl rfl ?_
      refine e_iret dX6_divisor_22 rfl ?_
      exact ⟨rfl, rfl⟩
    · skip
      have n_5 : ¬ 0 = 0 := n_ne0 (by omega) c_5
      exact absurd n_5 (by decide)
theorem M_divisor {d : Nat} {h : Hp} {n : Nat} (hn : n ≤ 7) : gC d 0 0 m_X6_divisor [.int (nI n), .int (nI 7)] h (Ret (some (.int (nI (gcV n)))) h) := by
  rcases (show n = 0 ∨ n = 1 ∨ n = 2 ∨ n = 3 ∨ n = 4 ∨ n = 5 ∨ n = 6 ∨ n = 7 by omega) with rfl | rfl | rfl | rfl | rfl | rfl | rfl | rfl
  · exact M_divisor_0
  · exact M_divisor_1
  · exact M_divisor_2
  · exact M_divisor_3
  · exact M_divisor_4
  · exact M_divisor_5
  · exact M_divisor_6
  · exact M_divisor_7
theorem A_odds {d : Nat} {h : Hp} (hm : LayM (hS h) (hR h)) {r o : Row} (w : WF r) (ho : o 15 = -1) {p q : Int32} : gC (d + 421) (0) (0) m_X6_odds [.ref 66, .int p, .int q] (MH h r o) (RA h (aOdds (mS h r o) p q)) := by
  have e_0 : aOdds (mS h r o) p q = (if inB p 0 (r 2 - 1) = true then (if inB q (nI 0) (nI 1) = true then (if toN q = 0 then nI (weekV r (toN p) (pv r (toN p) 2) 7) / nI (gcV (weekV r (toN p) (pv r (toN p) 2) 7)) else nI 7 / nI (gcV (weekV r (toN p) (pv r (toN p) 2) 7)), (mS h r o)) else errA (mS h r o) (-1000000001) 1) else errA (mS h r o) (-1000000001) 1) := rfl
  rw [e_0]
  have hn8 := w.n8
  refine gC.of (ls := [some (.ref 66), some (.int p), some (.int q), none, none]) (by decide +kernel) rfl rfl rfl rfl (Nat.le_of_ble_eq_true rfl) ?_
  refine r_aload_n 0 dX6_odds_0 rfl rfl rfl ?_
  refine r_iload_n 1 dX6_odds_1 rfl rfl ?_
  refine r_callV_1 dX6_odds_2 kX6_62 (M_isOne hm) (gRecv.of hm.s66 rfl) rfl rfl (Nat.le_of_ble_eq_true rfl) ?_
  refine r_if_eq 17 dX6_odds_5 (by decide) (fun c_5 => ?_) (fun c_5 => ?_)
  · skip
    have n_5 : _ = false := b2_f c_5
    first | rw [ifT n_5] | rw [ifF n_5] | skip
    refine r_aload_n 0 dX6_odds_17 rfl rfl rfl ?_
    refine r_ldc (v := -1000000001) dX6_odds_18 q1511 ?_
    refine r_callV_1 dX6_odds_20 kX6_53 (M_errs hm (e := (-1000000001 : Int32)) 1 (by decide +kernel) (by decide)) (gRecv.of hm.s66 rfl) rfl rfl (Nat.le_of_ble_eq_true rfl) ?_
    refine e_iret dX6_odds_23 rfl ?_
    exact RA.mk (Jo.r) ho ((FrM.r).b (by decide)) (rfl) (rfl)
  · skip
    have n_5 : _ = true := b2_t c_5
    first | rw [ifT n_5] | rw [ifF n_5] | skip
    obtain ⟨k, h_k, rfl⟩ := one_of w n_5
    have hn8 := w.n8
    have e_k : toN (nI k) = k := toN_nI (by omega)
    try simp only [e_k]
    refine r_iload_n 2 dX6_odds_8 rfl rfl ?_
    refine r_iconst (v := nI 0) dX6_odds_9 rfl ?_
    refine r_iconst (v := nI 1) dX6_odds_10 rfl ?_
    refine r_callS_1 dX6_odds_11 kX6_48 (M_in)  rfl rfl (Nat.le_of_ble_eq_true rfl) ?_
    refine r_if_ne 24 dX6_odds_14 (by decide) (fun c_14 => ?_) (fun c_14 => ?_)
    · skip
      have n_14 : _ = true := b2_t c_14
      first | rw [ifT n_14] | rw [ifF n_14] | skip
      obtain ⟨c, h_c, rfl⟩ := inB_n (by decide) n_14
      have e_c : toN (nI c) = c := toN_nI (by omega)
      try simp only [e_c]
      refine r_aload_n 0 dX6_odds_24 rfl rfl rfl ?_
      refine r_iload_n 1 dX6_odds_25 rfl rfl ?_
      refine r_aload_n 0 dX6_odds_26 rfl rfl rfl ?_
      refine r_iload_n 1 dX6_odds_27 rfl rfl ?_
      refine r_iconst (v := nI 2) dX6_odds_28 rfl ?_
      refine r_callV_1 dX6_odds_29 kX6_75 (M_its (p := k) (w := 2) hm (by omega)) (gRecv.of hm.s66 rfl) rfl rfl (Nat.le_of_ble_eq_true rfl) ?_
      refine r_callV_1m dX6_odds_32 kX6_237 (M_weekOf (p := k) (t := pv r k 2) hm w.T (by omega)) (gRecv.of hm.s66 rfl) rfl rfl (Nat.le_of_ble_eq_true rfl) (fun o_1 j_1 => ?_)
      have hwl : (weekV r k ((pv r k 2)) 7) ≤ 7 := weekV_le 7
      have hne : ¬ nI (gcV (weekV r k ((pv r k 2)) 7)) = 0 := gcV_ne _
      refine r_istore_n 3 dX6_odds_35 rfl (by decide) rfl ?_
      refine gG_ls (ls' := [_, _, _, _, _]) rfl ?_
      refine r_iload_n 3 dX6_odds_36 rfl rfl ?_
      refine r_bipush (v := nI 7) dX6_odds_37 (by decide +kernel) ?_
      refine r_callS_1 dX6_odds_39 kX6_246 (M_divisor (n := (weekV r k ((pv r k 2)) 7)) (by omega))  rfl rfl (Nat.le_of_ble_eq_true rfl) ?_
      refine r_istore dX6_odds_42 (by decide) rfl ?_
      refine gG_ls (ls' := [_, _, _, _, _]) rfl ?_
      refine r_iload_n 2 dX6_odds_44 rfl rfl ?_
      refine r_if_ne 55 dX6_odds_45 (by decide) (fun c_45 => ?_) (fun c_45 => ?_)
      · skip
        have n_45 : ¬ c = 0 := n_ne0 (by omega) c_45
        first | rw [iP n_45] | rw [iN n_45] | rw [iN (Nat.not_lt.mpr n_45)] | rw [iN (Nat.not_le.mpr n_45)] | skip
        refine r_bipush (v := nI 7) dX6_odds_55 (by decide +kernel) ?_
        refine r_iload dX6_odds_57 rfl ?_
        refine r_idiv dX6_odds_59 hne ?_
        refine e_iret dX6_odds_60 rfl ?_
        exact RA.mk ((Jo.r).t j_1) ho (FrM.r) (rfl) (rfl)
      · skip
        have n_45 : c = 0 := n_eq0 (by omega) c_45
        first | rw [iP n_45] | rw [iN n_45] | rw [iN (Nat.not_lt.mpr n_45)] | rw [iN (Nat.not_le.mpr n_45)] | skip
        refine r_iload_n 3 dX6_odds_48 rfl rfl ?_
        refine r_iload dX6_odds_49 rfl ?_
        refine r_idiv dX6_odds_51 hne ?_
        refine r_goto 60 dX6_odds_52 (by decide) ?_
        refine e_iret dX6_odds_60 rfl ?_
        exact RA.mk ((Jo.r).t j_1) ho (FrM.r) (rfl) (rfl)
    · skip
      have n_14 : _ = false := b2_f c_14
      first | rw [ifT n_14] | rw [ifF n_14] | skip
      refine r_aload_n 0 dX6_odds_17 rfl rfl rfl ?_
      refine r_ldc (v := -1000000001) dX6_odds_18 q1511 ?_
      refine r_callV_1 dX6_odds_20 kX6_53 (M_errs hm (e := (-1000000001 : Int32)) 1 (by decide +kernel) (by decide)) (gRecv.of hm.s66 rfl) rfl rfl (Nat.le_of_ble_eq_true rfl) ?_
      refine e_iret dX6_odds_23 rfl ?_
      exact RA.mk (Jo.r) ho ((FrM.r).b (by decide)) (rfl) (rfl)
theorem M_dry_L {d : Nat} {h : Hp} (hm : LayM (hS h) (hR h)) {r : Row} (w : WF r) {Q : gQ} : ∀ (k m : Nat) (o : Row), m + k = 61 → o 15 = -1 → (∀ o9, Jo o o9 → gG (d + 421) (0) (0) m_X6_dry 37 [some (.ref 66), some (.int (nI (drF r k m)))] [] (MH h (passR r (-1) (drF r k m)) o9) (Q)) → gG (d + 421) (0) (0) m_X6_dry 14 [some (.ref 66), some (.int (nI m))] [] (MH h (passR r (-1) m) o) (Q) := by
  intro k
  induction k with
  | zero =>
    intro m o hi ho kk
    refine r_iload_n 1 dX6_dry_14 rfl rfl ?_
    refine r_bipush (v := nI 60) dX6_dry_15 (by decide +kernel) ?_
    refine r_icmp_gt 37 dX6_dry_17 (by decide) (fun c_17 => ?_) (fun c_17 => ?_)
    · skip
      have n_17 : 60 < m := n_gt (by omega) (by omega) c_17
      exact kk _ Jo.r
    · skip
      have n_17 : m ≤ 60 := n_gtn (by omega) (by omega) c_17
      exact absurd n_17 (by omega)
  | succ k ih =>
  intro m o hi ho kk
  have hRS : RS r (passR r (-1) m) := passR_RS w.n8 m
  have hn8 := w.n8
  refine r_iload_n 1 dX6_dry_14 rfl rfl ?_
  refine r_bipush (v := nI 60) dX6_dry_15 (by decide +kernel) ?_
  refine r_icmp_gt 37 dX6_dry_17 (by decide) (fun c_17 => ?_) (fun c_17 => ?_)
  · skip
    have n_17 : 60 < m := n_gt (by omega) (by omega) c_17
    exact absurd n_17 (by omega)
  · skip
    have n_17 : m ≤ 60 := n_gtn (by omega) (by omega) c_17
    refine r_aload_n 0 dX6_dry_20 rfl rfl rfl ?_
    refine r_callV_1m dX6_dry_21 kX6_240 (M_givenSet (n := np r) hm (hRS.T w.T) (hRS.two.trans w.n) w.n8) (gRecv.of hm.s66 rfl) rfl rfl (Nat.le_of_ble_eq_true rfl) (fun o_1 j_1 => ?_)
    refine r_if_eq 37 dX6_dry_24 (by decide) (fun c_24 => ?_) (fun c_24 => ?_)
    · skip
      rw [show drF r (k + 1) m = m from if_pos c_24] at kk
      exact kk _ ((Jo.r).t j_1)
    · skip
      rw [show drF r (k + 1) m = drF r k (m + 1) from if_neg c_24] at kk
      refine r_aload_n 0 dX6_dry_27 rfl rfl rfl ?_
      refine r_callV_0m dX6_dry_28 kX6_179 (M_oneDay (mn := (-1)) hm (hRS.T w.T) (hRS.K w.K) (hRS.two.trans w.n) w.n8 (((Jo.r).t j_1).2.2.1.trans ho)) (gRecv.of hm.s66 rfl) rfl rfl (Nat.le_of_ble_eq_true rfl) (fun o_2 j_2 => ?_)
      refine r_iinc dX6_dry_31 rfl (by decide) rfl ?_
      refine gG_ls (ls' := [_, some (.int (nI ((m + 1))))]) (by rw [show (Int32.ofInt 1) = nI 1 from rfl, nI_add]; rfl) ?_
      refine r_goto 14 dX6_dry_34 (by decide) ?_
      exact ih (m + 1) _ (by omega) ((((Jo.r).t j_1).t j_2).2.2.1.trans ho) (fun o9 j9 => kk o9 ((((Jo.r).t j_1).t j_2).t j9))
theorem A_dry {d : Nat} {h : Hp} (hm : LayM (hS h) (hR h)) {r o : Row} (w : WF r) (ho : o 15 = -1)  : gC (d + 421) (0) (0) m_X6_dry [.ref 66] (MH h r o) (RA h (aDry (mS h r o))) := by
  have e_0 : aDry (mS h r o) = (if drF r 61 0 ≤ 60 then (nI (drF r 61 0), (mS h r o)) else errA (mS h r o) (-1000000002) 2) := rfl
  rw [e_0]
  have hn8 := w.n8
  have hdl : (drF r 61 0) ≤ 61 := drF_le 61 0
  refine gC.of (ls := [some (.ref 66), none]) (by decide +kernel) rfl rfl rfl rfl (Nat.le_of_ble_eq_true rfl) ?_
  refine r_aload_n 0 dX6_dry_0 rfl rfl rfl ?_
  refine r_aload_n 0 dX6_dry_1 rfl rfl rfl ?_
  refine r_getr (k := 0) (b := 67) dX6_dry_2 hm.s66 rfl (by decide) (Or.inl q1416) (Or.inl rfl) rfl hm.r_row ?_
  refine r_aload_n 0 dX6_dry_5 rfl rfl rfl ?_
  refine r_getr (k := 2) (b := 69) dX6_dry_6 hm.s66 rfl (by decide) (Or.inl q1418) (Or.inl rfl) rfl hm.r_tried ?_
  refine r_callV_0 dX6_dry_9 kX6_165 (M_move_out hm 69 (by decide)) (gRecv.of hm.s66 rfl) rfl rfl (Nat.le_of_ble_eq_true rfl) ?_
  refine r_iconst (v := nI 0) dX6_dry_12 rfl ?_
  refine r_istore_n 1 dX6_dry_13 rfl (by decide) rfl ?_
  refine gG_ls (ls' := [_, _]) rfl ?_
  refine M_dry_L (h := bI h 69 (cpR 281 r (hI h 69))) hm w 61 0 _ rfl ho (fun o_9 j_9 => ?_)
  refine r_aload_n 0 dX6_dry_37 rfl rfl rfl ?_
  refine r_aload_n 0 dX6_dry_38 rfl rfl rfl ?_
  refine r_getr (k := 2) (b := 69) dX6_dry_39 hm.s66 rfl (by decide) (Or.inl q1418) (Or.inl rfl) rfl hm.r_tried ?_
  refine r_aload_n 0 dX6_dry_42 rfl rfl rfl ?_
  refine r_getr (k := 0) (b := 67) dX6_dry_43 hm.s66 rfl (by decide) (Or.inl q1416) (Or.inl rfl) rfl hm.r_row ?_
  refine r_callV_0 dX6_dry_46 kX6_165 (M_move_in (by exact hm) 69 (by decide)) (gRecv.of hm.s66 rfl) rfl rfl (Nat.le_of_ble_eq_true rfl) ?_
  refine gG_h (show _ = MH _ r _ from by rw [bI_s, cpR_b (passR_RS (mn := -1) w.n8 (drF r 61 0)).far]) ?_
  refine r_iload_n 1 dX6_dry_49 rfl rfl ?_
  refine r_bipush (v := nI 60) dX6_dry_50 (by decide +kernel) ?_
  refine r_icmp_le 64 dX6_dry_52 (by decide) (fun c_52 => ?_) (fun c_52 => ?_)
  · skip
    have n_52 : (drF r 61 0) ≤ 60 := n_le (by omega) (by omega) c_52
    first | rw [iP n_52] | rw [iN n_52] | rw [iN (Nat.not_lt.mpr n_52)] | rw [iN (Nat.not_le.mpr n_52)] | skip
    refine r_iload_n 1 dX6_dry_64 rfl rfl ?_
    refine e_iret dX6_dry_65 rfl ?_
    exact RA.mk ((Jo.r).t j_9) ho ((FrM.r).b (by decide)) (rfl) (rfl)
  · skip
    have n_52 : 60 < (drF r 61 0) := n_len (by omega) (by omega) c_52
    first | rw [iP n_52] | rw [iN n_52] | rw [iN (Nat.not_lt.mpr n_52)] | rw [iN (Nat.not_le.mpr n_52)] | skip
    refine r_aload_n 0 dX6_dry_55 rfl rfl rfl ?_
    refine r_ldc (v := -1000000002) dX6_dry_56 q1735 ?_
    refine r_callV_1 dX6_dry_58 kX6_53 (M_errs (by exact hm) (e := (-1000000002 : Int32)) 2 (by decide +kernel) (by decide)) (gRecv.of hm.s66 rfl) rfl rfl (Nat.le_of_ble_eq_true rfl) ?_
    refine r_goto 65 dX6_dry_61 (by decide) ?_
    refine e_iret dX6_dry_65 rfl ?_
    exact RA.mk ((Jo.r).t j_9) ho (((FrM.r).b (by decide)).b (by decide)) (rfl) (rfl)
theorem M_kept_L1 {d : Nat} {h : Hp} (hm : LayM (hS h) (hR h)) {r o f : Row} {n : Nat} (hn : r 2 = nI n) (hn8 : n ≤ 8) {k1 k2 : Int32} {Q : gQ} : ∀ (k i : Nat), i ≤ n → n + 1 ≤ i + k → (gG (d + 421) (0) (0) m_X6_kept 72 [some (.ref 66), some (.int k1), some (.int k2), some (.int (nI n)), none] [] (MH (bI h 76 (thS r f (n))) r o) (Q)) → gG (d + 421) (0) (0) m_X6_kept 44 [some (.ref 66), some (.int k1), some (.int k2), some (.int (nI i)), none] [] (MH (bI h 76 (thS r f (i))) r o) (Q) := by
  intro k
  induction k with
  | zero => exact fun i h1 h2 => absurd h2 (by omega)
  | succ k ih =>
  intro i hi hk kk
  refine r_iload_n 3 dX6_kept_44 rfl rfl ?_
  refine r_aload_n 0 dX6_kept_45 rfl rfl rfl ?_
  refine r_getr (k := 0) (b := 67) dX6_kept_46 hm.s66 rfl (by decide) (Or.inl q1416) (Or.inl rfl) rfl hm.r_row ?_
  refine r_iconst (v := nI 2) dX6_kept_49 rfl ?_
  refine r_ialdN (2) dX6_kept_50 hm.s67 rfl (by omega) (by decide) ?_
  refine r_eqi (show _ = nI (n) from hn) ?_
  refine r_icmp_ge 72 dX6_kept_51 (by decide) (fun c_51 => ?_) (fun c_51 => ?_)
  · skip
    have n_51 : n ≤ i := n_ge (by omega) (by omega) c_51
    have hin : i = n := by omega
    subst hin
    exact kk
  · skip
    have n_51 : i < n := n_gen (by omega) (by omega) c_51
    refine r_aload_n 0 dX6_kept_54 rfl rfl rfl ?_
    refine r_getr (k := 23) (b := 76) dX6_kept_55 hm.s66 rfl (by decide) (Or.inl q1439) (Or.inl rfl) rfl hm.r_thirsts ?_
    refine r_iload_n 3 dX6_kept_58 rfl rfl ?_
    refine r_aload_n 0 dX6_kept_59 rfl rfl rfl ?_
    refine r_iload_n 3 dX6_kept_60 rfl rfl ?_
    refine r_iconst (v := nI 4) dX6_kept_61 rfl ?_
    refine r_callV_1 dX6_kept_62 kX6_75 (M_its (p := i) (w := 4) (by exact hm) (by omega)) (gRecv.of hm.s66 rfl) rfl rfl (Nat.le_of_ble_eq_true rfl) ?_
    refine r_iastN (i) dX6_kept_65 hm.s76 rfl (by omega) (by decide) ?_
    refine gG_h (MH_bI' _ _ _ _ _ _ (by decide) (by decide)) ?_
    refine r_iinc dX6_kept_66 rfl (by decide) rfl ?_
    refine gG_ls (ls' := [_, _, _, some (.int (nI ((i + 1)))), _]) (by rw [show (Int32.ofInt 1) = nI 1 from rfl, nI_add]; rfl) ?_
    refine r_goto 44 dX6_kept_69 (by decide) ?_
    refine gG_h (show _ = MH (bI h 76 (thS r f (i + 1))) r o from by rw [bI_bI, bI_s]; rfl) ?_
    exact ih (i + 1) (by omega) (by omega) kk
theorem M_kept_L2 {d : Nat} {h : Hp} (hm : LayM (hS h) (hR h)) {r1 r o : Row} {n p : Nat} (hn : r 2 = nI n) (hn8 : n ≤ 8) (hp : p < 8) (hth : ∀ i, i < n → hI h 76 i = pv r1 i 4) {k2 : Int32} {Q : gQ} : ∀ (k i : Nat), i ≤ n → n + 1 ≤ i + k → (gG (d + 421) (0) (0) m_X6_kept 155 [some (.ref 66), some (.int (nI p)), some (.int k2), some (.int (kpV r1 r p (n))), some (.int (nI n))] [] (MH h r o) (Q)) → gG (d + 421) (0) (0) m_X6_kept 104 [some (.ref 66), some (.int (nI p)), some (.int k2), some (.int (kpV r1 r p (i))), some (.int (nI i))] [] (MH h r o) (Q) := by
  intro k
  induction k with
  | zero => exact fun i h1 h2 => absurd h2 (by omega)
  | succ k ih =>
  intro i hi hk kk
  refine r_iload dX6_kept_104 rfl ?_
  refine r_aload_n 0 dX6_kept_106 rfl rfl rfl ?_
  refine r_getr (k := 0) (b := 67) dX6_kept_107 hm.s66 rfl (by decide) (Or.inl q1416) (Or.inl rfl) rfl hm.r_row ?_
  refine r_iconst (v := nI 2) dX6_kept_110 rfl ?_
  refine r_ialdN (2) dX6_kept_111 hm.s67 rfl (by omega) (by decide) ?_
  refine r_eqi (show _ = nI (n) from hn) ?_
  refine r_icmp_ge 155 dX6_kept_112 (by decide) (fun c_112 => ?_) (fun c_112 => ?_)
  · skip
    have n_112 : n ≤ i := n_ge (by omega) (by omega) c_112
    have hin : i = n := by omega
    subst hin
    exact kk
  · skip
    have n_112 : i < n := n_gen (by omega) (by omega) c_112
    refine r_iload_n 3 dX6_kept_115 rfl rfl ?_
    refine r_iload dX6_kept_116 rfl ?_
    refine r_iload_n 1 dX6_kept_118 rfl rfl ?_
    refine r_icmp_eq 146 dX6_kept_119 (by decide) (fun c_119 => ?_) (fun c_119 => ?_)
    · skip
      have n_119 : i = p := n_eq (by omega) (by omega) c_119
      refine r_iconst (v := nI 0) dX6_kept_146 rfl ?_
      refine r_ior dX6_kept_147 ?_
      refine r_istore_n 3 dX6_kept_148 rfl (by decide) rfl ?_
      refine gG_ls (ls' := [_, _, _, _, _]) rfl ?_
      refine r_iinc dX6_kept_149 rfl (by decide) rfl ?_
      refine gG_ls (ls' := [_, _, _, _, some (.int (nI ((i + 1))))]) (by rw [show (Int32.ofInt 1) = nI 1 from rfl, nI_add]; rfl) ?_
      refine r_goto 104 dX6_kept_152 (by decide) ?_
      refine gG_ls (ls' := [_, _, _, some (.int (kpV r1 r p (i + 1))), _]) (by rw [kpV_f (fun q => q.1 n_119)]) ?_
      exact ih (i + 1) (by omega) (by omega) kk
    · skip
      have n_119 : ¬ i = p := n_eqn (by omega) (by omega) c_119
      refine r_aload_n 0 dX6_kept_122 rfl rfl rfl ?_
      refine r_iload dX6_kept_123 rfl ?_
      refine r_iconst (v := nI 4) dX6_kept_125 rfl ?_
      refine r_callV_1 dX6_kept_126 kX6_75 (M_its (p := i) (w := 4) hm (by omega)) (gRecv.of hm.s66 rfl) rfl rfl (Nat.le_of_ble_eq_true rfl) ?_
      refine r_aload_n 0 dX6_kept_129 rfl rfl rfl ?_
      refine r_getr (k := 23) (b := 76) dX6_kept_130 hm.s66 rfl (by decide) (Or.inl q1439) (Or.inl rfl) rfl hm.r_thirsts ?_
      refine r_iload dX6_kept_133 rfl ?_
      refine r_ialdN (i) dX6_kept_135 hm.s76 rfl (by omega) (by decide) ?_
      refine r_eqi (show _ = (pv r1 i 4) from hth i (by omega)) ?_
      refine r_icmp_le 146 dX6_kept_136 (by decide) (fun c_136 => ?_) (fun c_136 => ?_)
      · skip
        refine r_iconst (v := nI 0) dX6_kept_146 rfl ?_
        refine r_ior dX6_kept_147 ?_
        refine r_istore_n 3 dX6_kept_148 rfl (by decide) rfl ?_
        refine gG_ls (ls' := [_, _, _, _, _]) rfl ?_
        refine r_iinc dX6_kept_149 rfl (by decide) rfl ?_
        refine gG_ls (ls' := [_, _, _, _, some (.int (nI ((i + 1))))]) (by rw [show (Int32.ofInt 1) = nI 1 from rfl, nI_add]; rfl) ?_
        refine r_goto 104 dX6_kept_152 (by decide) ?_
        refine gG_ls (ls' := [_, _, _, some (.int (kpV r1 r p (i + 1))), _]) (by rw [kpV_f (fun q => i_le_nlt c_136 q.2)]) ?_
        exact ih (i + 1) (by omega) (by omega) kk
      · skip
        refine r_iconst (v := nI 1) dX6_kept_139 rfl ?_
        refine r_iload dX6_kept_140 rfl ?_
        refine r_ishl dX6_kept_142 ?_
        refine r_goto 147 dX6_kept_143 (by decide) ?_
        refine r_ior dX6_kept_147 ?_
        refine r_istore_n 3 dX6_kept_148 rfl (by decide) rfl ?_
        refine gG_ls (ls' := [_, _, _, _, _]) rfl ?_
        refine r_iinc dX6_kept_149 rfl (by decide) rfl ?_
        refine gG_ls (ls' := [_, _, _, _, some (.int (nI ((i + 1))))]) (by rw [show (Int32.ofInt 1) = nI 1 from rfl, nI_add]; rfl) ?_
        refine r_goto 104 dX6_kept_152 (by decide) ?_
        refine gG_ls (ls' := [_, _, _, some (.int (kpV r1 r p (i + 1))), _]) (by rw [kpV_t n_119 (i_nle c_136)]) ?_
        exact ih (i + 1) (by omega) (by omega) kk
theorem A_kept {d : Nat} {h : Hp} (hm : LayM (hS h) (hR h)) {r o : Row} (w : WF r) (ho : o 15 = -1) {p n : Int32} : gC (d + 421) (0) (0) m_X6_kept [.ref 66, .int p, .int n] (MH h r o) (RA h (aKept (mS h r o) p n)) := by
  have e_0 : aKept (mS h r o) p n = (if inB p 0 (r 2 - 1) = true then (if inB n (nI 0) (nI 60) = true then (kpV (passR r (-1) (toN n)) (passR r p (toN n)) (toN p) (np r), (mS h r o)) else errA (mS h r o) (-1000000001) 1) else errA (mS h r o) (-1000000001) 1) := rfl
  rw [e_0]
  have hn8 := w.n8
  refine gC.of (ls := [some (.ref 66), some (.int p), some (.int n), none, none]) (by decide +kernel) rfl rfl rfl rfl (Nat.le_of_ble_eq_true rfl) ?_
  refine r_aload_n 0 dX6_kept_0 rfl rfl rfl ?_
  refine r_iload_n 1 dX6_kept_1 rfl rfl ?_
  refine r_callV_1 dX6_kept_2 kX6_62 (M_isOne hm) (gRecv.of hm.s66 rfl) rfl rfl (Nat.le_of_ble_eq_true rfl) ?_
  refine r_if_eq 18 dX6_kept_5 (by decide) (fun c_5 => ?_) (fun c_5 => ?_)
  · skip
    have n_5 : _ = false := b2_f c_5
    first | rw [ifT n_5] | rw [ifF n_5] | skip
    refine r_aload_n 0 dX6_kept_18 rfl rfl rfl ?_
    refine r_ldc (v := -1000000001) dX6_kept_19 q1511 ?_
    refine r_callV_1 dX6_kept_21 kX6_53 (M_errs hm (e := (-1000000001 : Int32)) 1 (by decide +kernel) (by decide)) (gRecv.of hm.s66 rfl) rfl rfl (Nat.le_of_ble_eq_true rfl) ?_
    refine e_iret dX6_kept_24 rfl ?_
    exact RA.mk (Jo.r) ho ((FrM.r).b (by decide)) (rfl) (rfl)
  · skip
    have n_5 : _ = true := b2_t c_5
    first | rw [ifT n_5] | rw [ifF n_5] | skip
    obtain ⟨k, h_k, rfl⟩ := one_of w n_5
    have hn8 := w.n8
    have e_k : toN (nI k) = k := toN_nI (by omega)
    try simp only [e_k]
    refine r_iload_n 2 dX6_kept_8 rfl rfl ?_
    refine r_iconst (v := nI 0) dX6_kept_9 rfl ?_
    refine r_bipush (v := nI 60) dX6_kept_10 (by decide +kernel) ?_
    refine r_callS_1 dX6_kept_12 kX6_48 (M_in)  rfl rfl (Nat.le_of_ble_eq_true rfl) ?_
    refine r_if_ne 25 dX6_kept_15 (by decide) (fun c_15 => ?_) (fun c_15 => ?_)
    · skip
      have n_15 : _ = true := b2_t c_15
      first | rw [ifT n_15] | rw [ifF n_15] | skip
      obtain ⟨m, h_m, rfl⟩ := inB_n (by decide) n_15
      have e_m : toN (nI m) = m := toN_nI (by omega)
      try simp only [e_m]
      refine r_aload_n 0 dX6_kept_25 rfl rfl rfl ?_
      refine r_aload_n 0 dX6_kept_26 rfl rfl rfl ?_
      refine r_getr (k := 0) (b := 67) dX6_kept_27 hm.s66 rfl (by decide) (Or.inl q1416) (Or.inl rfl) rfl hm.r_row ?_
      refine r_aload_n 0 dX6_kept_30 rfl rfl rfl ?_
      refine r_getr (k := 2) (b := 69) dX6_kept_31 hm.s66 rfl (by decide) (Or.inl q1418) (Or.inl rfl) rfl hm.r_tried ?_
      refine r_callV_0 dX6_kept_34 kX6_165 (M_move_out hm 69 (by decide)) (gRecv.of hm.s66 rfl) rfl rfl (Nat.le_of_ble_eq_true rfl) ?_
      refine r_aload_n 0 dX6_kept_37 rfl rfl rfl ?_
      refine r_iload_n 2 dX6_kept_38 rfl rfl ?_
      refine r_callV_0m dX6_kept_39 kX6_183 (M_passes (mn := (-1)) (q := m) (by exact hm) (by omega) w.T w.K w.n w.n8 ((Jo.r).2.2.1.trans ho)) (gRecv.of hm.s66 rfl) rfl rfl (Nat.le_of_ble_eq_true rfl) (fun o_1 j_1 => ?_)
      refine r_iconst (v := nI 0) dX6_kept_42 rfl ?_
      refine r_istore_n 3 dX6_kept_43 rfl (by decide) rfl ?_
      refine gG_ls (ls' := [_, _, _, _, _]) rfl ?_
      refine gG_h (MH_76 _ _ _) ?_
      refine M_kept_L1 (by exact hm) (n := np r) ((passR_RS (mn := -1) w.n8 m).two.trans w.n) w.n8 (np r + 1) 0 (by omega) (by omega) ?_
      refine r_aload_n 0 dX6_kept_72 rfl rfl rfl ?_
      refine r_aload_n 0 dX6_kept_73 rfl rfl rfl ?_
      refine r_getr (k := 2) (b := 69) dX6_kept_74 hm.s66 rfl (by decide) (Or.inl q1418) (Or.inl rfl) rfl hm.r_tried ?_
      refine r_aload_n 0 dX6_kept_77 rfl rfl rfl ?_
      refine r_getr (k := 0) (b := 67) dX6_kept_78 hm.s66 rfl (by decide) (Or.inl q1416) (Or.inl rfl) rfl hm.r_row ?_
      refine r_callV_0 dX6_kept_81 kX6_165 (M_move_in (by exact hm) 69 (by decide)) (gRecv.of hm.s66 rfl) rfl rfl (Nat.le_of_ble_eq_true rfl) ?_
      refine gG_h (show _ = MH _ r _ from by rw [bI_n (a := 76) (b := 69) (by decide), bI_s, cpR_b (passR_RS (mn := (-1)) w.n8 m).far]) ?_
      refine r_aload_n 0 dX6_kept_84 rfl rfl rfl ?_
      refine r_iload_n 1 dX6_kept_85 rfl rfl ?_
      refine r_puti (k := 15) dX6_kept_86 hm.s66 rfl (by decide) (Or.inl q1431) (Or.inl rfl) (Or.inl rfl) rfl rfl rfl ?_
      refine gG_h (MH_66 _ _ _ _ _) ?_
      refine r_aload_n 0 dX6_kept_89 rfl rfl rfl ?_
      refine r_iload_n 2 dX6_kept_90 rfl rfl ?_
      refine r_callV_0m dX6_kept_91 kX6_183 (M_passes (mn := nI k) (q := m) (by exact (by exact hm)) (by omega) w.T w.K w.n w.n8 (ru_s _ _ _)) (gRecv.of hm.s66 rfl) rfl rfl (Nat.le_of_ble_eq_true rfl) (fun o_2 j_2 => ?_)
      refine r_aload_n 0 dX6_kept_94 rfl rfl rfl ?_
      refine r_iconst (v := (-1)) dX6_kept_95 (by decide +kernel) ?_
      refine r_puti (k := 15) dX6_kept_96 hm.s66 rfl (by decide) (Or.inl q1431) (Or.inl rfl) (Or.inl rfl) rfl rfl rfl ?_
      refine gG_h (MH_66 _ _ _ _ _) ?_
      refine r_iconst (v := nI 0) dX6_kept_99 rfl ?_
      refine r_istore_n 3 dX6_kept_100 rfl (by decide) rfl ?_
      refine gG_ls (ls' := [_, _, _, _, _]) rfl ?_
      refine r_iconst (v := nI 0) dX6_kept_101 rfl ?_
      refine r_istore dX6_kept_102 (by decide) rfl ?_
      refine gG_ls (ls' := [_, _, _, _, _]) rfl ?_
      refine M_kept_L2 (h := bI (bI h 69 (cpR 281 r (hI h 69))) 76 (thS (passR r (-1) m) (hI (bI h 69 (cpR 281 r (hI h 69))) 76) (np r))) (by exact hm) (r1 := (passR r (-1) m)) (n := np r) ((passR_RS (mn := nI k) w.n8 m).two.trans w.n) w.n8 (by omega) (fun i hi => (congrFun (bI_s _ _ _) i).trans (thS_at _ hi)) (np r + 1) 0 (by omega) (by omega) ?_
      refine r_aload_n 0 dX6_kept_155 rfl rfl rfl ?_
      refine r_aload_n 0 dX6_kept_156 rfl rfl rfl ?_
      refine r_getr (k := 2) (b := 69) dX6_kept_157 hm.s66 rfl (by decide) (Or.inl q1418) (Or.inl rfl) rfl hm.r_tried ?_
      refine r_aload_n 0 dX6_kept_160 rfl rfl rfl ?_
      refine r_getr (k := 0) (b := 67) dX6_kept_161 hm.s66 rfl (by decide) (Or.inl q1416) (Or.inl rfl) rfl hm.r_row ?_
      refine r_callV_0 dX6_kept_164 kX6_165 (M_move_in (by exact hm) 69 (by decide)) (gRecv.of hm.s66 rfl) rfl rfl (Nat.le_of_ble_eq_true rfl) ?_
      refine gG_h (show _ = MH _ r _ from by rw [bI_n (a := 76) (b := 69) (by decide), bI_s, cpR_b (passR_RS (mn := (nI k)) w.n8 m).far]) ?_
      refine r_iload_n 3 dX6_kept_167 rfl rfl ?_
      refine e_iret dX6_kept_168 rfl ?_
      exact RA.mk' (ru_s _ _ _) (((FrM.r).b (by decide)).b (by decide)) ((kept_fin ((Jo.r).t j_1) ((Jo.r).t j_2)).trans rfl) rfl
    · skip
      have n_15 : _ = false := b2_f c_15
      first | rw [ifT n_15] | rw [ifF n_15] | skip
      refine r_aload_n 0 dX6_kept_18 rfl rfl rfl ?_
      refine r_ldc (v := -1000000001) dX6_kept_19 q1511 ?_
      refine r_callV_1 dX6_kept_21 kX6_53 (M_errs hm (e := (-1000000001 : Int32)) 1 (by decide +kernel) (by decide)) (gRecv.of hm.s66 rfl) rfl rfl (Nat.le_of_ble_eq_true rfl) ?_
      refine e_iret dX6_kept_24 rfl ?_
      exact RA.mk (Jo.r) ho ((FrM.r).b (by decide)) (rfl) (rfl)
theorem M_check_L {d : Nat} {h : Hp} (hm : LayM (hS h) (hR h)) {r : Row} (w : WF r) {n : Nat} (hn20 : n ≤ 20) {Q : gQ} : ∀ (k i : Nat) (o : Row), i + k = n → o 15 = -1 → (∀ o9 r9, Jo o o9 → RS r r9 → gG (d + 421) (0) (0) m_X6_check 82 [some (.ref 66), some (.int (nI n)), some (.int (nI ((chF r k i).2))), some (.int (b2 (chF r k i).1))] [] (MH h r9 o9) (Q)) → gG (d + 421) (0) (0) m_X6_check 30 [some (.ref 66), some (.int (nI n)), some (.int (nI i)), some (.int (nI 1))] [] (MH h (passR r (-1) i) o) (Q) := by
  intro k
  induction k with
  | zero =>
    intro i o hi ho kk
    refine r_iload_n 2 dX6_check_30 rfl rfl ?_
    refine r_iload_n 1 dX6_check_31 rfl rfl ?_
    refine r_icmp_ge 82 dX6_check_32 (by decide) (fun c_32 => ?_) (fun c_32 => ?_)
    · skip
      have n_32 : n ≤ i := n_ge (by omega) (by omega) c_32
      exact kk _ _ Jo.r (passR_RS w.n8 i)
    · skip
      have n_32 : i < n := n_gen (by omega) (by omega) c_32
      exact absurd n_32 (by omega)
  | succ k ih =>
  intro i o hi ho kk
  have hRS : RS r (passR r (-1) i) := passR_RS w.n8 i
  have hRS2 : RS r (passR r (-1) (i + 1)) := passR_RS w.n8 (i + 1)
  refine r_iload_n 2 dX6_check_30 rfl rfl ?_
  refine r_iload_n 1 dX6_check_31 rfl rfl ?_
  refine r_icmp_ge 82 dX6_check_32 (by decide) (fun c_32 => ?_) (fun c_32 => ?_)
  · skip
    have n_32 : n ≤ i := n_ge (by omega) (by omega) c_32
    exact absurd n_32 (by omega)
  · skip
    have n_32 : i < n := n_gen (by omega) (by omega) c_32
    refine r_iload_n 3 dX6_check_35 rfl rfl ?_
    refine r_if_eq 82 dX6_check_36 (by decide) (fun c_36 => ?_) (fun c_36 => ?_)
    · skip
      have n_36 : 1 = 0 := n_eq0 (by omega) c_36
      exact absurd n_36 (by decide)
    · skip
      have n_36 : ¬ 1 = 0 := n_ne0 (by omega) c_36
      refine r_aload_n 0 dX6_check_39 rfl rfl rfl ?_
      refine r_callV_0m dX6_check_40 kX6_179 (M_oneDay (mn := (-1)) hm (hRS.T w.T) (hRS.K w.K) (hRS.two.trans w.n) w.n8 ((Jo.r).2.2.1.trans ho)) (gRecv.of hm.s66 rfl) rfl rfl (Nat.le_of_ble_eq_true rfl) (fun o_1 j_1 => ?_)
      refine r_aload_n 0 dX6_check_43 rfl rfl rfl ?_
      refine r_iconst (v := nI 3) dX6_check_44 rfl ?_
      refine r_callV_1 dX6_check_45 kX6_186 (M_sumOf (q := 3) (n := np r) hm (by decide) (hRS2.two.trans w.n) w.n8) (gRecv.of hm.s66 rfl) rfl rfl (Nat.le_of_ble_eq_true rfl) ?_
      refine r_aload_n 0 dX6_check_48 rfl rfl rfl ?_
      refine r_getr (k := 0) (b := 67) dX6_check_49 hm.s66 rfl (by decide) (Or.inl q1416) (Or.inl rfl) rfl hm.r_row ?_
      refine r_sipush (v := nI 161) dX6_check_52 (by decide +kernel) ?_
      refine r_iload_n 2 dX6_check_55 rfl rfl ?_
      refine r_iadd dX6_check_56 ?_
      refine r_ialdN ((161 + i)) dX6_check_57 hm.s67 (by simp only [pk_mul, nI_add]) (by omega) (by decide) ?_
      refine r_eqi (show _ = (r (161 + i)) from hRS2 _ (Or.inr (Or.inl (by omega)))) ?_
      refine r_icmp_ne 65 dX6_check_58 (by decide) (fun c_58 => ?_) (fun c_58 => ?_)
      · skip
        refine r_iconst (v := nI 0) dX6_check_65 rfl ?_
        refine r_istore_n 3 dX6_check_66 rfl (by decide) rfl ?_
        refine gG_ls (ls' := [_, _, _, _]) rfl ?_
        refine r_iload_n 2 dX6_check_67 rfl rfl ?_
        refine r_iload_n 3 dX6_check_68 rfl rfl ?_
        refine r_if_eq 76 dX6_check_69 (by decide) (fun c_69 => ?_) (fun c_69 => ?_)
        · skip
          have n_69 : 0 = 0 := n_eq0 (by omega) c_69
          refine r_iconst (v := nI 0) dX6_check_76 rfl ?_
          refine r_iadd dX6_check_77 ?_
          refine r_eqi (show _ = nI (i + 0) from by simp only [pk_mul, nI_add]) ?_
          refine r_istore_n 2 dX6_check_78 rfl (by decide) rfl ?_
          refine gG_ls (ls' := [_, _, _, _]) rfl ?_
          refine r_goto 30 dX6_check_79 (by decide) ?_
          rw [chF_f (by assumption)] at kk
          refine r_iload_n 2 dX6_check_30 rfl rfl ?_
          refine r_iload_n 1 dX6_check_31 rfl rfl ?_
          refine r_icmp_ge 82 dX6_check_32 (by decide) (fun c_32 => ?_) (fun c_32 => ?_)
          · skip
            have n_32 : n ≤ (i + 0) := n_ge (by omega) (by omega) c_32
            exact kk _ _ ((Jo.r).t j_1) hRS2
          · skip
            have n_32 : (i + 0) < n := n_gen (by omega) (by omega) c_32
            refine r_iload_n 3 dX6_check_35 rfl rfl ?_
            refine r_if_eq 82 dX6_check_36 (by decide) (fun c_36 => ?_) (fun c_36 => ?_)
            · skip
              have n_36 : 0 = 0 := n_eq0 (by omega) c_36
              exact kk _ _ ((Jo.r).t j_1) hRS2
            · skip
              have n_36 : ¬ 0 = 0 := n_ne0 (by omega) c_36
              exact absurd n_36 (by decide)
        · skip
          have n_69 : ¬ 0 = 0 := n_ne0 (by omega) c_69
          exact absurd n_69 (by decide)
      · skip
        refine r_iconst (v := nI 1) dX6_check_61 rfl ?_
        refine r_goto 66 dX6_check_62 (by decide) ?_
        refine r_istore_n 3 dX6_check_66 rfl (by decide) rfl ?_
        refine gG_ls (ls' := [_, _, _, _]) rfl ?_
        refine r_iload_n 2 dX6_check_67 rfl rfl ?_
        refine r_iload_n 3 dX6_check_68 rfl rfl ?_
        refine r_if_eq 76 dX6_check_69 (by decide) (fun c_69 => ?_) (fun c_69 => ?_)
        · skip
          have n_69 : 1 = 0 := n_eq0 (by omega) c_69
          exact absurd n_69 (by decide)
        · skip
          have n_69 : ¬ 1 = 0 := n_ne0 (by omega) c_69
          refine r_iconst (v := nI 1) dX6_check_72 rfl ?_
          refine r_goto 77 dX6_check_73 (by decide) ?_
          refine r_iadd dX6_check_77 ?_
          refine r_eqi (show _ = nI (i + 1) from by simp only [pk_mul, nI_add]) ?_
          refine r_istore_n 2 dX6_check_78 rfl (by decide) rfl ?_
          refine gG_ls (ls' := [_, _, _, _]) rfl ?_
          refine r_goto 30 dX6_check_79 (by decide) ?_
          rw [chF_t (by assumption)] at kk
          exact ih (i + 1) _ (by omega) (((Jo.r).t j_1).2.2.1.trans ho) (fun o9 r9 j9 => kk o9 r9 (((Jo.r).t j_1).t j9))
theorem A_check {d : Nat} {h : Hp} (hm : LayM (hS h) (hR h)) {r o : Row} (w : WF r) (ho : o 15 = -1)  : gC (d + 421) (0) (0) m_X6_check [.ref 66] (MH h r o) (RA h (aCheck (mS h r o))) := by
  have e_0 : aCheck (mS h r o) = ((if (chF (ru r 4 (nI 0)) (toN (r 4)) 0).1 = true then nI 0 else nI (1 + (chF (ru r 4 (nI 0)) (toN (r 4)) 0).2), (mS h r o).s_r (ru r 4 (nI 0)))) := rfl
  rw [e_0]
  have hn8 := w.n8
  obtain ⟨z, h4, hz⟩ := w.Z
  have e_z : toN (r 4) = z := by rw [h4]; exact toN_nI (by omega)
  rw [e_z]
  have w0 : WF (ru r 4 (nI 0)) := w.four (by decide)
  refine gC.of (ls := [some (.ref 66), none, none, none]) (by decide +kernel) rfl rfl rfl rfl (Nat.le_of_ble_eq_true rfl) ?_
  refine r_aload_n 0 dX6_check_0 rfl rfl rfl ?_
  refine r_getr (k := 0) (b := 67) dX6_check_1 hm.s66 rfl (by decide) (Or.inl q1416) (Or.inl rfl) rfl hm.r_row ?_
  refine r_iconst (v := nI 4) dX6_check_4 rfl ?_
  refine r_ialdN (4) dX6_check_5 hm.s67 rfl (by omega) (by decide) ?_
  refine r_eqi (show _ = nI (z) from h4) ?_
  refine r_istore_n 1 dX6_check_6 rfl (by decide) rfl ?_
  refine gG_ls (ls' := [_, _, _, _]) rfl ?_
  refine r_aload_n 0 dX6_check_7 rfl rfl rfl ?_
  refine r_getr (k := 0) (b := 67) dX6_check_8 hm.s66 rfl (by decide) (Or.inl q1416) (Or.inl rfl) rfl hm.r_row ?_
  refine r_iconst (v := nI 4) dX6_check_11 rfl ?_
  refine r_iconst (v := nI 0) dX6_check_12 rfl ?_
  refine r_iastN (4) dX6_check_13 hm.s67 rfl (by omega) (by decide) ?_
  refine gG_h (MH_67 _ _ _ _ _) ?_
  refine r_aload_n 0 dX6_check_14 rfl rfl rfl ?_
  refine r_aload_n 0 dX6_check_15 rfl rfl rfl ?_
  refine r_getr (k := 0) (b := 67) dX6_check_16 hm.s66 rfl (by decide) (Or.inl q1416) (Or.inl rfl) rfl hm.r_row ?_
  refine r_aload_n 0 dX6_check_19 rfl rfl rfl ?_
  refine r_getr (k := 2) (b := 69) dX6_check_20 hm.s66 rfl (by decide) (Or.inl q1418) (Or.inl rfl) rfl hm.r_tried ?_
  refine r_callV_0 dX6_check_23 kX6_165 (M_move_out hm 69 (by decide)) (gRecv.of hm.s66 rfl) rfl rfl (Nat.le_of_ble_eq_true rfl) ?_
  refine r_iconst (v := nI 0) dX6_check_26 rfl ?_
  refine r_istore_n 2 dX6_check_27 rfl (by decide) rfl ?_
  refine gG_ls (ls' := [_, _, _, _]) rfl ?_
  refine r_iconst (v := nI 1) dX6_check_28 rfl ?_
  refine r_istore_n 3 dX6_check_29 rfl (by decide) rfl ?_
  refine gG_ls (ls' := [_, _, _, _]) rfl ?_
  refine M_check_L (h := bI h 69 (cpR 281 (ru r 4 (nI 0)) (hI h 69))) (by exact hm) w0 hz z 0 _ (by omega) ho (fun o_9 r_9 j_9 rs_9 => ?_)
  refine r_aload_n 0 dX6_check_82 rfl rfl rfl ?_
  refine r_aload_n 0 dX6_check_83 rfl rfl rfl ?_
  refine r_getr (k := 2) (b := 69) dX6_check_84 hm.s66 rfl (by decide) (Or.inl q1418) (Or.inl rfl) rfl hm.r_tried ?_
  refine r_aload_n 0 dX6_check_87 rfl rfl rfl ?_
  refine r_getr (k := 0) (b := 67) dX6_check_88 hm.s66 rfl (by decide) (Or.inl q1416) (Or.inl rfl) rfl hm.r_row ?_
  refine r_callV_0 dX6_check_91 kX6_165 (M_move_in (by exact hm) 69 (by decide)) (gRecv.of hm.s66 rfl) rfl rfl (Nat.le_of_ble_eq_true rfl) ?_
  refine gG_h (show _ = MH _ (ru r 4 (nI 0)) _ from by rw [bI_s, cpR_b rs_9.far]) ?_
  refine r_iload_n 3 dX6_check_94 rfl rfl ?_
  refine r_if_eq 102 dX6_check_95 (by decide) (fun c_95 => ?_) (fun c_95 => ?_)
  · skip
    have n_95 : (chF (ru r 4 (nI 0)) z 0).1 = false := b2_f c_95
    first | rw [ifT n_95] | rw [ifF n_95] | skip
    refine r_iconst (v := nI 1) dX6_check_102 rfl ?_
    refine r_iload_n 2 dX6_check_103 rfl rfl ?_
    refine r_iadd dX6_check_104 ?_
    refine r_eqi (show _ = nI (1 + (chF (ru r 4 (nI 0)) z 0).2) from by simp only [pk_mul, nI_add]) ?_
    refine e_iret dX6_check_105 rfl ?_
    exact RA.mk ((Jo.r).t j_9) ho ((FrM.r).b (by decide)) (rfl) (rfl)
  · skip
    have n_95 : (chF (ru r 4 (nI 0)) z 0).1 = true := b2_t c_95
    first | rw [ifT n_95] | rw [ifF n_95] | skip
    refine r_iconst (v := nI 0) dX6_check_98 rfl ?_
    refine r_goto 105 dX6_check_99 (by decide) ?_
    refine e_iret dX6_check_105 rfl ?_
    exact RA.mk ((Jo.r).t j_9) ho ((FrM.r).b (by decide)) (rfl) (rfl)
theorem M_judge_L {d : Nat} {h : Hp} (hm : LayM (hS h) (hR h)) {r o : Row} (w : WF r) {s z : Nat} (hs : s < 4) (hzz : hI h 73 s = nI z) (hz4 : z ≤ 40) {Q : gQ} : ∀ (k p : Nat), p + k = 9 → p ≤ np r → (gG (d + 2) (0) (0) m_X6_judge 78 [some (.ref 66), some (.int (nI s)), some (.int (nI (whF (jdP r (hI h 74) z s) k p)))] [] (MH h r o) (Q)) → gG (d + 2) (0) (0) m_X6_judge 32 [some (.ref 66), some (.int (nI s)), some (.int (nI p))] [] (MH h r o) (Q) := by
  intro k
  induction k with
  | zero => exact fun p h1 h2 => absurd h2 (by have := w.n8; omega)
  | succ k ih =>
  intro p hk hp kk
  have hn8 := w.n8
  refine r_iload_n 2 dX6_judge_32 rfl rfl ?_
  refine r_aload_n 0 dX6_judge_33 rfl rfl rfl ?_
  refine r_getr (k := 0) (b := 67) dX6_judge_34 hm.s66 rfl (by decide) (Or.inl q1416) (Or.inl rfl) rfl hm.r_row ?_
  refine r_iconst (v := nI 2) dX6_judge_37 rfl ?_
  refine r_ialdN (2) dX6_judge_38 hm.s67 rfl (by omega) (by decide) ?_
  refine r_eqi (show _ = nI (np r) from w.n) ?_
  refine r_icmp_ge 78 dX6_judge_39 (by decide) (fun c_39 => ?_) (fun c_39 => ?_)
  · skip
    have n_39 : np r ≤ p := n_ge (by omega) (by omega) c_39
    rw [whF_f (jdP_f1 n_39)] at kk
    exact kk
  · skip
    have n_39 : p < np r := n_gen (by omega) (by omega) c_39
    refine r_iload_n 2 dX6_judge_42 rfl rfl ?_
    refine r_aload_n 0 dX6_judge_43 rfl rfl rfl ?_
    refine r_getr (k := 20) (b := 73) dX6_judge_44 hm.s66 rfl (by decide) (Or.inl q1436) (Or.inl rfl) rfl hm.r_sizeOf ?_
    refine r_iload_n 1 dX6_judge_47 rfl rfl ?_
    refine r_ialdN (s) dX6_judge_48 hm.s73 rfl (by omega) (by decide) ?_
    refine r_eqi (show _ = nI (z) from hzz) ?_
    refine r_icmp_ge 78 dX6_judge_49 (by decide) (fun c_49 => ?_) (fun c_49 => ?_)
    · skip
      have n_49 : z ≤ p := n_ge (by omega) (by omega) c_49
      rw [whF_f (jdP_f2 n_49)] at kk
      exact kk
    · skip
      have n_49 : p < z := n_gen (by omega) (by omega) c_49
      refine r_aload_n 0 dX6_judge_52 rfl rfl rfl ?_
      refine r_getr (k := 21) (b := 74) dX6_judge_53 hm.s66 rfl (by decide) (Or.inl q1437) (Or.inl rfl) rfl hm.r_sheets ?_
      refine r_bipush (v := nI 40) dX6_judge_56 (by decide +kernel) ?_
      refine r_iload_n 1 dX6_judge_58 rfl rfl ?_
      refine r_imul dX6_judge_59 ?_
      refine r_eqi (show _ = nI (40 * s) from by simp only [pk_mul, nI_add]) ?_
      refine r_iload_n 2 dX6_judge_60 rfl rfl ?_
      refine r_iadd dX6_judge_61 ?_
      refine r_ialdN (((40 * s) + p)) dX6_judge_62 hm.s74 (by simp only [pk_mul, nI_add]) (by omega) (by decide) ?_
      refine r_eqi (show _ = (hI h 74 (40 * s + p)) from rfl) ?_
      refine r_aload_n 0 dX6_judge_63 rfl rfl rfl ?_
      refine r_iload_n 2 dX6_judge_64 rfl rfl ?_
      refine r_iconst (v := nI 3) dX6_judge_65 rfl ?_
      refine r_callV_1 dX6_judge_66 kX6_75 (M_its (p := p) (w := 3) hm (by omega)) (gRecv.of hm.s66 rfl) rfl rfl (Nat.le_of_ble_eq_true rfl) ?_
      refine r_icmp_ne 78 dX6_judge_69 (by decide) (fun c_69 => ?_) (fun c_69 => ?_)
      · skip
        rw [whF_f (jdP_f3 c_69)] at kk
        exact kk
      · skip
        refine r_iinc dX6_judge_72 rfl (by decide) rfl ?_
        refine gG_ls (ls' := [_, _, some (.int (nI ((p + 1))))]) (by rw [show (Int32.ofInt 1) = nI 1 from rfl, nI_add]; rfl) ?_
        refine r_goto 32 dX6_judge_75 (by decide) ?_
        rw [whF_t (jdP_t (by omega) (by omega) (Decidable.not_not.mp (fun q => q c_69)))] at kk
        exact ih (p + 1) (by omega) (by omega) kk
theorem A_judge {d : Nat} {h : Hp} (hm : LayM (hS h) (hR h)) {r o : Row} (w : WF r) (ho : o 15 = -1) {s : Int32} (hz : ∀ s, s < 4 → ∃ j, hI h 73 s = nI j ∧ j ≤ 40) : gC (d + 2) (0) (0) m_X6_judge [.ref 66, .int s] (MH h r o) (RA h (aJudge (mS h r o) s)) := by
  have e_0 : aJudge (mS h r o) s = (if inB s (nI 0) (nI 3) = true then (if (hI h 72) (toN s) = 0 then errA (mS h r o) (-1000000002) 2 else (if whF (jdP r (hI h 74) (toN ((hI h 73) (toN s))) (toN s)) 9 0 = np r then (if whF (jdP r (hI h 74) (toN ((hI h 73) (toN s))) (toN s)) 9 0 = toN ((hI h 73) (toN s)) then (-1) else nI (whF (jdP r (hI h 74) (toN ((hI h 73) (toN s))) (toN s)) 9 0)) else nI (whF (jdP r (hI h 74) (toN ((hI h 73) (toN s))) (toN s)) 9 0), (mS h r o))) else errA (mS h r o) (-1000000001) 1) := rfl
  rw [e_0]
  have hn8 := w.n8
  refine gC.of (ls := [some (.ref 66), some (.int s), none]) (by decide +kernel) rfl rfl rfl rfl (Nat.le_of_ble_eq_true rfl) ?_
  refine r_iload_n 1 dX6_judge_0 rfl rfl ?_
  refine r_callS_1 dX6_judge_1 kX6_228 (M_isSheet (v := s))  rfl rfl (Nat.le_of_ble_eq_true rfl) ?_
  refine r_if_ne 14 dX6_judge_4 (by decide) (fun c_4 => ?_) (fun c_4 => ?_)
  · skip
    have n_4 : (inB s (nI 0) (nI 3)) = true := b2_t c_4
    first | rw [ifT n_4] | rw [ifF n_4] | skip
    obtain ⟨k, h_k, rfl⟩ := inB_n (by decide) n_4
    have e_k : toN (nI k) = k := toN_nI (by omega)
    try simp only [e_k]
    obtain ⟨z, h_z, h_z4⟩ := hz k (by omega)
    have e_z : toN (hI h 73 k) = z := by rw [h_z]; exact toN_nI (by omega)
    simp only [e_z]
    have hwl : (whF (jdP r (hI h 74) z k) 9 0) ≤ np r := whF_le (fun p hp => by have := (Bool.and_eq_true _ _ ▸ hp : _ ∧ _).1; exact of_decide_eq_true this) 9 0 (by omega)
    refine r_aload_n 0 dX6_judge_14 rfl rfl rfl ?_
    refine r_getr (k := 19) (b := 72) dX6_judge_15 hm.s66 rfl (by decide) (Or.inl q1435) (Or.inl rfl) rfl hm.r_bitsOf ?_
    refine r_iload_n 1 dX6_judge_18 rfl rfl ?_
    refine r_ialdN (k) dX6_judge_19 hm.s72 rfl (by omega) (by decide) ?_
    refine r_eqi (show _ = (hI h 72 k) from rfl) ?_
    refine r_if_ne 30 dX6_judge_20 (by decide) (fun c_20 => ?_) (fun c_20 => ?_)
    · skip
      first | rw [iP c_20] | rw [iN c_20] | rw [iN (i_le_nlt c_20)] | rw [iP (i_nle c_20)] | rw [iP (i_nlt c_20)] | rw [iN (i_lt_nle c_20)] | skip
      refine r_iconst (v := nI 0) dX6_judge_30 rfl ?_
      refine r_istore_n 2 dX6_judge_31 rfl (by decide) rfl ?_
      refine gG_ls (ls' := [_, _, _]) rfl ?_
      refine M_judge_L hm w (by omega) h_z h_z4 9 0 (by omega) (by omega) ?_
      refine r_iload_n 2 dX6_judge_78 rfl rfl ?_
      refine r_aload_n 0 dX6_judge_79 rfl rfl rfl ?_
      refine r_getr (k := 0) (b := 67) dX6_judge_80 hm.s66 rfl (by decide) (Or.inl q1416) (Or.inl rfl) rfl hm.r_row ?_
      refine r_iconst (v := nI 2) dX6_judge_83 rfl ?_
      refine r_ialdN (2) dX6_judge_84 hm.s67 rfl (by omega) (by decide) ?_
      refine r_eqi (show _ = nI (np r) from w.n) ?_
      refine r_icmp_ne 102 dX6_judge_85 (by decide) (fun c_85 => ?_) (fun c_85 => ?_)
      · skip
        have n_85 : ¬ (whF (jdP r (hI h 74) z k) 9 0) = np r := n_ne (by omega) (by omega) c_85
        first | rw [iP n_85] | rw [iN n_85] | rw [iN (Nat.not_lt.mpr n_85)] | rw [iN (Nat.not_le.mpr n_85)] | skip
        refine r_iload_n 2 dX6_judge_102 rfl rfl ?_
        refine e_iret dX6_judge_103 rfl ?_
        exact RA.mk (Jo.r) ho (FrM.r) (rfl) (rfl)
      · skip
        have n_85 : (whF (jdP r (hI h 74) z k) 9 0) = np r := n_nen (by omega) (by omega) c_85
        first | rw [iP n_85] | rw [iN n_85] | rw [iN (Nat.not_lt.mpr n_85)] | rw [iN (Nat.not_le.mpr n_85)] | skip
        refine r_iload_n 2 dX6_judge_88 rfl rfl ?_
        refine r_aload_n 0 dX6_judge_89 rfl rfl rfl ?_
        refine r_getr (k := 20) (b := 73) dX6_judge_90 hm.s66 rfl (by decide) (Or.inl q1436) (Or.inl rfl) rfl hm.r_sizeOf ?_
        refine r_iload_n 1 dX6_judge_93 rfl rfl ?_
        refine r_ialdN (k) dX6_judge_94 hm.s73 rfl (by omega) (by decide) ?_
        refine r_eqi (show _ = nI (z) from h_z) ?_
        refine r_icmp_ne 102 dX6_judge_95 (by decide) (fun c_95 => ?_) (fun c_95 => ?_)
        · skip
          have n_95 : ¬ (whF (jdP r (hI h 74) z k) 9 0) = z := n_ne (by omega) (by omega) c_95
          first | rw [iP n_95] | rw [iN n_95] | rw [iN (Nat.not_lt.mpr n_95)] | rw [iN (Nat.not_le.mpr n_95)] | skip
          refine r_iload_n 2 dX6_judge_102 rfl rfl ?_
          refine e_iret dX6_judge_103 rfl ?_
          exact RA.mk (Jo.r) ho (FrM.r) (rfl) (rfl)
        · skip
          have n_95 : (whF (jdP r (hI h 74) z k) 9 0) = z := n_nen (by omega) (by omega) c_95
          first | rw [iP n_95] | rw [iN n_95] | rw [iN (Nat.not_lt.mpr n_95)] | rw [iN (Nat.not_le.mpr n_95)] | skip
          refine r_iconst (v := (-1)) dX6_judge_98 (by decide +kernel) ?_
          refine r_goto 103 dX6_judge_99 (by decide) ?_
          refine e_iret dX6_judge_103 rfl ?_
          exact RA.mk (Jo.r) ho (FrM.r) (rfl) (rfl)
    · skip
      first | rw [iP c_20] | rw [iN c_20] | rw [iN (i_le_nlt c_20)] | rw [iP (i_nle c_20)] | rw [iP (i_nlt c_20)] | rw [iN (i_lt_nle c_20)] | skip
      refine r_aload_n 0 dX6_judge_23 rfl rfl rfl ?_
      refine r_ldc (v := -1000000002) dX6_judge_24 q1735 ?_
      refine r_callV_1 dX6_judge_26 kX6_53 (M_errs hm (e := (-1000000002 : Int32)) 2 (by decide +kernel) (by decide)) (gRecv.of hm.s66 rfl) rfl rfl (Nat.le_of_ble_eq_true rfl) ?_
      refine e_iret dX6_judge_29 rfl ?_
      exact RA.mk (Jo.r) ho ((FrM.r).b (by decide)) (rfl) (rfl)
  · skip
    have n_4 : (inB s (nI 0) (nI 3)) = false := b2_f c_4
    first | rw [ifT n_4] | rw [ifF n_4] | skip
    refine r_aload_n 0 dX6_judge_7 rfl rfl rfl ?_
    refine r_ldc (v := -1000000001) dX6_judge_8 q1511 ?_
    refine r_callV_1 dX6_judge_10 kX6_53 (M_errs hm (e := (-1000000001 : Int32)) 1 (by decide +kernel) (by decide)) (gRecv.of hm.s66 rfl) rfl rfl (Nat.le_of_ble_eq_true rfl) ?_
    refine e_iret dX6_judge_13 rfl ?_
    exact RA.mk (Jo.r) ho ((FrM.r).b (by decide)) (rfl) (rfl)
theorem M_traits_L {d : Nat} {h : Hp} (hm : LayM (hS h) (hR h)) {r o : Row} (w : WF r) {s z : Nat} (hs : s < 4) (hzz : hI h 73 s = nI z) (hz4 : z ≤ 40) {Q : gQ} : ∀ (k p : Nat), p + k = 9 → p ≤ np r → (gG (d + 2) (0) (0) m_X6_traits 93 [some (.ref 66), some (.int (nI s)), some (.int (nI (whF (trP r (hI h 74) z s) k p)))] [] (MH h (trR r (hI h 74) s (whF (trP r (hI h 74) z s) k p)) o) (Q)) → gG (d + 2) (0) (0) m_X6_traits 32 [some (.ref 66), some (.int (nI s)), some (.int (nI p))] [] (MH h (trR r (hI h 74) s p) o) (Q) := by
  intro k
  induction k with
  | zero => exact fun p h1 h2 => absurd h2 (by have := w.n8; omega)
  | succ k ih =>
  intro p hk hp kk
  have hn8 := w.n8
  have hT : RT r (trR r (hI h 74) s p) := trR_T p (by omega)
  refine r_iload_n 2 dX6_traits_32 rfl rfl ?_
  refine r_aload_n 0 dX6_traits_33 rfl rfl rfl ?_
  refine r_getr (k := 20) (b := 73) dX6_traits_34 hm.s66 rfl (by decide) (Or.inl q1436) (Or.inl rfl) rfl hm.r_sizeOf ?_
  refine r_iload_n 1 dX6_traits_37 rfl rfl ?_
  refine r_ialdN (s) dX6_traits_38 hm.s73 rfl (by omega) (by decide) ?_
  refine r_eqi (show _ = nI (z) from hzz) ?_
  refine r_icmp_ge 93 dX6_traits_39 (by decide) (fun c_39 => ?_) (fun c_39 => ?_)
  · skip
    have n_39 : z ≤ p := n_ge (by omega) (by omega) c_39
    rw [whF_f (trP_f1 n_39)] at kk
    exact kk
  · skip
    have n_39 : p < z := n_gen (by omega) (by omega) c_39
    refine r_aload_n 0 dX6_traits_42 rfl rfl rfl ?_
    refine r_iload_n 2 dX6_traits_43 rfl rfl ?_
    refine r_callV_1 dX6_traits_44 kX6_62 (M_isOne hm) (gRecv.of hm.s66 rfl) rfl rfl (Nat.le_of_ble_eq_true rfl) ?_
    refine r_if_eq 93 dX6_traits_47 (by decide) (fun c_47 => ?_) (fun c_47 => ?_)
    · skip
      have n_47 : (inB (nI p) 0 (trR r (hI h 74) s p 2 - 1)) = false := b2_f c_47
      rw [hT.two] at n_47
      rw [whF_f (trP_f2 n_47)] at kk
      exact kk
    · skip
      have n_47 : (inB (nI p) 0 (trR r (hI h 74) s p 2 - 1)) = true := b2_t c_47
      rw [hT.two] at n_47
      have hlt : p < np r := one_lt w (by omega) n_47
      refine r_aload_n 0 dX6_traits_50 rfl rfl rfl ?_
      refine r_getr (k := 21) (b := 74) dX6_traits_51 hm.s66 rfl (by decide) (Or.inl q1437) (Or.inl rfl) rfl hm.r_sheets ?_
      refine r_bipush (v := nI 40) dX6_traits_54 (by decide +kernel) ?_
      refine r_iload_n 1 dX6_traits_56 rfl rfl ?_
      refine r_imul dX6_traits_57 ?_
      refine r_eqi (show _ = nI (40 * s) from by simp only [pk_mul, nI_add]) ?_
      refine r_iload_n 2 dX6_traits_58 rfl rfl ?_
      refine r_iadd dX6_traits_59 ?_
      refine r_ialdN (((40 * s) + p)) dX6_traits_60 hm.s74 (by simp only [pk_mul, nI_add]) (by omega) (by decide) ?_
      refine r_eqi (show _ = (hI h 74 (40 * s + p)) from rfl) ?_
      refine r_iconst (v := nI 0) dX6_traits_61 rfl ?_
      refine r_bipush (v := nI 15) dX6_traits_62 (by decide +kernel) ?_
      refine r_callS_1 dX6_traits_64 kX6_48 (M_in)  rfl rfl (Nat.le_of_ble_eq_true rfl) ?_
      refine r_if_eq 93 dX6_traits_67 (by decide) (fun c_67 => ?_) (fun c_67 => ?_)
      · skip
        have n_67 : (inB (hI h 74 (40 * s + p)) (nI 0) (nI 15)) = false := b2_f c_67
        rw [whF_f (trP_f3 n_67)] at kk
        exact kk
      · skip
        have n_67 : (inB (hI h 74 (40 * s + p)) (nI 0) (nI 15)) = true := b2_t c_67
        refine r_aload_n 0 dX6_traits_70 rfl rfl rfl ?_
        refine r_iload_n 2 dX6_traits_71 rfl rfl ?_
        refine r_iconst (v := nI 2) dX6_traits_72 rfl ?_
        refine r_aload_n 0 dX6_traits_73 rfl rfl rfl ?_
        refine r_getr (k := 21) (b := 74) dX6_traits_74 hm.s66 rfl (by decide) (Or.inl q1437) (Or.inl rfl) rfl hm.r_sheets ?_
        refine r_bipush (v := nI 40) dX6_traits_77 (by decide +kernel) ?_
        refine r_iload_n 1 dX6_traits_79 rfl rfl ?_
        refine r_imul dX6_traits_80 ?_
        refine r_eqi (show _ = nI (40 * s) from by simp only [pk_mul, nI_add]) ?_
        refine r_iload_n 2 dX6_traits_81 rfl rfl ?_
        refine r_iadd dX6_traits_82 ?_
        refine r_ialdN (((40 * s) + p)) dX6_traits_83 hm.s74 (by simp only [pk_mul, nI_add]) (by omega) (by decide) ?_
        refine r_eqi (show _ = (hI h 74 (40 * s + p)) from rfl) ?_
        refine r_callV_0 dX6_traits_84 kX6_58 (M_gets (p := p) (w := 2) hm (by omega)) (gRecv.of hm.s66 rfl) rfl rfl (Nat.le_of_ble_eq_true rfl) ?_
        refine r_iinc dX6_traits_87 rfl (by decide) rfl ?_
        refine gG_ls (ls' := [_, _, some (.int (nI ((p + 1))))]) (by rw [show (Int32.ofInt 1) = nI 1 from rfl, nI_add]; rfl) ?_
        refine r_goto 32 dX6_traits_90 (by decide) ?_
        rw [whF_t (trP_t (by omega) n_47 n_67)] at kk
        exact ih (p + 1) (by omega) (by omega) kk
theorem A_traits {d : Nat} {h : Hp} (hm : LayM (hS h) (hR h)) {r o : Row} (w : WF r) (ho : o 15 = -1) {s : Int32} (hz : ∀ s, s < 4 → ∃ j, hI h 73 s = nI j ∧ j ≤ 40) : gC (d + 2) (0) (0) m_X6_traits [.ref 66, .int s] (MH h r o) (RA h (aTraits (mS h r o) s)) := by
  have e_0 : aTraits (mS h r o) s = (if inB s (nI 0) (nI 3) = true then (if (hI h 72) (toN s) = 0 then errA (mS h r o) (-1000000002) 2 else (nI (whF (trP r (hI h 74) (toN ((hI h 73) (toN s))) (toN s)) 9 0), (mS h r o).s_r (trR r (hI h 74) (toN s) (whF (trP r (hI h 74) (toN ((hI h 73) (toN s))) (toN s)) 9 0)))) else errA (mS h r o) (-1000000001) 1) := rfl
  rw [e_0]
  have hn8 := w.n8
  refine gC.of (ls := [some (.ref 66), some (.int s), none]) (by decide +kernel) rfl rfl rfl rfl (Nat.le_of_ble_eq_true rfl) ?_
  refine r_iload_n 1 dX6_traits_0 rfl rfl ?_
  refine r_callS_1 dX6_traits_1 kX6_228 (M_isSheet (v := s))  rfl rfl (Nat.le_of_ble_eq_true rfl) ?_
  refine r_if_ne 14 dX6_traits_4 (by decide) (fun c_4 => ?_) (fun c_4 => ?_)
  · skip
    have n_4 : (inB s (nI 0) (nI 3)) = true := b2_t c_4
    first | rw [ifT n_4] | rw [ifF n_4] | skip
    obtain ⟨k, h_k, rfl⟩ := inB_n (by decide) n_4
    have e_k : toN (nI k) = k := toN_nI (by omega)
    try simp only [e_k]
    obtain ⟨z, h_z, h_z4⟩ := hz k (by omega)
    have e_z : toN (hI h 73 k) = z := by rw [h_z]; exact toN_nI (by omega)
    simp only [e_z]
    refine r_aload_n 0 dX6_traits_14 rfl rfl rfl ?_
    refine r_getr (k := 19) (b := 72) dX6_traits_15 hm.s66 rfl (by decide) (Or.inl q1435) (Or.inl rfl) rfl hm.r_bitsOf ?_
    refine r_iload_n 1 dX6_traits_18 rfl rfl ?_
    refine r_ialdN (k) dX6_traits_19 hm.s72 rfl (by omega) (by decide) ?_
    refine r_eqi (show _ = (hI h 72 k) from rfl) ?_
    refine r_if_ne 30 dX6_traits_20 (by decide) (fun c_20 => ?_) (fun c_20 => ?_)
    · skip
      first | rw [iP c_20] | rw [iN c_20] | rw [iN (i_le_nlt c_20)] | rw [iP (i_nle c_20)] | rw [iP (i_nlt c_20)] | rw [iN (i_lt_nle c_20)] | skip
      refine r_iconst (v := nI 0) dX6_traits_30 rfl ?_
      refine r_istore_n 2 dX6_traits_31 rfl (by decide) rfl ?_
      refine gG_ls (ls' := [_, _, _]) rfl ?_
      refine M_traits_L hm w (by omega) h_z h_z4 9 0 (by omega) (by omega) ?_
      refine r_iload_n 2 dX6_traits_93 rfl rfl ?_
      refine e_iret dX6_traits_94 rfl ?_
      exact RA.mk (Jo.r) ho (FrM.r) (rfl) (rfl)
    · skip
      first | rw [iP c_20] | rw [iN c_20] | rw [iN (i_le_nlt c_20)] | rw [iP (i_nle c_20)] | rw [iP (i_nlt c_20)] | rw [iN (i_lt_nle c_20)] | skip
      refine r_aload_n 0 dX6_traits_23 rfl rfl rfl ?_
      refine r_ldc (v := -1000000002) dX6_traits_24 q1735 ?_
      refine r_callV_1 dX6_traits_26 kX6_53 (M_errs hm (e := (-1000000002 : Int32)) 2 (by decide +kernel) (by decide)) (gRecv.of hm.s66 rfl) rfl rfl (Nat.le_of_ble_eq_true rfl) ?_
      refine e_iret dX6_traits_29 rfl ?_
      exact RA.mk (Jo.r) ho ((FrM.r).b (by decide)) (rfl) (rfl)
  · skip
    have n_4 : (inB s (nI 0) (nI 3)) = false := b2_f c_4
    first | rw [ifT n_4] | rw [ifF n_4] | skip
    refine r_aload_n 0 dX6_traits_7 rfl rfl rfl ?_
    refine r_ldc (v := -1000000001) dX6_traits_8 q1511 ?_
    refine r_callV_1 dX6_traits_10 kX6_53 (M_errs hm (e := (-1000000001 : Int32)) 1 (by decide +kernel) (by decide)) (gRecv.of hm.s66 rfl) rfl rfl (Nat.le_of_ble_eq_true rfl) ?_
    refine e_iret dX6_traits_13 rfl ?_
    exact RA.mk (Jo.r) ho ((FrM.r).b (by decide)) (rfl) (rfl)
theorem M_move_L1 {d : Nat} {h : Hp} (hm : LayM (hS h) (hR h)) {r o g : Row} {a b c : Nat} {x3 x4 : Option Value} (ha : a < 4) (hb : b + c ≤ 40) {Q : gQ} : ∀ (k i : Nat), i ≤ c → c + 1 ≤ i + k → (gG (d + 2) (0) (0) m_X6_move 153 [some (.ref 66), some (.int (nI a)), some (.int (nI b)), x3, x4, some (.int (nI c)), some (.int (nI c))] [] (MH (bI h 75 (cpS (hI h 74) g (40 * a + b) (c))) r o) (Q)) → gG (d + 2) (0) (0) m_X6_move 119 [some (.ref 66), some (.int (nI a)), some (.int (nI b)), x3, x4, some (.int (nI c)), some (.int (nI i))] [] (MH (bI h 75 (cpS (hI h 74) g (40 * a + b) (i))) r o) (Q) := by
  intro k
  induction k with
  | zero => exact fun i h1 h2 => absurd h2 (by omega)
  | succ k ih =>
  intro i hi hk kk
  refine r_iload dX6_move_119 rfl ?_
  refine r_iload dX6_move_121 rfl ?_
  refine r_icmp_ge 153 dX6_move_123 (by decide) (fun c_123 => ?_) (fun c_123 => ?_)
  · skip
    have n_123 : c ≤ i := n_ge (by omega) (by omega) c_123
    have hin : i = c := by omega
    subst hin
    exact kk
  · skip
    have n_123 : i < c := n_gen (by omega) (by omega) c_123
    refine r_aload_n 0 dX6_move_126 rfl rfl rfl ?_
    refine r_getr (k := 22) (b := 75) dX6_move_127 hm.s66 rfl (by decide) (Or.inl q1438) (Or.inl rfl) rfl hm.r_moved ?_
    refine r_iload dX6_move_130 rfl ?_
    refine r_aload_n 0 dX6_move_132 rfl rfl rfl ?_
    refine r_getr (k := 21) (b := 74) dX6_move_133 hm.s66 rfl (by decide) (Or.inl q1437) (Or.inl rfl) rfl hm.r_sheets ?_
    refine r_bipush (v := nI 40) dX6_move_136 (by decide +kernel) ?_
    refine r_iload_n 1 dX6_move_138 rfl rfl ?_
    refine r_imul dX6_move_139 ?_
    refine r_eqi (show _ = nI (40 * a) from by simp only [pk_mul, nI_add]) ?_
    refine r_iload_n 2 dX6_move_140 rfl rfl ?_
    refine r_iadd dX6_move_141 ?_
    refine r_eqi (show _ = nI ((40 * a) + b) from by simp only [pk_mul, nI_add]) ?_
    refine r_iload dX6_move_142 rfl ?_
    refine r_iadd dX6_move_144 ?_
    refine r_ialdN ((((40 * a) + b) + i)) dX6_move_145 hm.s74 (by simp only [pk_mul, nI_add]) (by omega) (by decide) ?_
    refine r_iastN (i) dX6_move_146 hm.s75 rfl (by omega) (by decide) ?_
    refine gG_h (MH_bI' _ _ _ _ _ _ (by decide) (by decide)) ?_
    refine r_iinc dX6_move_147 rfl (by decide) rfl ?_
    refine gG_ls (ls' := [_, _, _, _, _, _, some (.int (nI ((i + 1))))]) (by rw [show (Int32.ofInt 1) = nI 1 from rfl, nI_add]; rfl) ?_
    refine r_goto 119 dX6_move_150 (by decide) ?_
    refine gG_h (show _ = MH (bI h 75 (cpS (hI h 74) g (40 * a + b) (i + 1))) r o from by rw [bI_bI, bI_s]; rfl) ?_
    exact ih (i + 1) (by omega) (by omega) kk
theorem M_move_L2 {d : Nat} {h : Hp} (hm : LayM (hS h) (hR h)) {r o f : Row} {a b e c : Nat} {x1 x2 : Option Value} (ha : a < 4) (hb : b + c ≤ 40) (hc : ∀ k, k < c → hI h 75 k = f (e + k)) {Q : gQ} : ∀ (k i : Nat), i ≤ c → c + 1 ≤ i + k → (gG (d + 2) (0) (0) m_X6_move 191 [some (.ref 66), x1, x2, some (.int (nI a)), some (.int (nI b)), some (.int (nI c)), some (.int (nI c))] [] (MH (bI h 74 (mvF f e (40 * a + b) (c))) r o) (Q)) → gG (d + 2) (0) (0) m_X6_move 156 [some (.ref 66), x1, x2, some (.int (nI a)), some (.int (nI b)), some (.int (nI c)), some (.int (nI i))] [] (MH (bI h 74 (mvF f e (40 * a + b) (i))) r o) (Q) := by
  intro k
  induction k with
  | zero => exact fun i h1 h2 => absurd h2 (by omega)
  | succ k ih =>
  intro i hi hk kk
  refine r_iload dX6_move_156 rfl ?_
  refine r_iload dX6_move_158 rfl ?_
  refine r_icmp_ge 191 dX6_move_160 (by decide) (fun c_160 => ?_) (fun c_160 => ?_)
  · skip
    have n_160 : c ≤ i := n_ge (by omega) (by omega) c_160
    have hin : i = c := by omega
    subst hin
    exact kk
  · skip
    have n_160 : i < c := n_gen (by omega) (by omega) c_160
    refine r_aload_n 0 dX6_move_163 rfl rfl rfl ?_
    refine r_getr (k := 21) (b := 74) dX6_move_164 hm.s66 rfl (by decide) (Or.inl q1437) (Or.inl rfl) rfl hm.r_sheets ?_
    refine r_bipush (v := nI 40) dX6_move_167 (by decide +kernel) ?_
    refine r_iload_n 3 dX6_move_169 rfl rfl ?_
    refine r_imul dX6_move_170 ?_
    refine r_eqi (show _ = nI (40 * a) from by simp only [pk_mul, nI_add]) ?_
    refine r_iload dX6_move_171 rfl ?_
    refine r_iadd dX6_move_173 ?_
    refine r_eqi (show _ = nI ((40 * a) + b) from by simp only [pk_mul, nI_add]) ?_
    refine r_iload dX6_move_174 rfl ?_
    refine r_iadd dX6_move_176 ?_
    refine r_eqi (show _ = nI (((40 * a) + b) + i) from by simp only [pk_mul, nI_add]) ?_
    refine r_aload_n 0 dX6_move_177 rfl rfl rfl ?_
    refine r_getr (k := 22) (b := 75) dX6_move_178 hm.s66 rfl (by decide) (Or.inl q1438) (Or.inl rfl) rfl hm.r_moved ?_
    refine r_iload dX6_move_181 rfl ?_
    refine r_ialdN (i) dX6_move_183 hm.s75 rfl (by omega) (by decide) ?_
    refine r_eqi (show _ = (f (e + i)) from hc i (by omega)) ?_
    refine r_iastN ((((40 * a) + b) + i)) dX6_move_184 hm.s74 rfl (by omega) (by decide) ?_
    refine gG_h (MH_bI' _ _ _ _ _ _ (by decide) (by decide)) ?_
    refine r_iinc dX6_move_185 rfl (by decide) rfl ?_
    refine gG_ls (ls' := [_, _, _, _, _, _, some (.int (nI ((i + 1))))]) (by rw [show (Int32.ofInt 1) = nI 1 from rfl, nI_add]; rfl) ?_
    refine r_goto 156 dX6_move_188 (by decide) ?_
    refine gG_h (show _ = MH (bI h 74 (mvF f e (40 * a + b) (i + 1))) r o from by rw [bI_bI, bI_s]; rfl) ?_
    exact ih (i + 1) (by omega) (by omega) kk
theorem A_move {d : Nat} {h : Hp} (hm : LayM (hS h) (hR h)) {r o : Row} (w : WF r) (ho : o 15 = -1) {s i t j n : Int32} (hz : ∀ s, s < 4 → ∃ j, hI h 73 s = nI j ∧ j ≤ 40) : gC (d + 2) (0) (0) m_X6_move [.ref 66, .int s, .int i, .int t, .int j, .int n] (MH h r o) (RA h (aMove (mS h r o) s i t j n)) := by
  have e_0 : aMove (mS h r o) s i t j n = (if inB s (nI 0) (nI 3) = true then (if inB t (nI 0) (nI 3) = true then (if (hI h 72) (toN s) = 0 then errA (mS h r o) (-1000000002) 2 else if (hI h 72) (toN t) = 0 then errA (mS h r o) (-1000000002) 2 else if (hI h 72) (toN s) = (hI h 72) (toN t) then (if n < 0 then errA (mS h r o) (-1000000001) 1 else if i < 0 then errA (mS h r o) (-1000000001) 1 else if j < 0 then errA (mS h r o) (-1000000001) 1 else if (hI h 73) (toN s) - n < i then errA (mS h r o) (-1000000001) 1 else if (hI h 73) (toN t) - n < j then errA (mS h r o) (-1000000001) 1 else (n, (mS h r o).s_sheets (mvF (hI h 74) (40 * toN s + toN i) (40 * toN t + toN j) (toN n)))) else errA (mS h r o) (-1000000005) 5) else errA (mS h r o) (-1000000001) 1) else errA (mS h r o) (-1000000001) 1) := rfl
  rw [e_0]
  have hn8 := w.n8
  refine gC.of (ls := [some (.ref 66), some (.int s), some (.int i), some (.int t), some (.int j), some (.int n), none]) (by decide +kernel) rfl rfl rfl rfl (Nat.le_of_ble_eq_true rfl) ?_
  refine r_iload_n 1 dX6_move_0 rfl rfl ?_
  refine r_callS_1 dX6_move_1 kX6_228 (M_isSheet (v := s))  rfl rfl (Nat.le_of_ble_eq_true rfl) ?_
  refine r_if_eq 14 dX6_move_4 (by decide) (fun c_4 => ?_) (fun c_4 => ?_)
  · skip
    have n_4 : (inB s (nI 0) (nI 3)) = false := b2_f c_4
    first | rw [ifT n_4] | rw [ifF n_4] | skip
    refine r_aload_n 0 dX6_move_14 rfl rfl rfl ?_
    refine r_ldc (v := -1000000001) dX6_move_15 q1511 ?_
    refine r_callV_1 dX6_move_17 kX6_53 (M_errs hm (e := (-1000000001 : Int32)) 1 (by decide +kernel) (by decide)) (gRecv.of hm.s66 rfl) rfl rfl (Nat.le_of_ble_eq_true rfl) ?_
    refine e_iret dX6_move_20 rfl ?_
    exact RA.mk (Jo.r) ho ((FrM.r).b (by decide)) rfl rfl
  · skip
    have n_4 : (inB s (nI 0) (nI 3)) = true := b2_t c_4
    first | rw [ifT n_4] | rw [ifF n_4] | skip
    obtain ⟨k, h_k, rfl⟩ := inB_n (by decide) n_4
    have e_k : toN (nI k) = k := toN_nI (by omega)
    try simp only [e_k]
    obtain ⟨z1, h_z1, h_z14⟩ := hz k (by omega)
    refine r_iload_n 3 dX6_move_7 rfl rfl ?_
    refine r_callS_1 dX6_move_8 kX6_228 (M_isSheet (v := t))  rfl rfl (Nat.le_of_ble_eq_true rfl) ?_
    refine r_if_ne 21 dX6_move_11 (by decide) (fun c_11 => ?_) (fun c_11 => ?_)
    · skip
      have n_11 : (inB t (nI 0) (nI 3)) = true := b2_t c_11
      first | rw [ifT n_11] | rw [ifF n_11] | skip
      obtain ⟨l, h_l, rfl⟩ := inB_n (by decide) n_11
      have e_l : toN (nI l) = l := toN_nI (by omega)
      try simp only [e_l]
      obtain ⟨z2, h_z2, h_z24⟩ := hz l (by omega)
      refine r_aload_n 0 dX6_move_21 rfl rfl rfl ?_
      refine r_getr (k := 19) (b := 72) dX6_move_22 hm.s66 rfl (by decide) (Or.inl q1435) (Or.inl rfl) rfl hm.r_bitsOf ?_
      refine r_iload_n 1 dX6_move_25 rfl rfl ?_
      refine r_ialdN (k) dX6_move_26 hm.s72 rfl (by omega) (by decide) ?_
      refine r_eqi (show _ = (hI h 72 k) from rfl) ?_
      refine r_if_eq 39 dX6_move_27 (by decide) (fun c_27 => ?_) (fun c_27 => ?_)
      · skip
        first | rw [iP c_27] | rw [iN c_27] | rw [iN (i_le_nlt c_27)] | rw [iP (i_nle c_27)] | rw [iP (i_nlt c_27)] | rw [iN (i_lt_nle c_27)] | skip
        refine r_aload_n 0 dX6_move_39 rfl rfl rfl ?_
        refine r_ldc (v := -1000000002) dX6_move_40 q1735 ?_
        refine r_callV_1 dX6_move_42 kX6_53 (M_errs hm (e := (-1000000002 : Int32)) 2 (by decide +kernel) (by decide)) (gRecv.of hm.s66 rfl) rfl rfl (Nat.le_of_ble_eq_true rfl) ?_
        refine e_iret dX6_move_45 rfl ?_
        exact RA.mk (Jo.r) ho ((FrM.r).b (by decide)) rfl rfl
      · skip
        first | rw [iP c_27] | rw [iN c_27] | rw [iN (i_le_nlt c_27)] | rw [iP (i_nle c_27)] | rw [iP (i_nlt c_27)] | rw [iN (i_lt_nle c_27)] | skip
        refine r_aload_n 0 dX6_move_30 rfl rfl rfl ?_
        refine r_getr (k := 19) (b := 72) dX6_move_31 hm.s66 rfl (by decide) (Or.inl q1435) (Or.inl rfl) rfl hm.r_bitsOf ?_
        refine r_iload_n 3 dX6_move_34 rfl rfl ?_
        refine r_ialdN (l) dX6_move_35 hm.s72 rfl (by omega) (by decide) ?_
        refine r_eqi (show _ = (hI h 72 l) from rfl) ?_
        refine r_if_ne 46 dX6_move_36 (by decide) (fun c_36 => ?_) (fun c_36 => ?_)
        · skip
          first | rw [iP c_36] | rw [iN c_36] | rw [iN (i_le_nlt c_36)] | rw [iP (i_nle c_36)] | rw [iP (i_nlt c_36)] | rw [iN (i_lt_nle c_36)] | skip
          refine r_aload_n 0 dX6_move_46 rfl rfl rfl ?_
          refine r_getr (k := 19) (b := 72) dX6_move_47 hm.s66 rfl (by decide) (Or.inl q1435) (Or.inl rfl) rfl hm.r_bitsOf ?_
          refine r_iload_n 1 dX6_move_50 rfl rfl ?_
          refine r_ialdN (k) dX6_move_51 hm.s72 rfl (by omega) (by decide) ?_
          refine r_eqi (show _ = (hI h 72 k) from rfl) ?_
          refine r_aload_n 0 dX6_move_52 rfl rfl rfl ?_
          refine r_getr (k := 19) (b := 72) dX6_move_53 hm.s66 rfl (by decide) (Or.inl q1435) (Or.inl rfl) rfl hm.r_bitsOf ?_
          refine r_iload_n 3 dX6_move_56 rfl rfl ?_
          refine r_ialdN (l) dX6_move_57 hm.s72 rfl (by omega) (by decide) ?_
          refine r_eqi (show _ = (hI h 72 l) from rfl) ?_
          refine r_icmp_eq 68 dX6_move_58 (by decide) (fun c_58 => ?_) (fun c_58 => ?_)
          · skip
            first | rw [iP c_58] | rw [iN c_58] | rw [iN (i_le_nlt c_58)] | rw [iP (i_nle c_58)] | rw [iP (i_nlt c_58)] | rw [iN (i_lt_nle c_58)] | skip
            refine r_iload dX6_move_68 rfl ?_
            refine r_if_lt 109 dX6_move_70 (by decide) (fun c_70 => ?_) (fun c_70 => ?_)
            · skip
              first | rw [iP c_70] | rw [iN c_70] | rw [iN (i_le_nlt c_70)] | rw [iP (i_nle c_70)] | rw [iP (i_nlt c_70)] | rw [iN (i_lt_nle c_70)] | skip
              refine r_aload_n 0 dX6_move_109 rfl rfl rfl ?_
              refine r_ldc (v := -1000000001) dX6_move_110 q1511 ?_
              refine r_callV_1 dX6_move_112 kX6_53 (M_errs hm (e := (-1000000001 : Int32)) 1 (by decide +kernel) (by decide)) (gRecv.of hm.s66 rfl) rfl rfl (Nat.le_of_ble_eq_true rfl) ?_
              refine e_iret dX6_move_115 rfl ?_
              exact RA.mk (Jo.r) ho ((FrM.r).b (by decide)) rfl rfl
            · skip
              first | rw [iP c_70] | rw [iN c_70] | rw [iN (i_le_nlt c_70)] | rw [iP (i_nle c_70)] | rw [iP (i_nlt c_70)] | rw [iN (i_lt_nle c_70)] | skip
              obtain ⟨cn, h_cn, rfl⟩ := nI_of c_70
              have e_cn : toN (nI cn) = cn := toN_nI (by omega)
              try simp only [e_cn]
              refine r_iload_n 2 dX6_move_73 rfl rfl ?_
              refine r_if_lt 109 dX6_move_74 (by decide) (fun c_74 => ?_) (fun c_74 => ?_)
              · skip
                first | rw [iP c_74] | rw [iN c_74] | rw [iN (i_le_nlt c_74)] | rw [iP (i_nle c_74)] | rw [iP (i_nlt c_74)] | rw [iN (i_lt_nle c_74)] | skip
                refine r_aload_n 0 dX6_move_109 rfl rfl rfl ?_
                refine r_ldc (v := -1000000001) dX6_move_110 q1511 ?_
                refine r_callV_1 dX6_move_112 kX6_53 (M_errs hm (e := (-1000000001 : Int32)) 1 (by decide +kernel) (by decide)) (gRecv.of hm.s66 rfl) rfl rfl (Nat.le_of_ble_eq_true rfl) ?_
                refine e_iret dX6_move_115 rfl ?_
                exact RA.mk (Jo.r) ho ((FrM.r).b (by decide)) rfl rfl
              · skip
                first | rw [iP c_74] | rw [iN c_74] | rw [iN (i_le_nlt c_74)] | rw [iP (i_nle c_74)] | rw [iP (i_nlt c_74)] | rw [iN (i_lt_nle c_74)] | skip
                obtain ⟨ci, h_ci, rfl⟩ := nI_of c_74
                have e_ci : toN (nI ci) = ci := toN_nI (by omega)
                try simp only [e_ci]
                refine r_iload dX6_move_77 rfl ?_
                refine r_if_lt 109 dX6_move_79 (by decide) (fun c_79 => ?_) (fun c_79 => ?_)
                · skip
                  first | rw [iP c_79] | rw [iN c_79] | rw [iN (i_le_nlt c_79)] | rw [iP (i_nle c_79)] | rw [iP (i_nlt c_79)] | rw [iN (i_lt_nle c_79)] | skip
                  refine r_aload_n 0 dX6_move_109 rfl rfl rfl ?_
                  refine r_ldc (v := -1000000001) dX6_move_110 q1511 ?_
                  refine r_callV_1 dX6_move_112 kX6_53 (M_errs hm (e := (-1000000001 : Int32)) 1 (by decide +kernel) (by decide)) (gRecv.of hm.s66 rfl) rfl rfl (Nat.le_of_ble_eq_true rfl) ?_
                  refine e_iret dX6_move_115 rfl ?_
                  exact RA.mk (Jo.r) ho ((FrM.r).b (by decide)) rfl rfl
                · skip
                  first | rw [iP c_79] | rw [iN c_79] | rw [iN (i_le_nlt c_79)] | rw [iP (i_nle c_79)] | rw [iP (i_nlt c_79)] | rw [iN (i_lt_nle c_79)] | skip
                  obtain ⟨cj, h_cj, rfl⟩ := nI_of c_79
                  have e_cj : toN (nI cj) = cj := toN_nI (by omega)
                  try simp only [e_cj]
                  refine r_iload_n 2 dX6_move_82 rfl rfl ?_
                  refine r_aload_n 0 dX6_move_83 rfl rfl rfl ?_
                  refine r_getr (k := 20) (b := 73) dX6_move_84 hm.s66 rfl (by decide) (Or.inl q1436) (Or.inl rfl) rfl hm.r_sizeOf ?_
                  refine r_iload_n 1 dX6_move_87 rfl rfl ?_
                  refine r_ialdN (k) dX6_move_88 hm.s73 rfl (by omega) (by decide) ?_
                  refine r_eqi (show _ = (hI h 73 k) from rfl) ?_
                  refine r_iload dX6_move_89 rfl ?_
                  refine r_isub dX6_move_91 ?_
                  refine r_icmp_gt 109 dX6_move_92 (by decide) (fun c_92 => ?_) (fun c_92 => ?_)
                  · skip
                    first | rw [iP c_92] | rw [iN c_92] | rw [iN (i_le_nlt c_92)] | rw [iP (i_nle c_92)] | rw [iP (i_nlt c_92)] | rw [iN (i_lt_nle c_92)] | skip
                    refine r_aload_n 0 dX6_move_109 rfl rfl rfl ?_
                    refine r_ldc (v := -1000000001) dX6_move_110 q1511 ?_
                    refine r_callV_1 dX6_move_112 kX6_53 (M_errs hm (e := (-1000000001 : Int32)) 1 (by decide +kernel) (by decide)) (gRecv.of hm.s66 rfl) rfl rfl (Nat.le_of_ble_eq_true rfl) ?_
                    refine e_iret dX6_move_115 rfl ?_
                    exact RA.mk (Jo.r) ho ((FrM.r).b (by decide)) rfl rfl
                  · skip
                    first | rw [iP c_92] | rw [iN c_92] | rw [iN (i_le_nlt c_92)] | rw [iP (i_nle c_92)] | rw [iP (i_nlt c_92)] | rw [iN (i_lt_nle c_92)] | skip
                    have hb1 : ci + cn ≤ z1 := i_sub (by omega) (by omega) (by omega) (by rw [← h_z1]; exact c_92)
                    refine r_iload dX6_move_95 rfl ?_
                    refine r_aload_n 0 dX6_move_97 rfl rfl rfl ?_
                    refine r_getr (k := 20) (b := 73) dX6_move_98 hm.s66 rfl (by decide) (Or.inl q1436) (Or.inl rfl) rfl hm.r_sizeOf ?_
                    refine r_iload_n 3 dX6_move_101 rfl rfl ?_
                    refine r_ialdN (l) dX6_move_102 hm.s73 rfl (by omega) (by decide) ?_
                    refine r_eqi (show _ = (hI h 73 l) from rfl) ?_
                    refine r_iload dX6_move_103 rfl ?_
                    refine r_isub dX6_move_105 ?_
                    refine r_icmp_le 116 dX6_move_106 (by decide) (fun c_106 => ?_) (fun c_106 => ?_)
                    · skip
                      first | rw [iP c_106] | rw [iN c_106] | rw [iN (i_le_nlt c_106)] | rw [iP (i_nle c_106)] | rw [iP (i_nlt c_106)] | rw [iN (i_lt_nle c_106)] | skip
                      have hb2 : cj + cn ≤ z2 := i_sub (by omega) (by omega) (by omega) (by rw [← h_z2]; exact i_le_nlt c_106)
                      refine r_iconst (v := nI 0) dX6_move_116 rfl ?_
                      refine r_istore dX6_move_117 (by decide) rfl ?_
                      refine gG_ls (ls' := [_, _, _, _, _, _, _]) rfl ?_
                      refine gG_h (MH_75 _ _ _) ?_
                      refine M_move_L1 (by exact hm) (by omega) (by omega) (cn + 1) 0 (by omega) (by omega) ?_
                      refine r_iconst (v := nI 0) dX6_move_153 rfl ?_
                      refine r_istore dX6_move_154 (by decide) rfl ?_
                      refine gG_ls (ls' := [_, _, _, _, _, _, _]) rfl ?_
                      refine gG_h (MH_74 _ _ _) ?_
                      refine M_move_L2 (h := bI h 75 (cpS (hI h 74) (hI h 75) (40 * k + ci) cn)) (f := hI h 74) (e := 40 * k + ci) (by exact hm) (by omega) (by omega) (fun q hq => (congrFun (bI_s _ _ _) q).trans (cpS_at _ hq)) (cn + 1) 0 (by omega) (by omega) ?_
                      refine r_iload dX6_move_191 rfl ?_
                      refine e_iret dX6_move_193 rfl ?_
                      exact RA.mk (Jo.r) ho (((FrM.r).b (by decide)).b (by decide)) rfl rfl
                    · skip
                      first | rw [iP c_106] | rw [iN c_106] | rw [iN (i_le_nlt c_106)] | rw [iP (i_nle c_106)] | rw [iP (i_nlt c_106)] | rw [iN (i_lt_nle c_106)] | skip
                      refine r_aload_n 0 dX6_move_109 rfl rfl rfl ?_
                      refine r_ldc (v := -1000000001) dX6_move_110 q1511 ?_
                      refine r_callV_1 dX6_move_112 kX6_53 (M_errs hm (e := (-1000000001 : Int32)) 1 (by decide +kernel) (by decide)) (gRecv.of hm.s66 rfl) rfl rfl (Nat.le_of_ble_eq_true rfl) ?_
                      refine e_iret dX6_move_115 rfl ?_
                      exact RA.mk (Jo.r) ho ((FrM.r).b (by decide)) rfl rfl
          · skip
            first | rw [iP c_58] | rw [iN c_58] | rw [iN (i_le_nlt c_58)] | rw [iP (i_nle c_58)] | rw [iP (i_nlt c_58)] | rw [iN (i_lt_nle c_58)] | skip
            refine r_aload_n 0 dX6_move_61 rfl rfl rfl ?_
            refine r_ldc (v := -1000000005) dX6_move_62 q1639 ?_
            refine r_callV_1 dX6_move_64 kX6_53 (M_errs hm (e := (-1000000005 : Int32)) 5 (by decide +kernel) (by decide)) (gRecv.of hm.s66 rfl) rfl rfl (Nat.le_of_ble_eq_true rfl) ?_
            refine e_iret dX6_move_67 rfl ?_
            exact RA.mk (Jo.r) ho ((FrM.r).b (by decide)) rfl rfl
        · skip
          first | rw [iP c_36] | rw [iN c_36] | rw [iN (i_le_nlt c_36)] | rw [iP (i_nle c_36)] | rw [iP (i_nlt c_36)] | rw [iN (i_lt_nle c_36)] | skip
          refine r_aload_n 0 dX6_move_39 rfl rfl rfl ?_
          refine r_ldc (v := -1000000002) dX6_move_40 q1735 ?_
          refine r_callV_1 dX6_move_42 kX6_53 (M_errs hm (e := (-1000000002 : Int32)) 2 (by decide +kernel) (by decide)) (gRecv.of hm.s66 rfl) rfl rfl (Nat.le_of_ble_eq_true rfl) ?_
          refine e_iret dX6_move_45 rfl ?_
          exact RA.mk (Jo.r) ho ((FrM.r).b (by decide)) rfl rfl
    · skip
      have n_11 : (inB t (nI 0) (nI 3)) = false := b2_f c_11
      first | rw [ifT n_11] | rw [ifF n_11] | skip
      refine r_aload_n 0 dX6_move_14 rfl rfl rfl ?_
      refine r_ldc (v := -1000000001) dX6_move_15 q1511 ?_
      refine r_callV_1 dX6_move_17 kX6_53 (M_errs hm (e := (-1000000001 : Int32)) 1 (by decide +kernel) (by decide)) (gRecv.of hm.s66 rfl) rfl rfl (Nat.le_of_ble_eq_true rfl) ?_
      refine e_iret dX6_move_20 rfl ?_
      exact RA.mk (Jo.r) ho ((FrM.r).b (by decide)) rfl rfl
