theorem X_owes {d : Nat} {h : Hp} {S : MSt} (hX : CX h S) (w : WF S.r) {a b : Int32} : gC (d + 5) (0) (0) m_X0_owes [.ref 21, .int a, .int b] (h) (RX h (aOwes S a b)) := by
  have e_0 : aOwes S a b = (if twoB S.r a b = true then (dv S.r (toN a) (toN b), S) else errA S (-1000000001) 1) := rfl
  rw [e_0]
  have hn8 := w.n8
  have hx := hX.hx
  have hl := hX.hl
  have hb : 21 ≤ 23 ∧ 23 + 10 < 78 := by decide
  have hn : S.r 2 = nI (np S.r) := w.n
  have lw := hX.lw
  have Vr := w.V
  have K := w.K
  refine gC.ofH (ls := [some (.ref 21), some (.int a), some (.int b), none]) (by decide +kernel) rfl rfl rfl rfl (Nat.le_of_ble_eq_true rfl) ?_
  refine gG_h hX.lg ?_
  refine r_aload_n 0 dX0_owes_0 rfl rfl rfl ?_
  refine r_aload_n 0 dX0_owes_1 rfl rfl rfl ?_
  refine r_iload_n 1 dX0_owes_2 rfl rfl ?_
  refine r_iload_n 2 dX0_owes_3 rfl rfl ?_
  refine r_callV_1 dX0_owes_4 kX0_155 (X_areTwo (r := S.r) (a := a) (b := b) hx hl) (gRecv.of hx.s21 rfl) rfl rfl (Nat.le_of_ble_eq_true rfl) ?_
  refine r_iconst (v := nI 1) dX0_owes_7 rfl ?_
  refine r_needB dX0_owes_8 rfl (by exact hx) (Nat.le_of_ble_eq_true rfl) (fun n_8 => ?_) (fun n_8 => ?_)
  · skip
    first | rw [ifT n_8] | rw [ifF n_8] | skip
    obtain ⟨i, j, h_i, h_j, rfl, rfl⟩ := two_of w n_8
    have e_i : toN (nI i) = i := toN_nI (by omega)
    have e_j : toN (nI j) = j := toN_nI (by omega)
    try simp only [e_i, e_j]
    refine r_aload_n 0 dX0_owes_11 rfl rfl rfl ?_
    refine r_getr (k := 1) (b := 23) dX0_owes_12 hx.s21 rfl (by decide) (Or.inl q306) (Or.inl rfl) rfl hx.r_land ?_
    refine r_getr (k := 5) (b := (23 + 5)) dX0_owes_15 hl.s0 rfl (by decide) (Or.inr ⟨_, q229⟩) (Or.inl rfl) rfl hl.r_owed ?_
    refine r_iload_n 1 dX0_owes_18 rfl rfl ?_
    refine r_iload_n 2 dX0_owes_19 rfl rfl ?_
    refine r_callS_1 dX0_owes_20 kX0_127 (L_place (i := i) (j := j))  rfl rfl (Nat.le_of_ble_eq_true rfl) ?_
    refine r_ialdN ((8 * i + j)) dX0_owes_23 hl.s5 rfl (by omega) (by decide) ?_
    refine r_eqi (show _ = (dv S.r i j) from LG_r5 (by omega) (by omega)) ?_
    refine e_iret dX0_owes_24 rfl ?_
    exact RX.same hX.self (FrX.lg (by decide)) rfl rfl
  · skip
    first | rw [ifT n_8] | rw [ifF n_8] | skip
    refine t_catch [] (0, 24, 25, 8) [] (hx).s22 rfl rfl (fun z hz => by cases hz) rfl (by decide) q126 q128 ?_
    refine r_astore_n 3 dX0_owes_25 rfl (by decide) rfl rfl ?_
    refine gG_ls (ls' := [_, _, _, _]) rfl ?_
    refine r_aload_n 0 dX0_owes_26 rfl rfl rfl ?_
    refine r_aload_n 3 dX0_owes_27 rfl rfl rfl ?_
    refine r_callV_1 dX0_owes_28 kX0_131 (X_finds (k := 1) (by exact hx) (by decide)) (gRecv.of hx.s21 rfl) rfl rfl (Nat.le_of_ble_eq_true rfl) ?_
    refine e_iret dX0_owes_31 rfl ?_
    exact RX.err hX.self (FrX.lg (by decide)) (by decide) (by decide) (by decide)
theorem X_owe {d : Nat} {h : Hp} {S : MSt} (hX : CX h S) (w : WF S.r) {a b v : Int32} : gC (d + 5) (0) (0) m_X0_owe [.ref 21, .int a, .int b, .int v] (h) (RX h (aOwe S a b v)) := by
  have e_0 : aOwe S a b v = (if twoB S.r a b = true then (if inB v (nI 0) (nI 99) = true then (S.r (47 + 8 * toN a + toN b), S.s_r (ru S.r (47 + 8 * toN a + toN b) v)) else errA S (-1000000001) 1) else errA S (-1000000001) 1) := rfl
  rw [e_0]
  have hn8 := w.n8
  have hx := hX.hx
  have hl := hX.hl
  have hb : 21 ≤ 23 ∧ 23 + 10 < 78 := by decide
  have hn : S.r 2 = nI (np S.r) := w.n
  have lw := hX.lw
  have Vr := w.V
  have K := w.K
  refine gC.ofH (ls := [some (.ref 21), some (.int a), some (.int b), some (.int v), none]) (by decide +kernel) rfl rfl rfl rfl (Nat.le_of_ble_eq_true rfl) ?_
  refine gG_h hX.lg ?_
  refine r_aload_n 0 dX0_owe_0 rfl rfl rfl ?_
  refine r_aload_n 0 dX0_owe_1 rfl rfl rfl ?_
  refine r_iload_n 1 dX0_owe_2 rfl rfl ?_
  refine r_iload_n 2 dX0_owe_3 rfl rfl ?_
  refine r_callV_1 dX0_owe_4 kX0_155 (X_areTwo (r := S.r) (a := a) (b := b) hx hl) (gRecv.of hx.s21 rfl) rfl rfl (Nat.le_of_ble_eq_true rfl) ?_
  refine r_if_eq 24 dX0_owe_7 (by decide) (fun c_7 => ?_) (fun c_7 => ?_)
  · skip
    have n_7 : (twoB S.r (a) (b)) = false := b2_f c_7
    first | rw [ifT n_7] | rw [ifF n_7] | skip
    refine r_iconst (v := nI 0) dX0_owe_24 rfl ?_
    refine r_iconst (v := nI 1) dX0_owe_25 rfl ?_
    refine r_need0 dX0_owe_26 rfl (by exact hx) (Nat.le_of_ble_eq_true rfl) ?_
    refine t_catch [] (0, 60, 61, 8) [] (hx).s22 rfl rfl (fun z hz => by cases hz) rfl (by decide) q126 q128 ?_
    refine r_astore dX0_owe_61 (by decide) rfl rfl ?_
    refine gG_ls (ls' := [_, _, _, _, _]) rfl ?_
    refine r_aload_n 0 dX0_owe_63 rfl rfl rfl ?_
    refine r_aload dX0_owe_64 rfl rfl ?_
    refine r_callV_1 dX0_owe_66 kX0_131 (X_finds (k := 1) (by exact hx) (by decide)) (gRecv.of hx.s21 rfl) rfl rfl (Nat.le_of_ble_eq_true rfl) ?_
    refine e_iret dX0_owe_69 rfl ?_
    exact RX.err hX.self (FrX.lg (by decide)) (by decide) (by decide) (by decide)
  · skip
    have n_7 : (twoB S.r (a) (b)) = true := b2_t c_7
    first | rw [ifT n_7] | rw [ifF n_7] | skip
    obtain ⟨i, j, h_i, h_j, rfl, rfl⟩ := two_of w n_7
    have e_i : toN (nI i) = i := toN_nI (by omega)
    have e_j : toN (nI j) = j := toN_nI (by omega)
    try simp only [e_i, e_j]
    refine r_iload_n 3 dX0_owe_10 rfl rfl ?_
    refine r_iconst (v := nI 0) dX0_owe_11 rfl ?_
    refine r_bipush (v := nI 99) dX0_owe_12 (by decide +kernel) ?_
    refine r_callS_1 dX0_owe_14 kX0_86 (X_in)  rfl rfl (Nat.le_of_ble_eq_true rfl) ?_
    refine r_if_eq 24 dX0_owe_17 (by decide) (fun c_17 => ?_) (fun c_17 => ?_)
    · skip
      have n_17 : (inB (v) (nI 0) (nI 99)) = false := b2_f c_17
      first | rw [ifT n_17] | rw [ifF n_17] | skip
      refine r_iconst (v := nI 0) dX0_owe_24 rfl ?_
      refine r_iconst (v := nI 1) dX0_owe_25 rfl ?_
      refine r_need0 dX0_owe_26 rfl (by exact hx) (Nat.le_of_ble_eq_true rfl) ?_
      refine t_catch [] (0, 60, 61, 8) [] (hx).s22 rfl rfl (fun z hz => by cases hz) rfl (by decide) q126 q128 ?_
      refine r_astore dX0_owe_61 (by decide) rfl rfl ?_
      refine gG_ls (ls' := [_, _, _, _, _]) rfl ?_
      refine r_aload_n 0 dX0_owe_63 rfl rfl rfl ?_
      refine r_aload dX0_owe_64 rfl rfl ?_
      refine r_callV_1 dX0_owe_66 kX0_131 (X_finds (k := 1) (by exact hx) (by decide)) (gRecv.of hx.s21 rfl) rfl rfl (Nat.le_of_ble_eq_true rfl) ?_
      refine e_iret dX0_owe_69 rfl ?_
      exact RX.err hX.self (FrX.lg (by decide)) (by decide) (by decide) (by decide)
    · skip
      have n_17 : (inB (v) (nI 0) (nI 99)) = true := b2_t c_17
      first | rw [ifT n_17] | rw [ifF n_17] | skip
      refine r_iconst (v := nI 1) dX0_owe_20 rfl ?_
      refine r_goto 25 dX0_owe_21 (by decide) ?_
      refine r_iconst (v := nI 1) dX0_owe_25 rfl ?_
      refine r_need1 dX0_owe_26 rfl (by exact hx) (Nat.le_of_ble_eq_true rfl) ?_
      refine r_aload_n 0 dX0_owe_29 rfl rfl rfl ?_
      refine r_getr (k := 1) (b := 23) dX0_owe_30 hx.s21 rfl (by decide) (Or.inl q306) (Or.inl rfl) rfl hx.r_land ?_
      refine r_getr (k := 5) (b := (23 + 5)) dX0_owe_33 hl.s0 rfl (by decide) (Or.inr ⟨_, q229⟩) (Or.inl rfl) rfl hl.r_owed ?_
      refine r_iload_n 1 dX0_owe_36 rfl rfl ?_
      refine r_iload_n 2 dX0_owe_37 rfl rfl ?_
      refine r_callS_1 dX0_owe_38 kX0_127 (L_place (i := i) (j := j))  rfl rfl (Nat.le_of_ble_eq_true rfl) ?_
      refine r_ialdN ((8 * i + j)) dX0_owe_41 hl.s5 rfl (by omega) (by decide) ?_
      refine r_eqi (show _ = (dv S.r i j) from LG_r5 (by omega) (by omega)) ?_
      refine r_istore dX0_owe_42 (by decide) rfl ?_
      refine gG_ls (ls' := [_, _, _, _, _]) rfl ?_
      refine r_aload_n 0 dX0_owe_44 rfl rfl rfl ?_
      refine r_getr (k := 1) (b := 23) dX0_owe_45 hx.s21 rfl (by decide) (Or.inl q306) (Or.inl rfl) rfl hx.r_land ?_
      refine r_getr (k := 5) (b := (23 + 5)) dX0_owe_48 hl.s0 rfl (by decide) (Or.inr ⟨_, q229⟩) (Or.inl rfl) rfl hl.r_owed ?_
      refine r_iload_n 1 dX0_owe_51 rfl rfl ?_
      refine r_iload_n 2 dX0_owe_52 rfl rfl ?_
      refine r_callS_1 dX0_owe_53 kX0_127 (L_place (i := i) (j := j))  rfl rfl (Nat.le_of_ble_eq_true rfl) ?_
      refine r_iload_n 3 dX0_owe_56 rfl rfl ?_
      refine r_iastN ((8 * i + j)) dX0_owe_57 hl.s5 rfl (by omega) (by decide) ?_
      refine gG_h (LG_w5 (by omega) (by omega)) ?_
      refine r_iload dX0_owe_58 rfl ?_
      refine e_iret dX0_owe_60 rfl ?_
      exact RX.same (hX.land (lw.rt (RT.dv (by omega) (by omega)))) (FrX.lg (by decide)) rfl rfl
theorem X_change {d : Nat} {h : Hp} {S : MSt} (hX : CX h S) (w : WF S.r) {p q v : Int32} : gC (d + 5) (0) (0) m_X0_change [.ref 21, .int p, .int q, .int v] (h) (RX h (aChange S p q v)) := by
  have e_0 : aChange S p q v = (if inB p 0 (S.r 2 - 1) = true then (if chgB q v = true then (S.r (7 + 5 * toN p + 2 + toN q), S.s_r (ru S.r (7 + 5 * toN p + 2 + toN q) v)) else errA S (-1000000001) 1) else errA S (-1000000001) 1) := rfl
  rw [e_0]
  have hn8 := w.n8
  have hx := hX.hx
  have hl := hX.hl
  have hb : 21 ≤ 23 ∧ 23 + 10 < 78 := by decide
  have hn : S.r 2 = nI (np S.r) := w.n
  have lw := hX.lw
  have Vr := w.V
  have K := w.K
  refine gC.ofH (ls := [some (.ref 21), some (.int p), some (.int q), some (.int v), none, none]) (by decide +kernel) rfl rfl rfl rfl (Nat.le_of_ble_eq_true rfl) ?_
  refine gG_h hX.lg ?_
  refine r_aload_n 0 dX0_change_0 rfl rfl rfl ?_
  refine r_aload_n 0 dX0_change_1 rfl rfl rfl ?_
  refine r_iload_n 1 dX0_change_2 rfl rfl ?_
  refine r_callV_1 dX0_change_3 kX0_103 (X_isPerson (r := S.r) hx hl) (gRecv.of hx.s21 rfl) rfl rfl (Nat.le_of_ble_eq_true rfl) ?_
  refine r_if_eq 52 dX0_change_6 (by decide) (fun c_6 => ?_) (fun c_6 => ?_)
  · skip
    have n_6 : (inB (p) 0 (S.r 2 - 1)) = false := b2_f c_6
    first | rw [ifT n_6] | rw [ifF n_6] | skip
    refine r_iconst (v := nI 0) dX0_change_52 rfl ?_
    refine r_iconst (v := nI 1) dX0_change_53 rfl ?_
    refine r_need0 dX0_change_54 rfl (by exact hx) (Nat.le_of_ble_eq_true rfl) ?_
    refine t_catch [] (0, 108, 109, 8) [] (hx).s22 rfl rfl (fun z hz => by cases hz) rfl (by decide) q126 q128 ?_
    refine r_astore dX0_change_109 (by decide) rfl rfl ?_
    refine gG_ls (ls' := [_, _, _, _, _, _]) rfl ?_
    refine r_aload_n 0 dX0_change_111 rfl rfl rfl ?_
    refine r_aload dX0_change_112 rfl rfl ?_
    refine r_callV_1 dX0_change_114 kX0_131 (X_finds (k := 1) (by exact hx) (by decide)) (gRecv.of hx.s21 rfl) rfl rfl (Nat.le_of_ble_eq_true rfl) ?_
    refine e_iret dX0_change_117 rfl ?_
    exact RX.err hX.self (FrX.lg (by decide)) (by decide) (by decide) (by decide)
  · skip
    have n_6 : (inB (p) 0 (S.r 2 - 1)) = true := b2_t c_6
    first | rw [ifT n_6] | rw [ifF n_6] | skip
    obtain ⟨k, h_k, rfl⟩ := one_of w n_6
    have e_k : toN (nI k) = k := toN_nI (by omega)
    try simp only [e_k]
    refine r_iload_n 2 dX0_change_9 rfl rfl ?_
    refine r_iconst (v := nI 0) dX0_change_10 rfl ?_
    refine r_iconst (v := nI 2) dX0_change_11 rfl ?_
    refine r_callS_1 dX0_change_12 kX0_86 (X_in)  rfl rfl (Nat.le_of_ble_eq_true rfl) ?_
    refine r_if_eq 52 dX0_change_15 (by decide) (fun c_15 => ?_) (fun c_15 => ?_)
    · skip
      have n_15 : (inB (q) (nI 0) (nI 2)) = false := b2_f c_15
      first | rw [ifT n_15] | rw [ifF n_15] | skip
      rw [ifF (chgB_no n_15)]
      refine r_iconst (v := nI 0) dX0_change_52 rfl ?_
      refine r_iconst (v := nI 1) dX0_change_53 rfl ?_
      refine r_need0 dX0_change_54 rfl (by exact hx) (Nat.le_of_ble_eq_true rfl) ?_
      refine t_catch [] (0, 108, 109, 8) [] (hx).s22 rfl rfl (fun z hz => by cases hz) rfl (by decide) q126 q128 ?_
      refine r_astore dX0_change_109 (by decide) rfl rfl ?_
      refine gG_ls (ls' := [_, _, _, _, _, _]) rfl ?_
      refine r_aload_n 0 dX0_change_111 rfl rfl rfl ?_
      refine r_aload dX0_change_112 rfl rfl ?_
      refine r_callV_1 dX0_change_114 kX0_131 (X_finds (k := 1) (by exact hx) (by decide)) (gRecv.of hx.s21 rfl) rfl rfl (Nat.le_of_ble_eq_true rfl) ?_
      refine e_iret dX0_change_117 rfl ?_
      exact RX.err hX.self (FrX.lg (by decide)) (by decide) (by decide) (by decide)
    · skip
      have n_15 : (inB (q) (nI 0) (nI 2)) = true := b2_t c_15
      first | rw [ifT n_15] | rw [ifF n_15] | skip
      obtain ⟨c, h_c, rfl⟩ := inB_n (by decide) n_15
      have e_c : toN (nI c) = c := toN_nI (by omega)
      try simp only [e_c]
      rcases (show c = 0 ∨ c = 1 ∨ c = 2 by omega) with rfl | rfl | rfl
      · skip
        have hcg : chgB (nI 0) v = inB v (nI 0) (nI 15) := by unfold chgB; rw [iP (by decide)]
        refine r_iload_n 3 dX0_change_18 rfl rfl ?_
        refine r_iconst (v := nI 0) dX0_change_19 rfl ?_
        refine r_iload_n 2 dX0_change_20 rfl rfl ?_
        refine r_if_ne 29 dX0_change_21 (by decide) (fun c_21 => ?_) (fun c_21 => ?_)
        · skip
          have n_21 : ¬ 0 = 0 := n_ne0 (by omega) c_21
          exact absurd n_21 (by decide)
        · skip
          have n_21 : 0 = 0 := n_eq0 (by omega) c_21
          first | rw [iP n_21] | rw [iN n_21] | rw [iN (Nat.not_lt.mpr n_21)] | rw [iN (Nat.not_le.mpr n_21)] | skip
          refine r_bipush (v := nI 15) dX0_change_24 (by decide +kernel) ?_
          refine r_goto 42 dX0_change_26 (by decide) ?_
          refine r_callS_1 dX0_change_42 kX0_86 (X_in)  rfl rfl (Nat.le_of_ble_eq_true rfl) ?_
          refine r_if_eq 52 dX0_change_45 (by decide) (fun c_45 => ?_) (fun c_45 => ?_)
          · skip
            have n_45 : (inB (v) (nI 0) (nI 15)) = false := b2_f c_45
            first | rw [ifT n_45] | rw [ifF n_45] | skip
            rw [ifF (hcg.trans n_45)]
            refine r_iconst (v := nI 0) dX0_change_52 rfl ?_
            refine r_iconst (v := nI 1) dX0_change_53 rfl ?_
            refine r_need0 dX0_change_54 rfl (by exact hx) (Nat.le_of_ble_eq_true rfl) ?_
            refine t_catch [] (0, 108, 109, 8) [] (hx).s22 rfl rfl (fun z hz => by cases hz) rfl (by decide) q126 q128 ?_
            refine r_astore dX0_change_109 (by decide) rfl rfl ?_
            refine gG_ls (ls' := [_, _, _, _, _, _]) rfl ?_
            refine r_aload_n 0 dX0_change_111 rfl rfl rfl ?_
            refine r_aload dX0_change_112 rfl rfl ?_
            refine r_callV_1 dX0_change_114 kX0_131 (X_finds (k := 1) (by exact hx) (by decide)) (gRecv.of hx.s21 rfl) rfl rfl (Nat.le_of_ble_eq_true rfl) ?_
            refine e_iret dX0_change_117 rfl ?_
            exact RX.err hX.self (FrX.lg (by decide)) (by decide) (by decide) (by decide)
          · skip
            have n_45 : (inB (v) (nI 0) (nI 15)) = true := b2_t c_45
            first | rw [ifT n_45] | rw [ifF n_45] | skip
            rw [ifT (hcg.trans n_45)]
            refine r_iconst (v := nI 1) dX0_change_48 rfl ?_
            refine r_goto 53 dX0_change_49 (by decide) ?_
            refine r_iconst (v := nI 1) dX0_change_53 rfl ?_
            refine r_need1 dX0_change_54 rfl (by exact hx) (Nat.le_of_ble_eq_true rfl) ?_
            refine r_iload_n 2 dX0_change_57 rfl rfl ?_
            refine r_if_ne 71 dX0_change_58 (by decide) (fun c_58 => ?_) (fun c_58 => ?_)
            · skip
              have n_58 : ¬ 0 = 0 := n_ne0 (by omega) c_58
              exact absurd n_58 (by decide)
            · skip
              have n_58 : 0 = 0 := n_eq0 (by omega) c_58
              first | rw [iP n_58] | rw [iN n_58] | rw [iN (Nat.not_lt.mpr n_58)] | rw [iN (Nat.not_le.mpr n_58)] | skip
              refine r_aload_n 0 dX0_change_61 rfl rfl rfl ?_
              refine r_getr (k := 1) (b := 23) dX0_change_62 hx.s21 rfl (by decide) (Or.inl q306) (Or.inl rfl) rfl hx.r_land ?_
              refine r_getr (k := 2) (b := (23 + 2)) dX0_change_65 hl.s0 rfl (by decide) (Or.inr ⟨_, q223⟩) (Or.inl rfl) rfl hl.r_traits ?_
              refine r_goto 93 dX0_change_68 (by decide) ?_
              refine r_astore dX0_change_93 (by decide) rfl rfl ?_
              refine gG_ls (ls' := [_, _, _, _, _, _]) rfl ?_
              refine r_aload dX0_change_95 rfl rfl ?_
              refine r_iload_n 1 dX0_change_97 rfl rfl ?_
              refine r_ialdN (k) dX0_change_98 hl.s2 rfl (by omega) (by decide) ?_
              refine r_eqi (show _ = (pv S.r k 2) from LG_r2 (by omega)) ?_
              refine r_istore dX0_change_99 (by decide) rfl ?_
              refine gG_ls (ls' := [_, _, _, _, _, _]) rfl ?_
              refine r_aload dX0_change_101 rfl rfl ?_
              refine r_iload_n 1 dX0_change_103 rfl rfl ?_
              refine r_iload_n 3 dX0_change_104 rfl rfl ?_
              refine r_iastN (k) dX0_change_105 hl.s2 rfl (by omega) (by decide) ?_
              refine gG_h (LG_w2 (by omega)) ?_
              refine r_iload dX0_change_106 rfl ?_
              refine e_iret dX0_change_108 rfl ?_
              exact RX.same (hX.land (lw.rt (RT.tr (by omega)))) (FrX.lg (by decide)) rfl rfl
      · skip
        have hcg : chgB (nI 1) v = inB v (nI 0) (nI 999) := by unfold chgB; rw [iN (by decide), iP rfl]
        refine r_iload_n 3 dX0_change_18 rfl rfl ?_
        refine r_iconst (v := nI 0) dX0_change_19 rfl ?_
        refine r_iload_n 2 dX0_change_20 rfl rfl ?_
        refine r_if_ne 29 dX0_change_21 (by decide) (fun c_21 => ?_) (fun c_21 => ?_)
        · skip
          have n_21 : ¬ 1 = 0 := n_ne0 (by omega) c_21
          first | rw [iP n_21] | rw [iN n_21] | rw [iN (Nat.not_lt.mpr n_21)] | rw [iN (Nat.not_le.mpr n_21)] | skip
          refine r_iload_n 2 dX0_change_29 rfl rfl ?_
          refine r_iconst (v := nI 1) dX0_change_30 rfl ?_
          refine r_icmp_ne 40 dX0_change_31 (by decide) (fun c_31 => ?_) (fun c_31 => ?_)
          · skip
            have n_31 : ¬ 1 = 1 := n_ne (by omega) (by omega) c_31
            exact absurd n_31 (by decide)
          · skip
            have n_31 : 1 = 1 := n_nen (by omega) (by omega) c_31
            first | rw [iP n_31] | rw [iN n_31] | rw [iN (Nat.not_lt.mpr n_31)] | rw [iN (Nat.not_le.mpr n_31)] | skip
            refine r_sipush (v := nI 999) dX0_change_34 (by decide +kernel) ?_
            refine r_goto 42 dX0_change_37 (by decide) ?_
            refine r_callS_1 dX0_change_42 kX0_86 (X_in)  rfl rfl (Nat.le_of_ble_eq_true rfl) ?_
            refine r_if_eq 52 dX0_change_45 (by decide) (fun c_45 => ?_) (fun c_45 => ?_)
            · skip
              have n_45 : (inB (v) (nI 0) (nI 999)) = false := b2_f c_45
              first | rw [ifT n_45] | rw [ifF n_45] | skip
              rw [ifF (hcg.trans n_45)]
              refine r_iconst (v := nI 0) dX0_change_52 rfl ?_
              refine r_iconst (v := nI 1) dX0_change_53 rfl ?_
              refine r_need0 dX0_change_54 rfl (by exact hx) (Nat.le_of_ble_eq_true rfl) ?_
              refine t_catch [] (0, 108, 109, 8) [] (hx).s22 rfl rfl (fun z hz => by cases hz) rfl (by decide) q126 q128 ?_
              refine r_astore dX0_change_109 (by decide) rfl rfl ?_
              refine gG_ls (ls' := [_, _, _, _, _, _]) rfl ?_
              refine r_aload_n 0 dX0_change_111 rfl rfl rfl ?_
              refine r_aload dX0_change_112 rfl rfl ?_
              refine r_callV_1 dX0_change_114 kX0_131 (X_finds (k := 1) (by exact hx) (by decide)) (gRecv.of hx.s21 rfl) rfl rfl (Nat.le_of_ble_eq_true rfl) ?_
              refine e_iret dX0_change_117 rfl ?_
              exact RX.err hX.self (FrX.lg (by decide)) (by decide) (by decide) (by decide)
            · skip
              have n_45 : (inB (v) (nI 0) (nI 999)) = true := b2_t c_45
              first | rw [ifT n_45] | rw [ifF n_45] | skip
              rw [ifT (hcg.trans n_45)]
              refine r_iconst (v := nI 1) dX0_change_48 rfl ?_
              refine r_goto 53 dX0_change_49 (by decide) ?_
              refine r_iconst (v := nI 1) dX0_change_53 rfl ?_
              refine r_need1 dX0_change_54 rfl (by exact hx) (Nat.le_of_ble_eq_true rfl) ?_
              refine r_iload_n 2 dX0_change_57 rfl rfl ?_
              refine r_if_ne 71 dX0_change_58 (by decide) (fun c_58 => ?_) (fun c_58 => ?_)
              · skip
                have n_58 : ¬ 1 = 0 := n_ne0 (by omega) c_58
                first | rw [iP n_58] | rw [iN n_58] | rw [iN (Nat.not_lt.mpr n_58)] | rw [iN (Nat.not_le.mpr n_58)] | skip
                refine r_iload_n 2 dX0_change_71 rfl rfl ?_
                refine r_iconst (v := nI 1) dX0_change_72 rfl ?_
                refine r_icmp_ne 86 dX0_change_73 (by decide) (fun c_73 => ?_) (fun c_73 => ?_)
                · skip
                  have n_73 : ¬ 1 = 1 := n_ne (by omega) (by omega) c_73
                  exact absurd n_73 (by decide)
                · skip
                  have n_73 : 1 = 1 := n_nen (by omega) (by omega) c_73
                  first | rw [iP n_73] | rw [iN n_73] | rw [iN (Nat.not_lt.mpr n_73)] | rw [iN (Nat.not_le.mpr n_73)] | skip
                  refine r_aload_n 0 dX0_change_76 rfl rfl rfl ?_
                  refine r_getr (k := 1) (b := 23) dX0_change_77 hx.s21 rfl (by decide) (Or.inl q306) (Or.inl rfl) rfl hx.r_land ?_
                  refine r_getr (k := 3) (b := (23 + 3)) dX0_change_80 hl.s0 rfl (by decide) (Or.inr ⟨_, q225⟩) (Or.inl rfl) rfl hl.r_water ?_
                  refine r_goto 93 dX0_change_83 (by decide) ?_
                  refine r_astore dX0_change_93 (by decide) rfl rfl ?_
                  refine gG_ls (ls' := [_, _, _, _, _, _]) rfl ?_
                  refine r_aload dX0_change_95 rfl rfl ?_
                  refine r_iload_n 1 dX0_change_97 rfl rfl ?_
                  refine r_ialdN (k) dX0_change_98 hl.s3 rfl (by omega) (by decide) ?_
                  refine r_eqi (show _ = (pv S.r k 3) from LG_r3 (by omega)) ?_
                  refine r_istore dX0_change_99 (by decide) rfl ?_
                  refine gG_ls (ls' := [_, _, _, _, _, _]) rfl ?_
                  refine r_aload dX0_change_101 rfl rfl ?_
                  refine r_iload_n 1 dX0_change_103 rfl rfl ?_
                  refine r_iload_n 3 dX0_change_104 rfl rfl ?_
                  refine r_iastN (k) dX0_change_105 hl.s3 rfl (by omega) (by decide) ?_
                  refine gG_h (LG_w3 (by omega)) ?_
                  refine r_iload dX0_change_106 rfl ?_
                  refine e_iret dX0_change_108 rfl ?_
                  exact RX.same (hX.land (lw.rt (RT.of (RS.spv (by omega) (Or.inl rfl))))) (FrX.lg (by decide)) rfl rfl
              · skip
                have n_58 : 1 = 0 := n_eq0 (by omega) c_58
                exact absurd n_58 (by decide)
        · skip
          have n_21 : 1 = 0 := n_eq0 (by omega) c_21
          exact absurd n_21 (by decide)
      · skip
        have hcg : chgB (nI 2) v = inB v (nI 0) (nI 99) := by unfold chgB; rw [iN (by decide), iN (by decide), iP rfl]
        refine r_iload_n 3 dX0_change_18 rfl rfl ?_
        refine r_iconst (v := nI 0) dX0_change_19 rfl ?_
        refine r_iload_n 2 dX0_change_20 rfl rfl ?_
        refine r_if_ne 29 dX0_change_21 (by decide) (fun c_21 => ?_) (fun c_21 => ?_)
        · skip
          have n_21 : ¬ 2 = 0 := n_ne0 (by omega) c_21
          first | rw [iP n_21] | rw [iN n_21] | rw [iN (Nat.not_lt.mpr n_21)] | rw [iN (Nat.not_le.mpr n_21)] | skip
          refine r_iload_n 2 dX0_change_29 rfl rfl ?_
          refine r_iconst (v := nI 1) dX0_change_30 rfl ?_
          refine r_icmp_ne 40 dX0_change_31 (by decide) (fun c_31 => ?_) (fun c_31 => ?_)
          · skip
            have n_31 : ¬ 2 = 1 := n_ne (by omega) (by omega) c_31
            first | rw [iP n_31] | rw [iN n_31] | rw [iN (Nat.not_lt.mpr n_31)] | rw [iN (Nat.not_le.mpr n_31)] | skip
            refine r_bipush (v := nI 99) dX0_change_40 (by decide +kernel) ?_
            refine r_callS_1 dX0_change_42 kX0_86 (X_in)  rfl rfl (Nat.le_of_ble_eq_true rfl) ?_
            refine r_if_eq 52 dX0_change_45 (by decide) (fun c_45 => ?_) (fun c_45 => ?_)
            · skip
              have n_45 : (inB (v) (nI 0) (nI 99)) = false := b2_f c_45
              first | rw [ifT n_45] | rw [ifF n_45] | skip
              rw [ifF (hcg.trans n_45)]
              refine r_iconst (v := nI 0) dX0_change_52 rfl ?_
              refine r_iconst (v := nI 1) dX0_change_53 rfl ?_
              refine r_need0 dX0_change_54 rfl (by exact hx) (Nat.le_of_ble_eq_true rfl) ?_
              refine t_catch [] (0, 108, 109, 8) [] (hx).s22 rfl rfl (fun z hz => by cases hz) rfl (by decide) q126 q128 ?_
              refine r_astore dX0_change_109 (by decide) rfl rfl ?_
              refine gG_ls (ls' := [_, _, _, _, _, _]) rfl ?_
              refine r_aload_n 0 dX0_change_111 rfl rfl rfl ?_
              refine r_aload dX0_change_112 rfl rfl ?_
              refine r_callV_1 dX0_change_114 kX0_131 (X_finds (k := 1) (by exact hx) (by decide)) (gRecv.of hx.s21 rfl) rfl rfl (Nat.le_of_ble_eq_true rfl) ?_
              refine e_iret dX0_change_117 rfl ?_
              exact RX.err hX.self (FrX.lg (by decide)) (by decide) (by decide) (by decide)
            · skip
              have n_45 : (inB (v) (nI 0) (nI 99)) = true := b2_t c_45
              first | rw [ifT n_45] | rw [ifF n_45] | skip
              rw [ifT (hcg.trans n_45)]
              refine r_iconst (v := nI 1) dX0_change_48 rfl ?_
              refine r_goto 53 dX0_change_49 (by decide) ?_
              refine r_iconst (v := nI 1) dX0_change_53 rfl ?_
              refine r_need1 dX0_change_54 rfl (by exact hx) (Nat.le_of_ble_eq_true rfl) ?_
              refine r_iload_n 2 dX0_change_57 rfl rfl ?_
              refine r_if_ne 71 dX0_change_58 (by decide) (fun c_58 => ?_) (fun c_58 => ?_)
              · skip
                have n_58 : ¬ 2 = 0 := n_ne0 (by omega) c_58
                first | rw [iP n_58] | rw [iN n_58] | rw [iN (Nat.not_lt.mpr n_58)] | rw [iN (Nat.not_le.mpr n_58)] | skip
                refine r_iload_n 2 dX0_change_71 rfl rfl ?_
                refine r_iconst (v := nI 1) dX0_change_72 rfl ?_
                refine r_icmp_ne 86 dX0_change_73 (by decide) (fun c_73 => ?_) (fun c_73 => ?_)
                · skip
                  have n_73 : ¬ 2 = 1 := n_ne (by omega) (by omega) c_73
                  first | rw [iP n_73] | rw [iN n_73] | rw [iN (Nat.not_lt.mpr n_73)] | rw [iN (Nat.not_le.mpr n_73)] | skip
                  refine r_aload_n 0 dX0_change_86 rfl rfl rfl ?_
                  refine r_getr (k := 1) (b := 23) dX0_change_87 hx.s21 rfl (by decide) (Or.inl q306) (Or.inl rfl) rfl hx.r_land ?_
                  refine r_getr (k := 4) (b := (23 + 4)) dX0_change_90 hl.s0 rfl (by decide) (Or.inr ⟨_, q227⟩) (Or.inl rfl) rfl hl.r_thirst ?_
                  refine r_astore dX0_change_93 (by decide) rfl rfl ?_
                  refine gG_ls (ls' := [_, _, _, _, _, _]) rfl ?_
                  refine r_aload dX0_change_95 rfl rfl ?_
                  refine r_iload_n 1 dX0_change_97 rfl rfl ?_
                  refine r_ialdN (k) dX0_change_98 hl.s4 rfl (by omega) (by decide) ?_
                  refine r_eqi (show _ = (pv S.r k 4) from LG_r4 (by omega)) ?_
                  refine r_istore dX0_change_99 (by decide) rfl ?_
                  refine gG_ls (ls' := [_, _, _, _, _, _]) rfl ?_
                  refine r_aload dX0_change_101 rfl rfl ?_
                  refine r_iload_n 1 dX0_change_103 rfl rfl ?_
                  refine r_iload_n 3 dX0_change_104 rfl rfl ?_
                  refine r_iastN (k) dX0_change_105 hl.s4 rfl (by omega) (by decide) ?_
                  refine gG_h (LG_w4 (by omega)) ?_
                  refine r_iload dX0_change_106 rfl ?_
                  refine e_iret dX0_change_108 rfl ?_
                  exact RX.same (hX.land (lw.rt (RT.of (RS.spv (by omega) (Or.inr rfl))))) (FrX.lg (by decide)) rfl rfl
                · skip
                  have n_73 : 2 = 1 := n_nen (by omega) (by omega) c_73
                  exact absurd n_73 (by decide)
              · skip
                have n_58 : 2 = 0 := n_eq0 (by omega) c_58
                exact absurd n_58 (by decide)
          · skip
            have n_31 : 2 = 1 := n_nen (by omega) (by omega) c_31
            exact absurd n_31 (by decide)
        · skip
          have n_21 : 2 = 0 := n_eq0 (by omega) c_21
          exact absurd n_21 (by decide)
theorem r_kind_X0_139 {d mc ms : Nat} {M : gM} {pc : Nat} {ls : gLs} {st : List Value} {h : Hp} {Q : gQ} {a p k : Nat} {m : Int32} (hM : mOwn M = RX0) (dc : decode (mC M) pc = .ok (.invokevirtual 139, 3)) (pa : PAt h a p k m) (hcat : (st.map fun v => v.category).sum ≤ 8) (kk : gG (d + 4) mc ms M (pc + 3) ls (.int (nI k) :: st) h Q) : gG (d + 4) mc ms M pc ls (.ref a :: st) h Q := by
  have h4 := pa.2.2.2.1
  rcases (show k = 0 ∨ k = 1 ∨ k = 2 ∨ k = 3 ∨ k = 4 ∨ k = 5 ∨ k = 6 by omega) with rfl | rfl | rfl | rfl | rfl | rfl | rfl
  · exact r_callV_1 dc (by rw [hM]; exact kX0_139_X7) (K_X7_kind_0 pa) (gRecv.pa pa rfl) rfl rfl hcat kk
  · exact r_callU_1 dc (by rw [hM]; exact kX0_139_X8) (K_X8_kind_1 pa) (gRecv.pa pa rfl) rfl rfl hcat kk
  · exact r_callU_1 dc (by rw [hM]; exact kX0_139_X9) (K_X9_kind_2 pa) (gRecv.pa pa rfl) rfl rfl hcat kk
  · exact r_callU_1 dc (by rw [hM]; exact kX0_139_X10) (K_X10_kind_3 pa) (gRecv.pa pa rfl) rfl rfl hcat kk
  · exact r_callU_1 dc (by rw [hM]; exact kX0_139_X11) (K_X11_kind_4 pa) (gRecv.pa pa rfl) rfl rfl hcat kk
  · exact r_callU_1 dc (by rw [hM]; exact kX0_139_X12) (K_X12_kind_5 pa) (gRecv.pa pa rfl) rfl rfl hcat kk
  · exact r_callU_1 dc (by rw [hM]; exact kX0_139_X13) (K_X13_kind_6 pa) (gRecv.pa pa rfl) rfl rfl hcat kk
theorem r_bucket_X0_146 {d mc ms : Nat} {M : gM} {pc : Nat} {ls : gLs} {st : List Value} {h : Hp} {Q : gQ} {a p k : Nat} {m : Int32} (hM : mOwn M = RX0) (dc : decode (mC M) pc = .ok (.invokevirtual 146, 3)) (pa : PAt h a p k m) (hcat : (st.map fun v => v.category).sum ≤ 8) (kk : gG (d + 4) mc ms M (pc + 3) ls (.int (fillV k m) :: st) h Q) : gG (d + 4) mc ms M pc ls (.ref a :: st) h Q := by
  have h4 := pa.2.2.2.1
  rcases (show k = 0 ∨ k = 1 ∨ k = 2 ∨ k = 3 ∨ k = 4 ∨ k = 5 ∨ k = 6 by omega) with rfl | rfl | rfl | rfl | rfl | rfl | rfl
  · exact r_callV_1 dc (by rw [hM]; exact kX0_146_X7) (K_X7_bucket_0 pa) (gRecv.pa pa rfl) rfl rfl hcat kk
  · exact r_callU_1 dc (by rw [hM]; exact kX0_146_X8) (K_X8_bucket_1 pa) (gRecv.pa pa rfl) rfl rfl hcat kk
  · exact r_callU_1 dc (by rw [hM]; exact kX0_146_X9) (K_X9_bucket_2 pa) (gRecv.pa pa rfl) rfl rfl hcat kk
  · exact r_callU_1 dc (by rw [hM]; exact kX0_146_X10) (K_X10_bucket_3 pa) (gRecv.pa pa rfl) rfl rfl hcat kk
  · exact r_callU_1 dc (by rw [hM]; exact kX0_146_X11) (K_X11_bucket_4 pa) (gRecv.pa pa rfl) rfl rfl hcat kk
  · exact r_callU_1 dc (by rw [hM]; exact kX0_146_X12) (K_X12_bucket_5 pa) (gRecv.pa pa rfl) rfl rfl hcat kk
  · exact r_callU_1 dc (by rw [hM]; exact kX0_146_X13) (K_X13_bucket_6 pa) (gRecv.pa pa rfl) rfl rfl hcat kk
theorem r_drinks_X0_149 {d mc ms : Nat} {M : gM} {pc : Nat} {ls : gLs} {st : List Value} {h : Hp} {Q : gQ} {a p k : Nat} {m : Int32} (hM : mOwn M = RX0) (dc : decode (mC M) pc = .ok (.invokevirtual 149, 3)) (pa : PAt h a p k m) (hcat : (st.map fun v => v.category).sum ≤ 8) (kk : gG (d + 4) mc ms M (pc + 3) ls (.int (drinkV k) :: st) h Q) : gG (d + 4) mc ms M pc ls (.ref a :: st) h Q := by
  have h4 := pa.2.2.2.1
  rcases (show k = 0 ∨ k = 1 ∨ k = 2 ∨ k = 3 ∨ k = 4 ∨ k = 5 ∨ k = 6 by omega) with rfl | rfl | rfl | rfl | rfl | rfl | rfl
  · exact r_callV_1 dc (by rw [hM]; exact kX0_149_X7) (K_X7_drinks_0 pa) (gRecv.pa pa rfl) rfl rfl hcat kk
  · exact r_callU_1 dc (by rw [hM]; exact kX0_149_X8) (K_X8_drinks_1 pa) (gRecv.pa pa rfl) rfl rfl hcat kk
  · exact r_callU_1 dc (by rw [hM]; exact kX0_149_X9) (K_X9_drinks_2 pa) (gRecv.pa pa rfl) rfl rfl hcat kk
  · exact r_callU_1 dc (by rw [hM]; exact kX0_149_X10) (K_X7_drinks_3 pa) (gRecv.pa pa rfl) rfl rfl hcat kk
  · exact r_callU_1 dc (by rw [hM]; exact kX0_149_X11) (K_X8_drinks_4 pa) (gRecv.pa pa rfl) rfl rfl hcat kk
  · exact r_callU_1 dc (by rw [hM]; exact kX0_149_X12) (K_X12_drinks_5 pa) (gRecv.pa pa rfl) rfl rfl hcat kk
  · exact r_callU_1 dc (by rw [hM]; exact kX0_149_X13) (K_X7_drinks_6 pa) (gRecv.pa pa rfl) rfl rfl hcat kk
theorem r_isOf_X0_159 {d mc ms : Nat} {M : gM} {pc : Nat} {ls : gLs} {st : List Value} {h : Hp} {Q : gQ} {a p k : Nat} {m : Int32} {q : Nat} (hq : q < 7) (hM : mOwn M = RX0) (dc : decode (mC M) pc = .ok (.invokevirtual 159, 3)) (pa : PAt h a p k m) (hcat : (st.map fun v => v.category).sum ≤ 8) (kk : gG (d + 4) mc ms M (pc + 3) ls (.int (b2 (isOfB k q)) :: st) h Q) : gG (d + 4) mc ms M pc ls (.int (nI q) :: .ref a :: st) h Q := by
  have h4 := pa.2.2.2.1
  rcases (show k = 0 ∨ k = 1 ∨ k = 2 ∨ k = 3 ∨ k = 4 ∨ k = 5 ∨ k = 6 by omega) with rfl | rfl | rfl | rfl | rfl | rfl | rfl
  · exact r_callV_1 dc (by rw [hM]; exact kX0_159_X7) (K_X7_isOf_0 hq pa) (gRecv.pa pa rfl) rfl rfl hcat kk
  · exact r_callU_1 dc (by rw [hM]; exact kX0_159_X8) (K_X8_isOf_1 hq pa) (gRecv.pa pa rfl) rfl rfl hcat kk
  · exact r_callU_1 dc (by rw [hM]; exact kX0_159_X9) (K_X9_isOf_2 hq pa) (gRecv.pa pa rfl) rfl rfl hcat kk
  · exact r_callU_1 dc (by rw [hM]; exact kX0_159_X10) (K_X10_isOf_3 hq pa) (gRecv.pa pa rfl) rfl rfl hcat kk
  · exact r_callU_1 dc (by rw [hM]; exact kX0_159_X11) (K_X11_isOf_4 hq pa) (gRecv.pa pa rfl) rfl rfl hcat kk
  · exact r_callU_1 dc (by rw [hM]; exact kX0_159_X12) (K_X12_isOf_5 hq pa) (gRecv.pa pa rfl) rfl rfl hcat kk
  · exact r_callU_1 dc (by rw [hM]; exact kX0_159_X13) (K_X13_isOf_6 hq pa) (gRecv.pa pa rfl) rfl rfl hcat kk
theorem X_ofPerson {d : Nat} {h : Hp} {S : MSt} (hX : CX h S) (w : WF S.r) {p v : Int32} : gC (d + 409) (0) (0) m_X0_ofPerson [.ref 21, .int p, .int v] (h) (RX h (aOfPerson S p v)) := by
  have e_0 : aOfPerson S p v = (if inB p 0 (S.r 2 - 1) = true then (if inB v (nI 0) (nI 7) = true then (ofV S.r (toN p) (toN v), S) else errA S (-1000000001) 1) else errA S (-1000000001) 1) := rfl
  rw [e_0]
  have hn8 := w.n8
  have hx := hX.hx
  have hl := hX.hl
  have hb : 21 ≤ 23 ∧ 23 + 10 < 78 := by decide
  have hn : S.r 2 = nI (np S.r) := w.n
  have lw := hX.lw
  have Vr := w.V
  have K := w.K
  refine gC.ofH (ls := [some (.ref 21), some (.int p), some (.int v), none]) (by decide +kernel) rfl rfl rfl rfl (Nat.le_of_ble_eq_true rfl) ?_
  refine gG_h hX.lg ?_
  refine r_aload_n 0 dX0_ofPerson_0 rfl rfl rfl ?_
  refine r_iload_n 1 dX0_ofPerson_1 rfl rfl ?_
  refine r_iload_n 2 dX0_ofPerson_2 rfl rfl ?_
  refine r_iconst (v := nI 0) dX0_ofPerson_3 rfl ?_
  refine r_bipush (v := nI 7) dX0_ofPerson_4 (by decide +kernel) ?_
  refine r_callS_1 dX0_ofPerson_6 kX0_86 (X_in)  rfl rfl (Nat.le_of_ble_eq_true rfl) ?_
  refine r_personAt dX0_ofPerson_9 kX0_135 (by exact hx) (by exact hl) lw w (Nat.le_of_ble_eq_true rfl) (fun k a q9 e_p h_k n_p n_c ha hq9 pa => ?_) (fun n_p => ?_) (fun n_p n_c => ?_)
  · skip
    rw [ifT n_p, ifT n_c]
    subst e_p
    have e_k : toN (nI k) = k := toN_nI (by omega)
    try simp only [e_k]
    have h79 := pa.2.2.2.1
    refine r_astore_n 3 dX0_ofPerson_12 rfl (by decide) rfl rfl ?_
    refine gG_ls (ls' := [_, _, _, _]) rfl ?_
    refine r_iload_n 2 dX0_ofPerson_13 rfl rfl ?_
    obtain ⟨c, h_c, rfl⟩ := inB_n (by decide) n_c
    have e_c : toN (nI c) = c := toN_nI (by omega)
    simp only [e_c]
    rcases (show c = 0 ∨ c = 1 ∨ c = 2 ∨ c = 3 ∨ c = 4 ∨ c = 5 ∨ c = 6 ∨ c = 7 by omega) with rfl | rfl | rfl | rfl | rfl | rfl | rfl | rfl
    · skip
      refine r_tabIn 56 (off := 42) dX0_ofPerson_14 (by decide) (by decide) (by decide +kernel) (by decide) ?_
      refine r_aload_n 3 dX0_ofPerson_56 rfl rfl rfl ?_
      refine r_kind_X0_139 rfl dX0_ofPerson_57 (pa.ext (LG_ext (by omega))) (Nat.le_of_ble_eq_true rfl) ?_
      refine e_iret dX0_ofPerson_60 rfl ?_
      exact RX.same hX.self (FrX.lg (by decide)) (hq9.symm) rfl
    · skip
      refine r_tabIn 61 (off := 47) dX0_ofPerson_14 (by decide) (by decide) (by decide +kernel) (by decide) ?_
      refine r_aload_n 3 dX0_ofPerson_61 rfl rfl rfl ?_
      refine r_One_m dX0_ofPerson_62 (Or.inl q385) (pa.ext (LG_ext (by omega))) ?_
      refine e_iret dX0_ofPerson_65 rfl ?_
      exact RX.same hX.self (FrX.lg (by decide)) (rfl) rfl
    · skip
      refine r_tabIn 66 (off := 52) dX0_ofPerson_14 (by decide) (by decide) (by decide +kernel) (by decide) ?_
      refine r_aload_n 0 dX0_ofPerson_66 rfl rfl rfl ?_
      refine r_getr (k := 1) (b := 23) dX0_ofPerson_67 hx.s21 rfl (by decide) (Or.inl q306) (Or.inl rfl) rfl hx.r_land ?_
      refine r_getr (k := 2) (b := (23 + 2)) dX0_ofPerson_70 hl.s0 rfl (by decide) (Or.inr ⟨_, q223⟩) (Or.inl rfl) rfl hl.r_traits ?_
      refine r_iload_n 1 dX0_ofPerson_73 rfl rfl ?_
      refine r_ialdN (k) dX0_ofPerson_74 hl.s2 rfl (by omega) (by decide) ?_
      refine r_eqi (show _ = (pv S.r k 2) from LG_r2 (by omega)) ?_
      refine e_iret dX0_ofPerson_75 rfl ?_
      exact RX.same hX.self (FrX.lg (by decide)) (rfl) rfl
    · skip
      refine r_tabIn 76 (off := 62) dX0_ofPerson_14 (by decide) (by decide) (by decide +kernel) (by decide) ?_
      refine r_aload_n 0 dX0_ofPerson_76 rfl rfl rfl ?_
      refine r_getr (k := 1) (b := 23) dX0_ofPerson_77 hx.s21 rfl (by decide) (Or.inl q306) (Or.inl rfl) rfl hx.r_land ?_
      refine r_getr (k := 3) (b := (23 + 3)) dX0_ofPerson_80 hl.s0 rfl (by decide) (Or.inr ⟨_, q225⟩) (Or.inl rfl) rfl hl.r_water ?_
      refine r_iload_n 1 dX0_ofPerson_83 rfl rfl ?_
      refine r_ialdN (k) dX0_ofPerson_84 hl.s3 rfl (by omega) (by decide) ?_
      refine r_eqi (show _ = (pv S.r k 3) from LG_r3 (by omega)) ?_
      refine e_iret dX0_ofPerson_85 rfl ?_
      exact RX.same hX.self (FrX.lg (by decide)) (rfl) rfl
    · skip
      refine r_tabIn 86 (off := 72) dX0_ofPerson_14 (by decide) (by decide) (by decide +kernel) (by decide) ?_
      refine r_aload_n 0 dX0_ofPerson_86 rfl rfl rfl ?_
      refine r_getr (k := 1) (b := 23) dX0_ofPerson_87 hx.s21 rfl (by decide) (Or.inl q306) (Or.inl rfl) rfl hx.r_land ?_
      refine r_getr (k := 4) (b := (23 + 4)) dX0_ofPerson_90 hl.s0 rfl (by decide) (Or.inr ⟨_, q227⟩) (Or.inl rfl) rfl hl.r_thirst ?_
      refine r_iload_n 1 dX0_ofPerson_93 rfl rfl ?_
      refine r_ialdN (k) dX0_ofPerson_94 hl.s4 rfl (by omega) (by decide) ?_
      refine r_eqi (show _ = (pv S.r k 4) from LG_r4 (by omega)) ?_
      refine e_iret dX0_ofPerson_95 rfl ?_
      exact RX.same hX.self (FrX.lg (by decide)) (rfl) rfl
    · skip
      refine r_tabIn 96 (off := 82) dX0_ofPerson_14 (by decide) (by decide) (by decide +kernel) (by decide) ?_
      refine r_aload_n 3 dX0_ofPerson_96 rfl rfl rfl ?_
      refine r_bucket_X0_146 rfl dX0_ofPerson_97 (pa.ext (LG_ext (by omega))) (Nat.le_of_ble_eq_true rfl) ?_
      refine e_iret dX0_ofPerson_100 rfl ?_
      exact RX.same hX.self (FrX.lg (by decide)) (by show fillV q9 _ = fillV (kindN S.r k) _; rw [kindN_of hq9 h79]) rfl
    · skip
      refine r_tabIn 101 (off := 87) dX0_ofPerson_14 (by decide) (by decide) (by decide +kernel) (by decide) ?_
      refine r_aload_n 3 dX0_ofPerson_101 rfl rfl rfl ?_
      refine r_drinks_X0_149 rfl dX0_ofPerson_102 (pa.ext (LG_ext (by omega))) (Nat.le_of_ble_eq_true rfl) ?_
      refine e_iret dX0_ofPerson_105 rfl ?_
      exact RX.same hX.self (FrX.lg (by decide)) (by show drinkV q9 = drinkV (kindN S.r k); rw [kindN_of hq9 h79]) rfl
    · skip
      refine r_tabOut 106 dX0_ofPerson_14 (by decide) (by decide) ?_
      refine r_aload_n 0 dX0_ofPerson_106 rfl rfl rfl ?_
      refine r_getr (k := 1) (b := 23) dX0_ofPerson_107 hx.s21 rfl (by decide) (Or.inl q306) (Or.inl rfl) rfl hx.r_land ?_
      refine r_iload_n 1 dX0_ofPerson_110 rfl rfl ?_
      refine r_callV_1l dX0_ofPerson_111 kX0_152 (L_isGivenNow (p := k) hl hb lw (by omega)) (gRecv.of hl.s0 rfl) rfl rfl (Nat.le_of_ble_eq_true rfl) (fun g_1 => ?_)
      refine r_if_eq 121 dX0_ofPerson_114 (by decide) (fun c_114 => ?_) (fun c_114 => ?_)
      · skip
        have n_114 : (givenB S.r k) = false := b2_f c_114
        refine r_iconst (v := nI 0) dX0_ofPerson_121 rfl ?_
        refine e_iret dX0_ofPerson_122 rfl ?_
        exact RX.same hX.self (FrX.lg (by decide)) (by show _ = b2 (givenB S.r k); rw [n_114]; rfl) rfl
      · skip
        have n_114 : (givenB S.r k) = true := b2_t c_114
        refine r_iconst (v := nI 1) dX0_ofPerson_117 rfl ?_
        refine r_goto 122 dX0_ofPerson_118 (by decide) ?_
        refine e_iret dX0_ofPerson_122 rfl ?_
        exact RX.same hX.self (FrX.lg (by decide)) (by show _ = b2 (givenB S.r k); rw [n_114]; rfl) rfl
  · skip
    rw [ifF n_p]
    refine t_catch [] (0, 60, 123, 8) [(61, 65, 123, 8), (66, 75, 123, 8), (76, 85, 123, 8), (86, 95, 123, 8), (96, 100, 123, 8), (101, 105, 123, 8), (106, 122, 123, 8)] (hx).s22 rfl rfl (fun z hz => by cases hz) rfl (by decide) q126 q128 ?_
    refine r_astore_n 3 dX0_ofPerson_123 rfl (by decide) rfl rfl ?_
    refine gG_ls (ls' := [_, _, _, _]) rfl ?_
    refine r_aload_n 0 dX0_ofPerson_124 rfl rfl rfl ?_
    refine r_aload_n 3 dX0_ofPerson_125 rfl rfl rfl ?_
    refine r_callV_1 dX0_ofPerson_126 kX0_131 (X_finds (k := 1) (by exact hx) (by decide)) (gRecv.of hx.s21 rfl) rfl rfl (Nat.le_of_ble_eq_true rfl) ?_
    refine e_iret dX0_ofPerson_129 rfl ?_
    exact RX.err hX.self (FrX.lg (by decide)) (by decide) (by decide) (by decide)
  · skip
    rw [ifT n_p, ifF n_c]
    refine t_catch [] (0, 60, 123, 8) [(61, 65, 123, 8), (66, 75, 123, 8), (76, 85, 123, 8), (86, 95, 123, 8), (96, 100, 123, 8), (101, 105, 123, 8), (106, 122, 123, 8)] (hx).s22 rfl rfl (fun z hz => by cases hz) rfl (by decide) q126 q128 ?_
    refine r_astore_n 3 dX0_ofPerson_123 rfl (by decide) rfl rfl ?_
    refine gG_ls (ls' := [_, _, _, _]) rfl ?_
    refine r_aload_n 0 dX0_ofPerson_124 rfl rfl rfl ?_
    refine r_aload_n 3 dX0_ofPerson_125 rfl rfl rfl ?_
    refine r_callV_1 dX0_ofPerson_126 kX0_131 (X_finds (k := 1) (by exact hx) (by decide)) (gRecv.of hx.s21 rfl) rfl rfl (Nat.le_of_ble_eq_true rfl) ?_
    refine e_iret dX0_ofPerson_129 rfl ?_
    exact RX.err hX.self (FrX.lg (by decide)) (by decide) (by decide) (by decide)
theorem X_as {d : Nat} {h : Hp} {S : MSt} (hX : CX h S) (w : WF S.r) {p v : Int32} : gC (d + 5) (0) (0) m_X0_as [.ref 21, .int p, .int v] (h) (RX h (aAs S p v)) := by
  have e_0 : aAs S p v = (if inB p 0 (S.r 2 - 1) = true then (if inB v (nI 0) (nI 6) = true then (if isOfB (kindN S.r (toN p)) (toN v) = true then (pv S.r (toN p) 1, S) else errA S (-1000000005) 5) else errA S (-1000000001) 1) else errA S (-1000000001) 1) := rfl
  rw [e_0]
  have hn8 := w.n8
  have hx := hX.hx
  have hl := hX.hl
  have hb : 21 ≤ 23 ∧ 23 + 10 < 78 := by decide
  have hn : S.r 2 = nI (np S.r) := w.n
  have lw := hX.lw
  have Vr := w.V
  have K := w.K
  refine gC.ofH (ls := [some (.ref 21), some (.int p), some (.int v), none]) (by decide +kernel) rfl rfl rfl rfl (Nat.le_of_ble_eq_true rfl) ?_
  refine gG_h hX.lg ?_
  refine r_aload_n 0 dX0_as_0 rfl rfl rfl ?_
  refine r_iload_n 1 dX0_as_1 rfl rfl ?_
  refine r_iload_n 2 dX0_as_2 rfl rfl ?_
  refine r_iconst (v := nI 0) dX0_as_3 rfl ?_
  refine r_bipush (v := nI 6) dX0_as_4 (by decide +kernel) ?_
  refine r_callS_1 dX0_as_6 kX0_86 (X_in)  rfl rfl (Nat.le_of_ble_eq_true rfl) ?_
  refine r_personAt dX0_as_9 kX0_135 (by exact hx) (by exact hl) lw w (Nat.le_of_ble_eq_true rfl) (fun k a q9 e_p h_k n_p n_c ha hq9 pa => ?_) (fun n_p => ?_) (fun n_p n_c => ?_)
  · skip
    rw [ifT n_p, ifT n_c]
    subst e_p
    have e_k : toN (nI k) = k := toN_nI (by omega)
    try simp only [e_k]
    have h79 := pa.2.2.2.1
    obtain ⟨c, h_c, rfl⟩ := inB_n (by decide) n_c
    have e_c : toN (nI c) = c := toN_nI (by omega)
    simp only [e_c]
    rw [kindN_of hq9 h79]
    refine r_astore_n 3 dX0_as_12 rfl (by decide) rfl rfl ?_
    refine gG_ls (ls' := [_, _, _, _]) rfl ?_
    refine r_aload_n 0 dX0_as_13 rfl rfl rfl ?_
    refine r_aload_n 3 dX0_as_14 rfl rfl rfl ?_
    refine r_iload_n 2 dX0_as_15 rfl rfl ?_
    refine r_isOf_X0_159 (by omega) rfl dX0_as_16 (pa.ext (LG_ext (by omega))) (Nat.le_of_ble_eq_true rfl) ?_
    refine r_iconst (v := nI 5) dX0_as_19 rfl ?_
    refine r_needB dX0_as_20 rfl (by exact hx) (Nat.le_of_ble_eq_true rfl) (fun n_20 => ?_) (fun n_20 => ?_)
    · skip
      first | rw [ifT n_20] | rw [ifF n_20] | skip
      refine r_aload_n 3 dX0_as_23 rfl rfl rfl ?_
      refine r_One_m dX0_as_24 (Or.inl q385) (pa.ext (LG_ext (by omega))) ?_
      refine e_iret dX0_as_27 rfl ?_
      exact RX.same hX.self (FrX.lg (by decide)) rfl rfl
    · skip
      first | rw [ifT n_20] | rw [ifF n_20] | skip
      refine t_catch [] (0, 27, 28, 8) [] (hx).s22 rfl rfl (fun z hz => by cases hz) rfl (by decide) q126 q128 ?_
      refine r_astore_n 3 dX0_as_28 rfl (by decide) rfl rfl ?_
      refine gG_ls (ls' := [_, _, _, _]) rfl ?_
      refine r_aload_n 0 dX0_as_29 rfl rfl rfl ?_
      refine r_aload_n 3 dX0_as_30 rfl rfl rfl ?_
      refine r_callV_1 dX0_as_31 kX0_131 (X_finds (k := 5) (by exact hx) (by decide)) (gRecv.of hx.s21 rfl) rfl rfl (Nat.le_of_ble_eq_true rfl) ?_
      refine e_iret dX0_as_34 rfl ?_
      exact RX.err hX.self (FrX.lg (by decide)) (by decide) (by decide) (by decide)
  · skip
    rw [ifF n_p]
    refine t_catch [] (0, 27, 28, 8) [] (hx).s22 rfl rfl (fun z hz => by cases hz) rfl (by decide) q126 q128 ?_
    refine r_astore_n 3 dX0_as_28 rfl (by decide) rfl rfl ?_
    refine gG_ls (ls' := [_, _, _, _]) rfl ?_
    refine r_aload_n 0 dX0_as_29 rfl rfl rfl ?_
    refine r_aload_n 3 dX0_as_30 rfl rfl rfl ?_
    refine r_callV_1 dX0_as_31 kX0_131 (X_finds (k := 1) (by exact hx) (by decide)) (gRecv.of hx.s21 rfl) rfl rfl (Nat.le_of_ble_eq_true rfl) ?_
    refine e_iret dX0_as_34 rfl ?_
    exact RX.err hX.self (FrX.lg (by decide)) (by decide) (by decide) (by decide)
  · skip
    rw [ifT n_p, ifF n_c]
    refine t_catch [] (0, 27, 28, 8) [] (hx).s22 rfl rfl (fun z hz => by cases hz) rfl (by decide) q126 q128 ?_
    refine r_astore_n 3 dX0_as_28 rfl (by decide) rfl rfl ?_
    refine gG_ls (ls' := [_, _, _, _]) rfl ?_
    refine r_aload_n 0 dX0_as_29 rfl rfl rfl ?_
    refine r_aload_n 3 dX0_as_30 rfl rfl rfl ?_
    refine r_callV_1 dX0_as_31 kX0_131 (X_finds (k := 1) (by exact hx) (by decide)) (gRecv.of hx.s21 rfl) rfl rfl (Nat.le_of_ble_eq_true rfl) ?_
    refine e_iret dX0_as_34 rfl ?_
    exact RX.err hX.self (FrX.lg (by decide)) (by decide) (by decide) (by decide)
theorem X_days {d : Nat} {h : Hp} {S : MSt} (hX : CX h S) (w : WF S.r) {c : Int32} : gC (d + 409) (0) (0) m_X0_days [.ref 21, .int c] (h) (RX h (aDays S c)) := by
  have e_0 : aDays S c = (if inB c (nI 1) (nI 60) = true then (if nI 9999 < S.r 0 + c then errA S (-1000000003) 3 else (sumW (passR S.r (-1) (toN c)) 3 (np S.r), S.s_r (passR S.r (-1) (toN c)))) else errA S (-1000000001) 1) := rfl
  rw [e_0]
  have hn8 := w.n8
  have hx := hX.hx
  have hl := hX.hl
  have hb : 21 ≤ 23 ∧ 23 + 10 < 78 := by decide
  have hn : S.r 2 = nI (np S.r) := w.n
  have lw := hX.lw
  have Vr := w.V
  have K := w.K
  refine gC.ofH (ls := [some (.ref 21), some (.int c), none]) (by decide +kernel) rfl rfl rfl rfl (Nat.le_of_ble_eq_true rfl) ?_
  refine gG_h hX.lg ?_
  refine r_aload_n 0 dX0_days_0 rfl rfl rfl ?_
  refine r_iload_n 1 dX0_days_1 rfl rfl ?_
  refine r_bipush (v := nI 60) dX0_days_2 (by decide +kernel) ?_
  refine r_mustGo dX0_days_4 kX0_200 (by exact hx) (by exact hl) (Nat.le_of_ble_eq_true rfl) (fun n_m c_m => ?_) (fun n_m => ?_) (fun n_m c_m => ?_)
  · skip
    rw [ifT n_m, iN c_m]
    obtain ⟨n, h_1, h_m, rfl⟩ := inB_p (by decide) n_m
    have e_n : toN (nI n) = n := toN_nI (by omega)
    rw [e_n]
    have hRS : RS S.r (passR S.r (-1) n) := passR_RS hn8 n
    refine r_aload_n 0 dX0_days_7 rfl rfl rfl ?_
    refine r_getr (k := 1) (b := 23) dX0_days_8 hx.s21 rfl (by decide) (Or.inl q306) (Or.inl rfl) rfl hx.r_land ?_
    refine r_iload_n 1 dX0_days_11 rfl rfl ?_
    refine r_callV_1l dX0_days_12 kX0_204 (L_goes (n := n) hl hb hn hn8 lw Vr K (by omega)) (gRecv.of hl.s0 rfl) rfl rfl (Nat.le_of_ble_eq_true rfl) (fun g_1 => ?_)
    refine r_callV_1 dX0_days_15 kX0_208 (L_allWater (r := passR S.r (-1) n) (t := -1) hl hb (by rw [hRS.npe]; exact hRS.two.trans hn) (by rw [hRS.npe]; exact hn8)) (gRecv.of hl.s0 rfl) rfl rfl (Nat.le_of_ble_eq_true rfl) ?_
    refine e_iret dX0_days_18 rfl ?_
    exact RX.same (hX.land (lw.rt (RT.of hRS))) (FrX.lg (by decide)) (by rw [hRS.npe]) rfl
  · skip
    rw [ifF n_m]
    refine t_catch [] (0, 18, 19, 8) [] (hx).s22 rfl rfl (fun z hz => by cases hz) rfl (by decide) q126 q128 ?_
    refine r_astore_n 2 dX0_days_19 rfl (by decide) rfl rfl ?_
    refine gG_ls (ls' := [_, _, _]) rfl ?_
    refine r_aload_n 0 dX0_days_20 rfl rfl rfl ?_
    refine r_aload_n 2 dX0_days_21 rfl rfl rfl ?_
    refine r_callV_1 dX0_days_22 kX0_131 (X_finds (k := 1) (by exact hx) (by decide)) (gRecv.of hx.s21 rfl) rfl rfl (Nat.le_of_ble_eq_true rfl) ?_
    refine e_iret dX0_days_25 rfl ?_
    exact RX.err hX.self (FrX.lg (by decide)) (by decide) (by decide) (by decide)
  · skip
    rw [ifT n_m, iP c_m]
    refine t_catch [] (0, 18, 19, 8) [] (hx).s22 rfl rfl (fun z hz => by cases hz) rfl (by decide) q126 q128 ?_
    refine r_astore_n 2 dX0_days_19 rfl (by decide) rfl rfl ?_
    refine gG_ls (ls' := [_, _, _]) rfl ?_
    refine r_aload_n 0 dX0_days_20 rfl rfl rfl ?_
    refine r_aload_n 2 dX0_days_21 rfl rfl rfl ?_
    refine r_callV_1 dX0_days_22 kX0_131 (X_finds (k := 3) (by exact hx) (by decide)) (gRecv.of hx.s21 rfl) rfl rfl (Nat.le_of_ble_eq_true rfl) ?_
    refine e_iret dX0_days_25 rfl ?_
    exact RX.err hX.self (FrX.lg (by decide)) (by decide) (by decide) (by decide)
theorem X_loose_L {d : Nat} {h : Hp} {S : MSt} (hX : CX h S) (w : WF S.r) {n : Nat} (hq : n ≤ 60) {Q : gQ} : ∀ (k i : Nat) (g : Row), i ≤ n → n + 1 ≤ i + k → (∀ g9 : Row, gG (d + 409) (0) (0) m_X0_loose 27 [some (.ref 21), some (.int (nI n)), some (.int (nI n))] [] (LG h 23 (looseR S.r n) (-1) g9) (Q)) → gG (d + 409) (0) (0) m_X0_loose 9 [some (.ref 21), some (.int (nI n)), some (.int (nI i))] [] (LG h 23 (looseR S.r i) (-1) g) (Q) := by
  intro k
  induction k with
  | zero => exact fun i g h1 h2 => absurd h2 (by omega)
  | succ k ih =>
  intro i g hi hk kk
  have hn8 := w.n8
  have hx := hX.hx
  have hl := hX.hl
  have hb : 21 ≤ 23 ∧ 23 + 10 < 78 := by decide
  have hn : S.r 2 = nI (np S.r) := w.n
  have lw := hX.lw
  have Vr := w.V
  have K := w.K
  have hT : RT S.r (looseR S.r i) := looseR_T hn8 i
  have hV := looseR_V Vr K hn8 i
  refine r_iload_n 2 dX0_loose_9 rfl rfl ?_
  refine r_iload_n 1 dX0_loose_10 rfl rfl ?_
  refine r_icmp_ge 27 dX0_loose_11 (by decide) (fun c_11 => ?_) (fun c_11 => ?_)
  · skip
    have n_11 : n ≤ i := n_ge (by omega) (by omega) c_11
    have hin : i = n := by omega
    subst hin
    exact kk _
  · skip
    have n_11 : i < n := n_gen (by omega) (by omega) c_11
    refine r_aload_n 0 dX0_loose_14 rfl rfl rfl ?_
    refine r_getr (k := 1) (b := 23) dX0_loose_15 hx.s21 rfl (by decide) (Or.inl q306) (Or.inl rfl) rfl hx.r_land ?_
    refine r_callV_0l dX0_loose_18 kX0_211 (L_goesLoose (r := looseR S.r i) hl hb (by rw [hT.npe]; exact hT.two.trans hn) (by rw [hT.npe]; exact hn8) (lw.rt hT) hV (hT.K K)) (gRecv.of hl.s0 rfl) rfl rfl (Nat.le_of_ble_eq_true rfl) (fun g_1 => ?_)
    rw [hT.npe]
    refine r_iinc dX0_loose_21 rfl (by decide) rfl ?_
    refine gG_ls (ls' := [_, _, some (.int (nI ((i + 1))))]) (by rw [show (Int32.ofInt 1) = nI 1 from rfl, nI_add]; rfl) ?_
    refine r_goto 9 dX0_loose_24 (by decide) ?_
    exact ih (i + 1) _ (by omega) (by omega) kk
theorem X_loose {d : Nat} {h : Hp} {S : MSt} (hX : CX h S) (w : WF S.r) {c : Int32} : gC (d + 409) (0) (0) m_X0_loose [.ref 21, .int c] (h) (RX h (aLoose S c)) := by
  have e_0 : aLoose S c = (if inB c (nI 1) (nI 40) = true then (if nI 9999 < S.r 0 + c then errA S (-1000000003) 3 else (sumW (looseR S.r (toN c)) 3 (np S.r), S.s_r (looseR S.r (toN c)))) else errA S (-1000000001) 1) := rfl
  rw [e_0]
  have hn8 := w.n8
  have hx := hX.hx
  have hl := hX.hl
  have hb : 21 ≤ 23 ∧ 23 + 10 < 78 := by decide
  have hn : S.r 2 = nI (np S.r) := w.n
  have lw := hX.lw
  have Vr := w.V
  have K := w.K
  refine gC.ofH (ls := [some (.ref 21), some (.int c), none]) (by decide +kernel) rfl rfl rfl rfl (Nat.le_of_ble_eq_true rfl) ?_
  refine gG_h hX.lg ?_
  refine r_aload_n 0 dX0_loose_0 rfl rfl rfl ?_
  refine r_iload_n 1 dX0_loose_1 rfl rfl ?_
  refine r_bipush (v := nI 40) dX0_loose_2 (by decide +kernel) ?_
  refine r_mustGo dX0_loose_4 kX0_200 (by exact hx) (by exact hl) (Nat.le_of_ble_eq_true rfl) (fun n_m c_m => ?_) (fun n_m => ?_) (fun n_m c_m => ?_)
  · skip
    rw [ifT n_m, iN c_m]
    obtain ⟨n, h_1, h_m, rfl⟩ := inB_p (by decide) n_m
    have e_n : toN (nI n) = n := toN_nI (by omega)
    rw [e_n]
    have hT : RT S.r (looseR S.r n) := looseR_T hn8 n
    refine r_iconst (v := nI 0) dX0_loose_7 rfl ?_
    refine r_istore_n 2 dX0_loose_8 rfl (by decide) rfl ?_
    refine gG_ls (ls' := [_, _, _]) rfl ?_
    refine X_loose_L hX w (by omega) (n + 1) 0 _ (by omega) (by omega) (fun g_9 => ?_)
    refine r_aload_n 0 dX0_loose_27 rfl rfl rfl ?_
    refine r_getr (k := 1) (b := 23) dX0_loose_28 hx.s21 rfl (by decide) (Or.inl q306) (Or.inl rfl) rfl hx.r_land ?_
    refine r_callV_1 dX0_loose_31 kX0_208 (L_allWater (r := looseR S.r n) (t := -1) hl hb (by rw [hT.npe]; exact hT.two.trans hn) (by rw [hT.npe]; exact hn8)) (gRecv.of hl.s0 rfl) rfl rfl (Nat.le_of_ble_eq_true rfl) ?_
    refine e_iret dX0_loose_34 rfl ?_
    exact RX.same (hX.land (lw.rt hT)) (FrX.lg (by decide)) (by rw [hT.npe]) rfl
  · skip
    rw [ifF n_m]
    refine t_catch [] (0, 34, 35, 8) [] (hx).s22 rfl rfl (fun z hz => by cases hz) rfl (by decide) q126 q128 ?_
    refine r_astore_n 2 dX0_loose_35 rfl (by decide) rfl rfl ?_
    refine gG_ls (ls' := [_, _, _]) rfl ?_
    refine r_aload_n 0 dX0_loose_36 rfl rfl rfl ?_
    refine r_aload_n 2 dX0_loose_37 rfl rfl rfl ?_
    refine r_callV_1 dX0_loose_38 kX0_131 (X_finds (k := 1) (by exact hx) (by decide)) (gRecv.of hx.s21 rfl) rfl rfl (Nat.le_of_ble_eq_true rfl) ?_
    refine e_iret dX0_loose_41 rfl ?_
    exact RX.err hX.self (FrX.lg (by decide)) (by decide) (by decide) (by decide)
  · skip
    rw [ifT n_m, iP c_m]
    refine t_catch [] (0, 34, 35, 8) [] (hx).s22 rfl rfl (fun z hz => by cases hz) rfl (by decide) q126 q128 ?_
    refine r_astore_n 2 dX0_loose_35 rfl (by decide) rfl rfl ?_
    refine gG_ls (ls' := [_, _, _]) rfl ?_
    refine r_aload_n 0 dX0_loose_36 rfl rfl rfl ?_
    refine r_aload_n 2 dX0_loose_37 rfl rfl rfl ?_
    refine r_callV_1 dX0_loose_38 kX0_131 (X_finds (k := 3) (by exact hx) (by decide)) (gRecv.of hx.s21 rfl) rfl rfl (Nat.le_of_ble_eq_true rfl) ?_
    refine e_iret dX0_loose_41 rfl ?_
    exact RX.err hX.self (FrX.lg (by decide)) (by decide) (by decide) (by decide)
theorem X_strike {d : Nat} {h : Hp} {S : MSt} (hX : CX h S) (w : WF S.r)  : gC (d + 6) (0) (0) m_X0_strike [.ref 21] (h) (RX h (aStrike S)) := by
  have e_0 : aStrike S = ((nI (stR S.r).2, S.s_r (stR S.r).1)) := rfl
  rw [e_0]
  have hn8 := w.n8
  have hx := hX.hx
  have hl := hX.hl
  have hb : 21 ≤ 23 ∧ 23 + 10 < 78 := by decide
  have hn : S.r 2 = nI (np S.r) := w.n
  have lw := hX.lw
  have Vr := w.V
  have K := w.K
  refine gC.of (ls := [some (.ref 21)]) (by decide +kernel) rfl rfl rfl rfl (Nat.le_of_ble_eq_true rfl) ?_
  refine gG_h hX.lg ?_
  refine r_aload_n 0 dX0_strike_0 rfl rfl rfl ?_
  refine r_getr (k := 1) (b := 23) dX0_strike_1 hx.s21 rfl (by decide) (Or.inl q306) (Or.inl rfl) rfl hx.r_land ?_
  refine r_callV_1l dX0_strike_4 kX0_214 (L_strikes (n := np S.r) hl hb hn hn8 w.D) (gRecv.of hl.s0 rfl) rfl rfl (Nat.le_of_ble_eq_true rfl) (fun g_1 => ?_)
  refine e_iret dX0_strike_7 rfl ?_
  exact RX.same (hX.land (lw.rt (RT.stk w.n8 w.D))) (FrX.lg (by decide)) rfl rfl
theorem X_net_L {d : Nat} {h : Hp} {S : MSt} (hX : CX h S) (w : WF S.r) {p : Nat} (hp : p < 8) {g : Row} {Q : gQ} : ∀ (k i : Nat), i ≤ np S.r → np S.r + 1 ≤ i + k → (gG (d + 3) (0) (0) m_X0_net 61 [some (.ref 21), some (.int (nI p)), some (.int (netV S.r p (np S.r))), some (.int (nI (np S.r)))] [] (LG h 23 S.r (-1) g) (Q)) → gG (d + 3) (0) (0) m_X0_net 14 [some (.ref 21), some (.int (nI p)), some (.int (netV S.r p i)), some (.int (nI i))] [] (LG h 23 S.r (-1) g) (Q) := by
  intro k
  induction k with
  | zero => exact fun i h1 h2 => absurd h2 (by omega)
  | succ k ih =>
  intro i hi hk kk
  have hn8 := w.n8
  have hx := hX.hx
  have hl := hX.hl
  have hb : 21 ≤ 23 ∧ 23 + 10 < 78 := by decide
  have hn : S.r 2 = nI (np S.r) := w.n
  have lw := hX.lw
  have Vr := w.V
  have K := w.K
  refine r_iload_n 3 dX0_net_14 rfl rfl ?_
  refine r_aload_n 0 dX0_net_15 rfl rfl rfl ?_
  refine r_getr (k := 1) (b := 23) dX0_net_16 hx.s21 rfl (by decide) (Or.inl q306) (Or.inl rfl) rfl hx.r_land ?_
  refine r_geti (k := 0) dX0_net_19 hl.s0 rfl (by decide) (Or.inr ⟨_, q219⟩) (Or.inl rfl) rfl ?_
  refine r_eqi (show _ = nI ((np S.r)) from ((LG_r0 (k := 0) (i := 2) rfl).trans hn)) ?_
  refine r_icmp_ge 61 dX0_net_22 (by decide) (fun c_22 => ?_) (fun c_22 => ?_)
  · skip
    have n_22 : (np S.r) ≤ i := n_ge (by omega) (by omega) c_22
    have hin : i = np S.r := by omega
    rw [hin]
    exact kk
  · skip
    have n_22 : i < (np S.r) := n_gen (by omega) (by omega) c_22
    refine r_iload_n 2 dX0_net_25 rfl rfl ?_
    refine r_aload_n 0 dX0_net_26 rfl rfl rfl ?_
    refine r_getr (k := 1) (b := 23) dX0_net_27 hx.s21 rfl (by decide) (Or.inl q306) (Or.inl rfl) rfl hx.r_land ?_
    refine r_getr (k := 5) (b := (23 + 5)) dX0_net_30 hl.s0 rfl (by decide) (Or.inr ⟨_, q229⟩) (Or.inl rfl) rfl hl.r_owed ?_
    refine r_iload_n 3 dX0_net_33 rfl rfl ?_
    refine r_iload_n 1 dX0_net_34 rfl rfl ?_
    refine r_callS_1 dX0_net_35 kX0_127 (L_place (i := i) (j := p))  rfl rfl (Nat.le_of_ble_eq_true rfl) ?_
    refine r_ialdN ((8 * i + p)) dX0_net_38 hl.s5 rfl (by omega) (by decide) ?_
    refine r_eqi (show _ = (dv S.r i p) from LG_r5 (by omega) (by omega)) ?_
    refine r_aload_n 0 dX0_net_39 rfl rfl rfl ?_
    refine r_getr (k := 1) (b := 23) dX0_net_40 hx.s21 rfl (by decide) (Or.inl q306) (Or.inl rfl) rfl hx.r_land ?_
    refine r_getr (k := 5) (b := (23 + 5)) dX0_net_43 hl.s0 rfl (by decide) (Or.inr ⟨_, q229⟩) (Or.inl rfl) rfl hl.r_owed ?_
    refine r_iload_n 1 dX0_net_46 rfl rfl ?_
    refine r_iload_n 3 dX0_net_47 rfl rfl ?_
    refine r_callS_1 dX0_net_48 kX0_127 (L_place (i := p) (j := i))  rfl rfl (Nat.le_of_ble_eq_true rfl) ?_
    refine r_ialdN ((8 * p + i)) dX0_net_51 hl.s5 rfl (by omega) (by decide) ?_
    refine r_eqi (show _ = (dv S.r p i) from LG_r5 (by omega) (by omega)) ?_
    refine r_isub dX0_net_52 ?_
    refine r_iadd dX0_net_53 ?_
    refine r_istore_n 2 dX0_net_54 rfl (by decide) rfl ?_
    refine gG_ls (ls' := [_, _, _, _]) rfl ?_
    refine r_iinc dX0_net_55 rfl (by decide) rfl ?_
    refine gG_ls (ls' := [_, _, _, some (.int (nI ((i + 1))))]) (by rw [show (Int32.ofInt 1) = nI 1 from rfl, nI_add]; rfl) ?_
    refine r_goto 14 dX0_net_58 (by decide) ?_
    exact ih (i + 1) (by omega) (by omega) kk
theorem X_net {d : Nat} {h : Hp} {S : MSt} (hX : CX h S) (w : WF S.r) {p : Int32} : gC (d + 5) (0) (0) m_X0_net [.ref 21, .int p] (h) (RX h (aNet S p)) := by
  have e_0 : aNet S p = (if inB p 0 (S.r 2 - 1) = true then (netV S.r (toN p) (np S.r), S) else errA S (-1000000001) 1) := rfl
  rw [e_0]
  have hn8 := w.n8
  have hx := hX.hx
  have hl := hX.hl
  have hb : 21 ≤ 23 ∧ 23 + 10 < 78 := by decide
  have hn : S.r 2 = nI (np S.r) := w.n
  have lw := hX.lw
  have Vr := w.V
  have K := w.K
  refine gC.ofH (ls := [some (.ref 21), some (.int p), none, none]) (by decide +kernel) rfl rfl rfl rfl (Nat.le_of_ble_eq_true rfl) ?_
  refine gG_h hX.lg ?_
  refine r_aload_n 0 dX0_net_0 rfl rfl rfl ?_
  refine r_aload_n 0 dX0_net_1 rfl rfl rfl ?_
  refine r_iload_n 1 dX0_net_2 rfl rfl ?_
  refine r_callV_1 dX0_net_3 kX0_103 (X_isPerson (r := S.r) hx hl) (gRecv.of hx.s21 rfl) rfl rfl (Nat.le_of_ble_eq_true rfl) ?_
  refine r_iconst (v := nI 1) dX0_net_6 rfl ?_
  refine r_needB dX0_net_7 rfl (by exact hx) (Nat.le_of_ble_eq_true rfl) (fun n_7 => ?_) (fun n_7 => ?_)
  · skip
    first | rw [ifT n_7] | rw [ifF n_7] | skip
    obtain ⟨k, h_k, rfl⟩ := one_of w n_7
    have e_k : toN (nI k) = k := toN_nI (by omega)
    try simp only [e_k]
    refine r_iconst (v := nI 0) dX0_net_10 rfl ?_
    refine r_istore_n 2 dX0_net_11 rfl (by decide) rfl ?_
    refine gG_ls (ls' := [_, _, _, _]) rfl ?_
    refine r_iconst (v := nI 0) dX0_net_12 rfl ?_
    refine r_istore_n 3 dX0_net_13 rfl (by decide) rfl ?_
    refine gG_ls (ls' := [_, _, _, _]) rfl ?_
    refine X_net_L hX w (by omega) (np S.r + 1) 0 (by omega) (by omega) ?_
    refine r_iload_n 2 dX0_net_61 rfl rfl ?_
    refine e_iret dX0_net_62 rfl ?_
    exact RX.same hX.self (FrX.lg (by decide)) rfl rfl
  · skip
    first | rw [ifT n_7] | rw [ifF n_7] | skip
    refine t_catch [] (0, 62, 63, 8) [] (hx).s22 rfl rfl (fun z hz => by cases hz) rfl (by decide) q126 q128 ?_
    refine r_astore_n 2 dX0_net_63 rfl (by decide) rfl rfl ?_
    refine gG_ls (ls' := [_, _, _, _]) rfl ?_
    refine r_aload_n 0 dX0_net_64 rfl rfl rfl ?_
    refine r_aload_n 2 dX0_net_65 rfl rfl rfl ?_
    refine r_callV_1 dX0_net_66 kX0_131 (X_finds (k := 1) (by exact hx) (by decide)) (gRecv.of hx.s21 rfl) rfl rfl (Nat.le_of_ble_eq_true rfl) ?_
    refine e_iret dX0_net_69 rfl ?_
    exact RX.err hX.self (FrX.lg (by decide)) (by decide) (by decide) (by decide)
theorem X_seed {d : Nat} {h : Hp} {S : MSt} (hX : CX h S) (w : WF S.r) {v : Int32} : gC (d + 3) (0) (0) m_X0_seed [.ref 21, .int v] (h) (RX h (aSeed S v)) := by
  have e_0 : aSeed S v = ((S.r 1, S.s_r (ru S.r 1 v))) := rfl
  rw [e_0]
  have hn8 := w.n8
  have hx := hX.hx
  have hl := hX.hl
  have hb : 21 ≤ 23 ∧ 23 + 10 < 78 := by decide
  have hn : S.r 2 = nI (np S.r) := w.n
  have lw := hX.lw
  have Vr := w.V
  have K := w.K
  refine gC.of (ls := [some (.ref 21), some (.int v), none]) (by decide +kernel) rfl rfl rfl rfl (Nat.le_of_ble_eq_true rfl) ?_
  refine gG_h hX.lg ?_
  refine r_aload_n 0 dX0_seed_0 rfl rfl rfl ?_
  refine r_getr (k := 1) (b := 23) dX0_seed_1 hx.s21 rfl (by decide) (Or.inl q306) (Or.inl rfl) rfl hx.r_land ?_
  refine r_geti (k := 9) dX0_seed_4 hl.s0 rfl (by decide) (Or.inr ⟨_, q237⟩) (Or.inl rfl) rfl ?_
  refine r_eqi (show _ = (S.r 1) from (LG_r0 (k := 9) (i := 1) rfl)) ?_
  refine r_istore_n 2 dX0_seed_7 rfl (by decide) rfl ?_
  refine gG_ls (ls' := [_, _, _]) rfl ?_
  refine r_aload_n 0 dX0_seed_8 rfl rfl rfl ?_
  refine r_getr (k := 1) (b := 23) dX0_seed_9 hx.s21 rfl (by decide) (Or.inl q306) (Or.inl rfl) rfl hx.r_land ?_
  refine r_iload_n 1 dX0_seed_12 rfl rfl ?_
  refine r_puti (k := 9) dX0_seed_13 hl.s0 rfl (by decide) (Or.inr ⟨_, q237⟩) (Or.inl rfl) (Or.inl rfl) rfl rfl rfl ?_
  refine gG_h (LG_w0 (k := 9) (i := 1) rfl) ?_
  refine r_iload_n 2 dX0_seed_16 rfl rfl ?_
  refine e_iret dX0_seed_17 rfl ?_
  exact RX.same (hX.land (lw.rt RT.z)) (FrX.lg (by decide)) rfl rfl
theorem X_trace {d : Nat} {h : Hp} {S : MSt} (hX : CX h S) (w : WF S.r) {v : Int32} {t : Nat} (h25 : S.many = nI t) (h40 : t ≤ 40) : gC (d + 5) (0) (0) m_X0_trace [.ref 21, .int v] (h) (RX h (aTrace S v)) := by
  have e_0 : aTrace S v = (if inB v (nI 0) (S.many - nI 1) = true then (S.traced (toN v), S) else errA S (-1000000002) 2) := rfl
  rw [e_0]
  have hn8 := w.n8
  have hx := hX.hx
  have hl := hX.hl
  have hb : 21 ≤ 23 ∧ 23 + 10 < 78 := by decide
  have hn : S.r 2 = nI (np S.r) := w.n
  have lw := hX.lw
  have Vr := w.V
  have K := w.K
  refine gC.ofH (ls := [some (.ref 21), some (.int v), none]) (by decide +kernel) rfl rfl rfl rfl (Nat.le_of_ble_eq_true rfl) ?_
  refine gG_h hX.lg ?_
  refine r_aload_n 0 dX0_trace_0 rfl rfl rfl ?_
  refine r_iload_n 1 dX0_trace_1 rfl rfl ?_
  refine r_iconst (v := nI 0) dX0_trace_2 rfl ?_
  refine r_aload_n 0 dX0_trace_3 rfl rfl rfl ?_
  refine r_getr (k := 5) (b := 56) dX0_trace_4 hx.s21 rfl (by decide) (Or.inl q310) (Or.inl rfl) rfl hx.r_trace ?_
  refine r_geti (k := 1) dX0_trace_7 hx.s56 rfl (by decide) (Or.inr ⟨_, q287⟩) (Or.inl rfl) rfl ?_
  refine r_eqi (show _ = S.many from hX.self.many) ?_
  refine r_iconst (v := nI 1) dX0_trace_10 rfl ?_
  refine r_isub dX0_trace_11 ?_
  refine r_callS_1 dX0_trace_12 kX0_86 (X_in)  rfl rfl (Nat.le_of_ble_eq_true rfl) ?_
  refine r_iconst (v := nI 2) dX0_trace_15 rfl ?_
  refine r_needB dX0_trace_16 rfl (by exact hx) (Nat.le_of_ble_eq_true rfl) (fun n_16 => ?_) (fun n_16 => ?_)
  · skip
    first | rw [ifT n_16] | rw [ifF n_16] | skip
    obtain ⟨k, h_k, rfl⟩ := inB_n1 (v := v) (n := t) (by omega) (show inB v 0 (nI t - 1) = true from by rw [← h25]; exact n_16)
    have e_k : toN (nI k) = k := toN_nI (by omega)
    try simp only [e_k]
    refine r_aload_n 0 dX0_trace_19 rfl rfl rfl ?_
    refine r_getr (k := 5) (b := 56) dX0_trace_20 hx.s21 rfl (by decide) (Or.inl q310) (Or.inl rfl) rfl hx.r_trace ?_
    refine r_getr (k := 0) (b := 57) dX0_trace_23 hx.s56 rfl (by decide) (Or.inr ⟨_, q285⟩) (Or.inl rfl) rfl hx.r_ran ?_
    refine r_iload_n 1 dX0_trace_26 rfl rfl ?_
    refine r_ialdN (k) dX0_trace_27 hx.s57 rfl (by omega) (by decide) ?_
    refine r_eqi (show _ = (S.traced k) from (hX.self.tr k (by omega))) ?_
    refine e_iret dX0_trace_28 rfl ?_
    exact RX.same hX.self (FrX.lg (by decide)) rfl rfl
  · skip
    first | rw [ifT n_16] | rw [ifF n_16] | skip
    refine t_catch [] (0, 28, 29, 8) [] (hx).s22 rfl rfl (fun z hz => by cases hz) rfl (by decide) q126 q128 ?_
    refine r_astore_n 2 dX0_trace_29 rfl (by decide) rfl rfl ?_
    refine gG_ls (ls' := [_, _, _]) rfl ?_
    refine r_aload_n 0 dX0_trace_30 rfl rfl rfl ?_
    refine r_aload_n 2 dX0_trace_31 rfl rfl rfl ?_
    refine r_callV_1 dX0_trace_32 kX0_131 (X_finds (k := 2) (by exact hx) (by decide)) (gRecv.of hx.s21 rfl) rfl rfl (Nat.le_of_ble_eq_true rfl) ?_
    refine e_iret dX0_trace_35 rfl ?_
    exact RX.err hX.self (FrX.lg (by decide)) (by decide) (by decide) (by decide)
theorem X_told {d : Nat} {h : Hp} {S : MSt} (hX : CX h S) (w : WF S.r) {v : Int32} : gC (d + 5) (0) (0) m_X0_told [.ref 21, .int v] (h) (RX h (aTold S v)) := by
  have e_0 : aTold S v = (if inB v (nI 1) (nI 5) = true then (S.found (toN v), S) else errA S (-1000000001) 1) := rfl
  rw [e_0]
  have hn8 := w.n8
  have hx := hX.hx
  have hl := hX.hl
  have hb : 21 ≤ 23 ∧ 23 + 10 < 78 := by decide
  have hn : S.r 2 = nI (np S.r) := w.n
  have lw := hX.lw
  have Vr := w.V
  have K := w.K
  refine gC.ofH (ls := [some (.ref 21), some (.int v), none]) (by decide +kernel) rfl rfl rfl rfl (Nat.le_of_ble_eq_true rfl) ?_
  refine gG_h hX.lg ?_
  refine r_aload_n 0 dX0_told_0 rfl rfl rfl ?_
  refine r_iload_n 1 dX0_told_1 rfl rfl ?_
  refine r_iconst (v := nI 1) dX0_told_2 rfl ?_
  refine r_iconst (v := nI 5) dX0_told_3 rfl ?_
  refine r_callS_1 dX0_told_4 kX0_86 (X_in)  rfl rfl (Nat.le_of_ble_eq_true rfl) ?_
  refine r_iconst (v := nI 1) dX0_told_7 rfl ?_
  refine r_needB dX0_told_8 rfl (by exact hx) (Nat.le_of_ble_eq_true rfl) (fun n_8 => ?_) (fun n_8 => ?_)
  · skip
    first | rw [ifT n_8] | rw [ifF n_8] | skip
    obtain ⟨k, h_1, h_m, rfl⟩ := inB_p (by decide) n_8
    have e_k : toN (nI k) = k := toN_nI (by omega)
    rw [e_k]
    refine r_aload_n 0 dX0_told_11 rfl rfl rfl ?_
    refine r_getr (k := 6) (b := 58) dX0_told_12 hx.s21 rfl (by decide) (Or.inl q311) (Or.inl rfl) rfl hx.r_errors ?_
    refine r_iload_n 1 dX0_told_15 rfl rfl ?_
    refine r_ialdN (k) dX0_told_16 hx.s58 rfl (by omega) (by decide) ?_
    refine r_eqi (show _ = (S.found k) from (hX.self.fnd k (by omega) (by omega))) ?_
    refine e_iret dX0_told_17 rfl ?_
    exact RX.same hX.self (FrX.lg (by decide)) rfl rfl
  · skip
    first | rw [ifT n_8] | rw [ifF n_8] | skip
    refine t_catch [] (0, 17, 18, 8) [] (hx).s22 rfl rfl (fun z hz => by cases hz) rfl (by decide) q126 q128 ?_
    refine r_astore_n 2 dX0_told_18 rfl (by decide) rfl rfl ?_
    refine gG_ls (ls' := [_, _, _]) rfl ?_
    refine r_aload_n 0 dX0_told_19 rfl rfl rfl ?_
    refine r_aload_n 2 dX0_told_20 rfl rfl rfl ?_
    refine r_callV_1 dX0_told_21 kX0_131 (X_finds (k := 1) (by exact hx) (by decide)) (gRecv.of hx.s21 rfl) rfl rfl (Nat.le_of_ble_eq_true rfl) ?_
    refine e_iret dX0_told_24 rfl ?_
    exact RX.err hX.self (FrX.lg (by decide)) (by decide) (by decide) (by decide)
theorem X_tell {d : Nat} {h : Hp} {S : MSt} (hX : CX h S) (w : WF S.r) {v : Int32} : gC (d + 5) (0) (0) m_X0_tell [.ref 21, .int v] (h) (RX h (aTell S v)) := by
  have e_0 : aTell S v = (if toN (S.r 4) = 20 then errA S (-1000000004) 4 else (nI (toN (S.r 4) + 1), S.s_r (ru (ru S.r (161 + toN (S.r 4)) v) 4 (nI (toN (S.r 4) + 1))))) := rfl
  rw [e_0]
  have hn8 := w.n8
  have hx := hX.hx
  have hl := hX.hl
  have hb : 21 ≤ 23 ∧ 23 + 10 < 78 := by decide
  have hn : S.r 2 = nI (np S.r) := w.n
  have lw := hX.lw
  have Vr := w.V
  have K := w.K
  obtain ⟨z, h4, hz⟩ := w.Z
  have e_z : toN (S.r 4) = z := by rw [h4]; exact toN_nI (by omega)
  rw [e_z]
  refine gC.ofH (ls := [some (.ref 21), some (.int v), none]) (by decide +kernel) rfl rfl rfl rfl (Nat.le_of_ble_eq_true rfl) ?_
  refine gG_h hX.lg ?_
  refine r_aload_n 0 dX0_tell_0 rfl rfl rfl ?_
  refine r_aload_n 0 dX0_tell_1 rfl rfl rfl ?_
  refine r_getr (k := 1) (b := 23) dX0_tell_2 hx.s21 rfl (by decide) (Or.inl q306) (Or.inl rfl) rfl hx.r_land ?_
  refine r_geti (k := 13) dX0_tell_5 hl.s0 rfl (by decide) (Or.inr ⟨_, q245⟩) (Or.inl rfl) rfl ?_
  refine r_eqi (show _ = nI (z) from ((LG_r0 (k := 13) (i := 4) rfl).trans h4)) ?_
  refine r_bipush (v := nI 20) dX0_tell_8 (by decide +kernel) ?_
  refine r_icmp_ge 17 dX0_tell_10 (by decide) (fun c_10 => ?_) (fun c_10 => ?_)
  · skip
    have n_10 : 20 ≤ z := n_ge (by omega) (by omega) c_10
    first | rw [iP n_10] | rw [iN n_10] | rw [iN (Nat.not_lt.mpr n_10)] | rw [iN (Nat.not_le.mpr n_10)] | skip
    rw [iP (show z = 20 by omega)]
    refine r_iconst (v := nI 0) dX0_tell_17 rfl ?_
    refine r_iconst (v := nI 4) dX0_tell_18 rfl ?_
    refine r_need0 dX0_tell_19 rfl (by exact hx) (Nat.le_of_ble_eq_true rfl) ?_
    refine t_catch [] (0, 58, 59, 8) [] (hx).s22 rfl rfl (fun z hz => by cases hz) rfl (by decide) q126 q128 ?_
    refine r_astore_n 2 dX0_tell_59 rfl (by decide) rfl rfl ?_
    refine gG_ls (ls' := [_, _, _]) rfl ?_
    refine r_aload_n 0 dX0_tell_60 rfl rfl rfl ?_
    refine r_aload_n 2 dX0_tell_61 rfl rfl rfl ?_
    refine r_callV_1 dX0_tell_62 kX0_131 (X_finds (k := 4) (by exact hx) (by decide)) (gRecv.of hx.s21 rfl) rfl rfl (Nat.le_of_ble_eq_true rfl) ?_
    refine e_iret dX0_tell_65 rfl ?_
    exact RX.err hX.self (FrX.lg (by decide)) (by decide) (by decide) (by decide)
  · skip
    have n_10 : z < 20 := n_gen (by omega) (by omega) c_10
    first | rw [iP n_10] | rw [iN n_10] | rw [iN (Nat.not_lt.mpr n_10)] | rw [iN (Nat.not_le.mpr n_10)] | skip
    rw [iN (show ¬ z = 20 by omega)]
    refine r_iconst (v := nI 1) dX0_tell_13 rfl ?_
    refine r_goto 18 dX0_tell_14 (by decide) ?_
    refine r_iconst (v := nI 4) dX0_tell_18 rfl ?_
    refine r_need1 dX0_tell_19 rfl (by exact hx) (Nat.le_of_ble_eq_true rfl) ?_
    refine r_aload_n 0 dX0_tell_22 rfl rfl rfl ?_
    refine r_getr (k := 1) (b := 23) dX0_tell_23 hx.s21 rfl (by decide) (Or.inl q306) (Or.inl rfl) rfl hx.r_land ?_
    refine r_getr (k := 12) (b := (23 + 8)) dX0_tell_26 hl.s0 rfl (by decide) (Or.inr ⟨_, q243⟩) (Or.inl rfl) rfl hl.r_waiting ?_
    refine r_aload_n 0 dX0_tell_29 rfl rfl rfl ?_
    refine r_getr (k := 1) (b := 23) dX0_tell_30 hx.s21 rfl (by decide) (Or.inl q306) (Or.inl rfl) rfl hx.r_land ?_
    refine r_geti (k := 13) dX0_tell_33 hl.s0 rfl (by decide) (Or.inr ⟨_, q245⟩) (Or.inl rfl) rfl ?_
    refine r_eqi (show _ = nI (z) from ((LG_r0 (k := 13) (i := 4) rfl).trans h4)) ?_
    refine r_iload_n 1 dX0_tell_36 rfl rfl ?_
    refine r_iastN (z) dX0_tell_37 hl.s8 rfl (by omega) (by decide) ?_
    refine gG_h (LG_w8 (by omega)) ?_
    refine r_aload_n 0 dX0_tell_38 rfl rfl rfl ?_
    refine r_getr (k := 1) (b := 23) dX0_tell_39 hx.s21 rfl (by decide) (Or.inl q306) (Or.inl rfl) rfl hx.r_land ?_
    refine r_dup dX0_tell_42 rfl ?_
    refine r_geti (k := 13) dX0_tell_43 hl.s0 rfl (by decide) (Or.inr ⟨_, q245⟩) (Or.inl rfl) rfl ?_
    refine r_eqi (show _ = nI (z) from ((LG_r0 (k := 13) (i := 4) rfl).trans ((ru_n (by omega)).trans h4))) ?_
    refine r_iconst (v := nI 1) dX0_tell_46 rfl ?_
    refine r_iadd dX0_tell_47 ?_
    refine r_eqi (show _ = nI (z + 1) from by simp only [pk_mul, nI_add]) ?_
    refine r_puti (k := 13) dX0_tell_48 hl.s0 rfl (by decide) (Or.inr ⟨_, q245⟩) (Or.inl rfl) (Or.inl rfl) rfl rfl rfl ?_
    refine gG_h (LG_w0 (k := 13) (i := 4) rfl) ?_
    refine r_aload_n 0 dX0_tell_51 rfl rfl rfl ?_
    refine r_getr (k := 1) (b := 23) dX0_tell_52 hx.s21 rfl (by decide) (Or.inl q306) (Or.inl rfl) rfl hx.r_land ?_
    refine r_geti (k := 13) dX0_tell_55 hl.s0 rfl (by decide) (Or.inr ⟨_, q245⟩) (Or.inl rfl) rfl ?_
    refine r_eqi (show _ = nI ((z + 1)) from ((LG_r0 (k := 13) (i := 4) rfl).trans (ru_s _ _ _))) ?_
    refine e_iret dX0_tell_58 rfl ?_
    exact RX.same (hX.land (lw.ru (RU.tell (by omega)))) (FrX.lg (by decide)) rfl rfl
