theorem X_then {d : Nat} {h : Hp} {S : MSt} (hX : CX h S) (w : WF S.r) {n p q : Int32} : gC (d + 409) (0) (0) m_X0_then [.ref 21, .int n, .int p, .int q] (h) (RX h (aThen S n p q)) := by
  have e_0 : aThen S n p q = (if inB n (nI 0) (nI 60) = true then (if inB p 0 (S.r 2 - 1) = true then (if inB q (nI 0) (nI 1) = true then (pv (passR S.r (-1) (toN n)) (toN p) (3 + toN q), S) else errA S (-1000000001) 1) else errA S (-1000000001) 1) else errA S (-1000000001) 1) := rfl
  rw [e_0]
  have hn8 := w.n8
  have hx := hX.hx
  have hl := hX.hl
  have hb : 21 ≤ 23 ∧ 23 + 10 < 78 := by decide
  have hn : S.r 2 = nI (np S.r) := w.n
  have lw := hX.lw
  have Vr := w.V
  have K := w.K
  refine gC.ofH (ls := [some (.ref 21), some (.int n), some (.int p), some (.int q), none]) (by decide +kernel) rfl rfl rfl rfl (Nat.le_of_ble_eq_true rfl) ?_
  refine gG_h hX.lg ?_
  refine r_aload_n 0 dX0_then_0 rfl rfl rfl ?_
  refine r_iload_n 1 dX0_then_1 rfl rfl ?_
  refine r_callS_1 dX0_then_2 kX0_217 (X_isAhead (v := n))  rfl rfl (Nat.le_of_ble_eq_true rfl) ?_
  refine r_if_eq 29 dX0_then_5 (by decide) (fun c_5 => ?_) (fun c_5 => ?_)
  · skip
    have n_5 : (inB (n) (nI 0) (nI 60)) = false := b2_f c_5
    first | rw [ifT n_5] | rw [ifF n_5] | skip
    refine r_iconst (v := nI 0) dX0_then_29 rfl ?_
    refine r_iconst (v := nI 1) dX0_then_30 rfl ?_
    refine r_need0 dX0_then_31 rfl (by exact hx) (Nat.le_of_ble_eq_true rfl) ?_
    refine t_catch [] (0, 75, 76, 8) [] (hx).s22 rfl rfl (fun z hz => by cases hz) rfl (by decide) q126 q128 ?_
    refine r_astore dX0_then_76 (by decide) rfl rfl ?_
    refine gG_ls (ls' := [_, _, _, _, _]) rfl ?_
    refine r_aload_n 0 dX0_then_78 rfl rfl rfl ?_
    refine r_aload dX0_then_79 rfl rfl ?_
    refine r_callV_1 dX0_then_81 kX0_131 (X_finds (k := 1) (by exact hx) (by decide)) (gRecv.of hx.s21 rfl) rfl rfl (Nat.le_of_ble_eq_true rfl) ?_
    refine e_iret dX0_then_84 rfl ?_
    exact RX.err hX.self (FrX.lg (by decide)) (by decide) (by decide) (by decide)
  · skip
    have n_5 : (inB (n) (nI 0) (nI 60)) = true := b2_t c_5
    first | rw [ifT n_5] | rw [ifF n_5] | skip
    obtain ⟨m, h_m, rfl⟩ := inB_n (by decide) n_5
    have e_m : toN (nI m) = m := toN_nI (by omega)
    try simp only [e_m]
    refine r_aload_n 0 dX0_then_8 rfl rfl rfl ?_
    refine r_iload_n 2 dX0_then_9 rfl rfl ?_
    refine r_callV_1 dX0_then_10 kX0_103 (X_isPerson (r := S.r) hx hl) (gRecv.of hx.s21 rfl) rfl rfl (Nat.le_of_ble_eq_true rfl) ?_
    refine r_if_eq 29 dX0_then_13 (by decide) (fun c_13 => ?_) (fun c_13 => ?_)
    · skip
      have n_13 : (inB (p) 0 (S.r 2 - 1)) = false := b2_f c_13
      first | rw [ifT n_13] | rw [ifF n_13] | skip
      refine r_iconst (v := nI 0) dX0_then_29 rfl ?_
      refine r_iconst (v := nI 1) dX0_then_30 rfl ?_
      refine r_need0 dX0_then_31 rfl (by exact hx) (Nat.le_of_ble_eq_true rfl) ?_
      refine t_catch [] (0, 75, 76, 8) [] (hx).s22 rfl rfl (fun z hz => by cases hz) rfl (by decide) q126 q128 ?_
      refine r_astore dX0_then_76 (by decide) rfl rfl ?_
      refine gG_ls (ls' := [_, _, _, _, _]) rfl ?_
      refine r_aload_n 0 dX0_then_78 rfl rfl rfl ?_
      refine r_aload dX0_then_79 rfl rfl ?_
      refine r_callV_1 dX0_then_81 kX0_131 (X_finds (k := 1) (by exact hx) (by decide)) (gRecv.of hx.s21 rfl) rfl rfl (Nat.le_of_ble_eq_true rfl) ?_
      refine e_iret dX0_then_84 rfl ?_
      exact RX.err hX.self (FrX.lg (by decide)) (by decide) (by decide) (by decide)
    · skip
      have n_13 : (inB (p) 0 (S.r 2 - 1)) = true := b2_t c_13
      first | rw [ifT n_13] | rw [ifF n_13] | skip
      obtain ⟨k, h_k, rfl⟩ := one_of w n_13
      have e_k : toN (nI k) = k := toN_nI (by omega)
      try simp only [e_k]
      refine r_iload_n 3 dX0_then_16 rfl rfl ?_
      refine r_iconst (v := nI 0) dX0_then_17 rfl ?_
      refine r_iconst (v := nI 1) dX0_then_18 rfl ?_
      refine r_callS_1 dX0_then_19 kX0_86 (X_in)  rfl rfl (Nat.le_of_ble_eq_true rfl) ?_
      refine r_if_eq 29 dX0_then_22 (by decide) (fun c_22 => ?_) (fun c_22 => ?_)
      · skip
        have n_22 : (inB (q) (nI 0) (nI 1)) = false := b2_f c_22
        first | rw [ifT n_22] | rw [ifF n_22] | skip
        refine r_iconst (v := nI 0) dX0_then_29 rfl ?_
        refine r_iconst (v := nI 1) dX0_then_30 rfl ?_
        refine r_need0 dX0_then_31 rfl (by exact hx) (Nat.le_of_ble_eq_true rfl) ?_
        refine t_catch [] (0, 75, 76, 8) [] (hx).s22 rfl rfl (fun z hz => by cases hz) rfl (by decide) q126 q128 ?_
        refine r_astore dX0_then_76 (by decide) rfl rfl ?_
        refine gG_ls (ls' := [_, _, _, _, _]) rfl ?_
        refine r_aload_n 0 dX0_then_78 rfl rfl rfl ?_
        refine r_aload dX0_then_79 rfl rfl ?_
        refine r_callV_1 dX0_then_81 kX0_131 (X_finds (k := 1) (by exact hx) (by decide)) (gRecv.of hx.s21 rfl) rfl rfl (Nat.le_of_ble_eq_true rfl) ?_
        refine e_iret dX0_then_84 rfl ?_
        exact RX.err hX.self (FrX.lg (by decide)) (by decide) (by decide) (by decide)
      · skip
        have n_22 : (inB (q) (nI 0) (nI 1)) = true := b2_t c_22
        first | rw [ifT n_22] | rw [ifF n_22] | skip
        obtain ⟨c, h_c, rfl⟩ := inB_n (by decide) n_22
        have e_c : toN (nI c) = c := toN_nI (by omega)
        try simp only [e_c]
        refine r_iconst (v := nI 1) dX0_then_25 rfl ?_
        refine r_goto 30 dX0_then_26 (by decide) ?_
        refine r_iconst (v := nI 1) dX0_then_30 rfl ?_
        refine r_need1 dX0_then_31 rfl (by exact hx) (Nat.le_of_ble_eq_true rfl) ?_
        refine r_aload_n 0 dX0_then_34 rfl rfl rfl ?_
        refine r_getr (k := 3) (b := 45) dX0_then_35 hx.s21 rfl (by decide) (Or.inl q308) (Or.inl rfl) rfl hx.r_tried ?_
        refine r_aload_n 0 dX0_then_38 rfl rfl rfl ?_
        refine r_getr (k := 1) (b := 23) dX0_then_39 hx.s21 rfl (by decide) (Or.inl q306) (Or.inl rfl) rfl hx.r_land ?_
        refine gG_h hX.lg.symm ?_
        refine r_callV_1 dX0_then_42 kX0_220 (L_become (b := 45) (c := 23) hX.hl4 hX.hl (by decide) (by decide) (by decide) hX.hold hX.lw) (gRecv.of hX.hl4.s0 rfl) rfl rfl (Nat.le_of_ble_eq_true rfl) ?_
        refine gG_h (LG_0 _ _ _ _) ?_
        have x1 := hX.fr (FrC.lc (h := h))
        have hx1 := x1.hx
        have hl1 := x1.hl
        have hl4b := x1.hl4
        have hb4 : 21 ≤ 45 ∧ 45 + 10 < 78 := by decide
        have lw4 := hX.lw.lc (b := 45) (by decide) (by decide)
        refine r_iload_n 1 dX0_then_45 rfl rfl ?_
        refine r_callV_1l dX0_then_46 kX0_204 (L_goes (r := S.r) (t := (-1)) (n := m) hl4b hb4 hn hn8 lw4 Vr K (by omega)) (gRecv.of hl4b.s0 rfl) rfl rfl (Nat.le_of_ble_eq_true rfl) (fun g_1 => ?_)
        refine r_pop dX0_then_49 rfl ?_
        refine r_iload_n 3 dX0_then_50 rfl rfl ?_
        refine r_if_ne 66 dX0_then_51 (by decide) (fun c_51 => ?_) (fun c_51 => ?_)
        · skip
          have n_51 : ¬ c = 0 := n_ne0 (by omega) c_51
          first | rw [iP n_51] | rw [iN n_51] | rw [iN (Nat.not_lt.mpr n_51)] | rw [iN (Nat.not_le.mpr n_51)] | skip
          have e1 : c = 1 := by omega
          subst e1
          refine r_aload_n 0 dX0_then_66 rfl rfl rfl ?_
          refine r_getr (k := 3) (b := 45) dX0_then_67 hx1.s21 rfl (by decide) (Or.inl q308) (Or.inl rfl) rfl hx1.r_tried ?_
          refine r_getr (k := 4) (b := (45 + 4)) dX0_then_70 hl4b.s0 rfl (by decide) (Or.inr ⟨_, q227⟩) (Or.inl rfl) rfl hl4b.r_thirst ?_
          refine r_iload_n 2 dX0_then_73 rfl rfl ?_
          refine r_ialdN (k) dX0_then_74 hl4b.s4 rfl (by omega) (by decide) ?_
          refine r_eqi (show _ = (pv (passR S.r (-1) m) k 4) from LG_r4 (by omega)) ?_
          refine e_iret dX0_then_75 rfl ?_
          exact RX.same hX.tried FrX.tried (rfl) rfl
        · skip
          have n_51 : c = 0 := n_eq0 (by omega) c_51
          first | rw [iP n_51] | rw [iN n_51] | rw [iN (Nat.not_lt.mpr n_51)] | rw [iN (Nat.not_le.mpr n_51)] | skip
          subst n_51
          refine r_aload_n 0 dX0_then_54 rfl rfl rfl ?_
          refine r_getr (k := 3) (b := 45) dX0_then_55 hx1.s21 rfl (by decide) (Or.inl q308) (Or.inl rfl) rfl hx1.r_tried ?_
          refine r_getr (k := 3) (b := (45 + 3)) dX0_then_58 hl4b.s0 rfl (by decide) (Or.inr ⟨_, q225⟩) (Or.inl rfl) rfl hl4b.r_water ?_
          refine r_iload_n 2 dX0_then_61 rfl rfl ?_
          refine r_ialdN (k) dX0_then_62 hl4b.s3 rfl (by omega) (by decide) ?_
          refine r_eqi (show _ = (pv (passR S.r (-1) m) k 3) from LG_r3 (by omega)) ?_
          refine r_goto 75 dX0_then_63 (by decide) ?_
          refine e_iret dX0_then_75 rfl ?_
          exact RX.same hX.tried FrX.tried (rfl) rfl
theorem X_struck {d : Nat} {h : Hp} {S : MSt} (hX : CX h S) (w : WF S.r) {q : Int32} : gC (d + 409) (0) (0) m_X0_struck [.ref 21, .int q] (h) (RX h (aStruck S q)) := by
  have e_0 : aStruck S q = (if inB q (nI 0) (nI 1) = true then (if toN q = 0 then nI (stR S.r).2 else sumD (stR S.r).1 64, S) else errA S (-1000000001) 1) := rfl
  rw [e_0]
  have hn8 := w.n8
  have hx := hX.hx
  have hl := hX.hl
  have hb : 21 ≤ 23 ∧ 23 + 10 < 78 := by decide
  have hn : S.r 2 = nI (np S.r) := w.n
  have lw := hX.lw
  have Vr := w.V
  have K := w.K
  refine gC.ofH (ls := [some (.ref 21), some (.int q), none]) (by decide +kernel) rfl rfl rfl rfl (Nat.le_of_ble_eq_true rfl) ?_
  refine gG_h hX.lg ?_
  refine r_aload_n 0 dX0_struck_0 rfl rfl rfl ?_
  refine r_iload_n 1 dX0_struck_1 rfl rfl ?_
  refine r_iconst (v := nI 0) dX0_struck_2 rfl ?_
  refine r_iconst (v := nI 1) dX0_struck_3 rfl ?_
  refine r_callS_1 dX0_struck_4 kX0_86 (X_in)  rfl rfl (Nat.le_of_ble_eq_true rfl) ?_
  refine r_iconst (v := nI 1) dX0_struck_7 rfl ?_
  refine r_needB dX0_struck_8 rfl (by exact hx) (Nat.le_of_ble_eq_true rfl) (fun n_8 => ?_) (fun n_8 => ?_)
  · skip
    first | rw [ifT n_8] | rw [ifF n_8] | skip
    obtain ⟨c, h_c, rfl⟩ := inB_n (by decide) n_8
    have e_c : toN (nI c) = c := toN_nI (by omega)
    try simp only [e_c]
    refine r_aload_n 0 dX0_struck_11 rfl rfl rfl ?_
    refine r_getr (k := 3) (b := 45) dX0_struck_12 hx.s21 rfl (by decide) (Or.inl q308) (Or.inl rfl) rfl hx.r_tried ?_
    refine r_aload_n 0 dX0_struck_15 rfl rfl rfl ?_
    refine r_getr (k := 1) (b := 23) dX0_struck_16 hx.s21 rfl (by decide) (Or.inl q306) (Or.inl rfl) rfl hx.r_land ?_
    refine gG_h hX.lg.symm ?_
    refine r_callV_1 dX0_struck_19 kX0_220 (L_become (b := 45) (c := 23) hX.hl4 hX.hl (by decide) (by decide) (by decide) hX.hold hX.lw) (gRecv.of hX.hl4.s0 rfl) rfl rfl (Nat.le_of_ble_eq_true rfl) ?_
    refine gG_h (LG_0 _ _ _ _) ?_
    have x1 := hX.fr (FrC.lc (h := h))
    have hx1 := x1.hx
    have hl1 := x1.hl
    have hl4b := x1.hl4
    have hb4 : 21 ≤ 45 ∧ 45 + 10 < 78 := by decide
    have lw4 := hX.lw.lc (b := 45) (by decide) (by decide)
    refine r_callV_1l dX0_struck_22 kX0_214 (L_strikes (r := S.r) (n := np S.r) hl4b hb4 hn hn8 w.D) (gRecv.of hl4b.s0 rfl) rfl rfl (Nat.le_of_ble_eq_true rfl) (fun g_1 => ?_)
    refine r_istore_n 2 dX0_struck_25 rfl (by decide) rfl ?_
    refine gG_ls (ls' := [_, _, _]) rfl ?_
    refine r_iload_n 1 dX0_struck_26 rfl rfl ?_
    refine r_if_ne 34 dX0_struck_27 (by decide) (fun c_27 => ?_) (fun c_27 => ?_)
    · skip
      have n_27 : ¬ c = 0 := n_ne0 (by omega) c_27
      first | rw [iP n_27] | rw [iN n_27] | rw [iN (Nat.not_lt.mpr n_27)] | rw [iN (Nat.not_le.mpr n_27)] | skip
      refine r_aload_n 0 dX0_struck_34 rfl rfl rfl ?_
      refine r_getr (k := 3) (b := 45) dX0_struck_35 hx1.s21 rfl (by decide) (Or.inl q308) (Or.inl rfl) rfl hx1.r_tried ?_
      refine r_callV_1 dX0_struck_38 kX0_307 (L_allOwed (r := (stR S.r).1) (t := -1) hl4b hb4) (gRecv.of hl4b.s0 rfl) rfl rfl (Nat.le_of_ble_eq_true rfl) ?_
      refine e_iret dX0_struck_41 rfl ?_
      exact RX.same hX.tried FrX.tried (rfl) rfl
    · skip
      have n_27 : c = 0 := n_eq0 (by omega) c_27
      first | rw [iP n_27] | rw [iN n_27] | rw [iN (Nat.not_lt.mpr n_27)] | rw [iN (Nat.not_le.mpr n_27)] | skip
      refine r_iload_n 2 dX0_struck_30 rfl rfl ?_
      refine r_goto 41 dX0_struck_31 (by decide) ?_
      refine e_iret dX0_struck_41 rfl ?_
      exact RX.same hX.tried FrX.tried (rfl) rfl
  · skip
    first | rw [ifT n_8] | rw [ifF n_8] | skip
    refine t_catch [] (0, 41, 42, 8) [] (hx).s22 rfl rfl (fun z hz => by cases hz) rfl (by decide) q126 q128 ?_
    refine r_astore_n 2 dX0_struck_42 rfl (by decide) rfl rfl ?_
    refine gG_ls (ls' := [_, _, _]) rfl ?_
    refine r_aload_n 0 dX0_struck_43 rfl rfl rfl ?_
    refine r_aload_n 2 dX0_struck_44 rfl rfl rfl ?_
    refine r_callV_1 dX0_struck_45 kX0_131 (X_finds (k := 1) (by exact hx) (by decide)) (gRecv.of hx.s21 rfl) rfl rfl (Nat.le_of_ble_eq_true rfl) ?_
    refine e_iret dX0_struck_48 rfl ?_
    exact RX.err hX.self (FrX.lg (by decide)) (by decide) (by decide) (by decide)
theorem X_dry_L {d : Nat} {h : Hp} {S : MSt} (hX : CX h S) (w : WF S.r) {Q : gQ} : ∀ (k m : Nat) (g : Row), m + k = 61 → (∀ g9 : Row, gG (d + 409) (0) (0) m_X0_dry 43 [some (.ref 21), some (.int (nI (drF S.r k m)))] [] (LG (LC h 45 23) 45 (passR S.r (-1) (drF S.r k m)) (-1) g9) (Q)) → gG (d + 409) (0) (0) m_X0_dry 14 [some (.ref 21), some (.int (nI m))] [] (LG (LC h 45 23) 45 (passR S.r (-1) m) (-1) g) (Q) := by
  intro k
  induction k with
  | zero =>
    intro m g hi kk
    refine r_iload_n 1 dX0_dry_14 rfl rfl ?_
    refine r_bipush (v := nI 60) dX0_dry_15 (by decide +kernel) ?_
    refine r_icmp_gt 43 dX0_dry_17 (by decide) (fun c_17 => ?_) (fun c_17 => ?_)
    · skip
      have n_17 : 60 < m := n_gt (by omega) (by omega) c_17
      exact kk _
    · skip
      have n_17 : m ≤ 60 := n_gtn (by omega) (by omega) c_17
      exact absurd n_17 (by omega)
  | succ k ih =>
  intro m g hi kk
  have hn8 := w.n8
  have hx := hX.hx
  have hl := hX.hl
  have hb : 21 ≤ 23 ∧ 23 + 10 < 78 := by decide
  have hn : S.r 2 = nI (np S.r) := w.n
  have lw := hX.lw
  have Vr := w.V
  have K := w.K
  have x1 := hX.fr (FrC.lc (h := h))
  have hx1 := x1.hx
  have hl1 := x1.hl
  have hl4b := x1.hl4
  have hb4 : 21 ≤ 45 ∧ 45 + 10 < 78 := by decide
  have lw4 := hX.lw.lc (b := 45) (by decide) (by decide)
  have hRS : RS S.r (passR S.r (-1) m) := passR_RS hn8 m
  have hV := passR_V (mn := -1) Vr K hn8 m
  refine r_iload_n 1 dX0_dry_14 rfl rfl ?_
  refine r_bipush (v := nI 60) dX0_dry_15 (by decide +kernel) ?_
  refine r_icmp_gt 43 dX0_dry_17 (by decide) (fun c_17 => ?_) (fun c_17 => ?_)
  · skip
    have n_17 : 60 < m := n_gt (by omega) (by omega) c_17
    exact absurd n_17 (by omega)
  · skip
    have n_17 : m ≤ 60 := n_gtn (by omega) (by omega) c_17
    refine r_aload_n 0 dX0_dry_20 rfl rfl rfl ?_
    refine r_getr (k := 3) (b := 45) dX0_dry_21 hx1.s21 rfl (by decide) (Or.inl q308) (Or.inl rfl) rfl hx1.r_tried ?_
    refine r_callV_1l dX0_dry_24 kX0_284 (L_who (r := (passR S.r (-1) m)) (t := -1) (n := np S.r) hl4b hb4 (hRS.two.trans hn) hn8 (lw4.rt (RT.of hRS))) (gRecv.of hl4b.s0 rfl) rfl rfl (Nat.le_of_ble_eq_true rfl) (fun g_1 => ?_)
    refine r_if_eq 43 dX0_dry_27 (by decide) (fun c_27 => ?_) (fun c_27 => ?_)
    · skip
      rw [drF_t c_27] at kk
      exact kk _
    · skip
      rw [drF_f c_27] at kk
      refine r_aload_n 0 dX0_dry_30 rfl rfl rfl ?_
      refine r_getr (k := 3) (b := 45) dX0_dry_31 hx1.s21 rfl (by decide) (Or.inl q308) (Or.inl rfl) rfl hx1.r_tried ?_
      refine r_callV_0l dX0_dry_34 kX0_228 (L_passes (r := (passR S.r (-1) m)) (t := -1) hl4b hb4 (by rw [hRS.npe]; exact hRS.two.trans hn) (by rw [hRS.npe]; exact hn8) (lw4.rt (RT.of hRS)) hV (hRS.K K)) (gRecv.of hl4b.s0 rfl) rfl rfl (Nat.le_of_ble_eq_true rfl) (fun g_2 => ?_)
      refine r_iinc dX0_dry_37 rfl (by decide) rfl ?_
      refine gG_ls (ls' := [_, some (.int (nI ((m + 1))))]) (by rw [show (Int32.ofInt 1) = nI 1 from rfl, nI_add]; rfl) ?_
      refine r_goto 14 dX0_dry_40 (by decide) ?_
      exact ih (m + 1) _ (by omega) kk
theorem X_dry {d : Nat} {h : Hp} {S : MSt} (hX : CX h S) (w : WF S.r)  : gC (d + 409) (0) (0) m_X0_dry [.ref 21] (h) (RX h (aDry S)) := by
  have e_0 : aDry S = (if drF S.r 61 0 ≤ 60 then (nI (drF S.r 61 0), S) else errA S (-1000000002) 2) := rfl
  rw [e_0]
  have hn8 := w.n8
  have hx := hX.hx
  have hl := hX.hl
  have hb : 21 ≤ 23 ∧ 23 + 10 < 78 := by decide
  have hn : S.r 2 = nI (np S.r) := w.n
  have lw := hX.lw
  have Vr := w.V
  have K := w.K
  have hdl : (drF S.r 61 0) ≤ 61 := drF_le 61 0
  refine gC.ofH (ls := [some (.ref 21), none]) (by decide +kernel) rfl rfl rfl rfl (Nat.le_of_ble_eq_true rfl) ?_
  refine gG_h hX.lg ?_
  refine r_aload_n 0 dX0_dry_0 rfl rfl rfl ?_
  refine r_getr (k := 3) (b := 45) dX0_dry_1 hx.s21 rfl (by decide) (Or.inl q308) (Or.inl rfl) rfl hx.r_tried ?_
  refine r_aload_n 0 dX0_dry_4 rfl rfl rfl ?_
  refine r_getr (k := 1) (b := 23) dX0_dry_5 hx.s21 rfl (by decide) (Or.inl q306) (Or.inl rfl) rfl hx.r_land ?_
  refine gG_h hX.lg.symm ?_
  refine r_callV_1 dX0_dry_8 kX0_220 (L_become (b := 45) (c := 23) hX.hl4 hX.hl (by decide) (by decide) (by decide) hX.hold hX.lw) (gRecv.of hX.hl4.s0 rfl) rfl rfl (Nat.le_of_ble_eq_true rfl) ?_
  refine gG_h (LG_0 _ _ _ _) ?_
  have x1 := hX.fr (FrC.lc (h := h))
  have hx1 := x1.hx
  have hl1 := x1.hl
  have hl4b := x1.hl4
  have hb4 : 21 ≤ 45 ∧ 45 + 10 < 78 := by decide
  have lw4 := hX.lw.lc (b := 45) (by decide) (by decide)
  refine r_pop dX0_dry_11 rfl ?_
  refine r_iconst (v := nI 0) dX0_dry_12 rfl ?_
  refine r_istore_n 1 dX0_dry_13 rfl (by decide) rfl ?_
  refine gG_ls (ls' := [_, _]) rfl ?_
  refine X_dry_L hX w 61 0 _ rfl (fun g_9 => ?_)
  refine r_aload_n 0 dX0_dry_43 rfl rfl rfl ?_
  refine r_iload_n 1 dX0_dry_44 rfl rfl ?_
  refine r_bipush (v := nI 60) dX0_dry_45 (by decide +kernel) ?_
  refine r_icmp_gt 54 dX0_dry_47 (by decide) (fun c_47 => ?_) (fun c_47 => ?_)
  · skip
    have n_47 : 60 < (drF S.r 61 0) := n_gt (by omega) (by omega) c_47
    first | rw [iP n_47] | rw [iN n_47] | rw [iN (Nat.not_lt.mpr n_47)] | rw [iN (Nat.not_le.mpr n_47)] | skip
    refine r_iconst (v := nI 0) dX0_dry_54 rfl ?_
    refine r_iconst (v := nI 2) dX0_dry_55 rfl ?_
    refine r_need0 dX0_dry_56 rfl (by exact hx1) (Nat.le_of_ble_eq_true rfl) ?_
    refine t_catch [] (0, 60, 61, 8) [] (hx1).s22 rfl rfl (fun z hz => by cases hz) rfl (by decide) q126 q128 ?_
    refine r_astore_n 1 dX0_dry_61 rfl (by decide) rfl rfl ?_
    refine gG_ls (ls' := [_, _]) rfl ?_
    refine r_aload_n 0 dX0_dry_62 rfl rfl rfl ?_
    refine r_aload_n 1 dX0_dry_63 rfl rfl rfl ?_
    refine r_callV_1 dX0_dry_64 kX0_131 (X_finds (k := 2) (by exact hx1) (by decide)) (gRecv.of hx1.s21 rfl) rfl rfl (Nat.le_of_ble_eq_true rfl) ?_
    refine e_iret dX0_dry_67 rfl ?_
    exact RX.err hX.tried FrX.tried (by decide) (by decide) (by decide)
  · skip
    have n_47 : (drF S.r 61 0) ≤ 60 := n_gtn (by omega) (by omega) c_47
    first | rw [iP n_47] | rw [iN n_47] | rw [iN (Nat.not_lt.mpr n_47)] | rw [iN (Nat.not_le.mpr n_47)] | skip
    refine r_iconst (v := nI 1) dX0_dry_50 rfl ?_
    refine r_goto 55 dX0_dry_51 (by decide) ?_
    refine r_iconst (v := nI 2) dX0_dry_55 rfl ?_
    refine r_need1 dX0_dry_56 rfl (by exact hx1) (Nat.le_of_ble_eq_true rfl) ?_
    refine r_iload_n 1 dX0_dry_59 rfl rfl ?_
    refine e_iret dX0_dry_60 rfl ?_
    exact RX.same hX.tried FrX.tried (rfl) rfl
theorem X_thirsty_L {d : Nat} {h : Hp} (hx : LayX (hS h) (hR h)) (hl : LayL (hS h) (hR h) 45) {r g : Row} {t x : Int32} (hn : r 2 = nI (np r)) (hn8 : np r ≤ 8) {Q : gQ} : ∀ (k i : Nat), i + k = np r → (gG (d + 1) (0) (0) m_X0_thirsty 32 [some (.ref 21), some (.int x), some (.int (nI (thF r x k i)))] [] (LG h 45 r t g) (Q)) → gG (d + 1) (0) (0) m_X0_thirsty 2 [some (.ref 21), some (.int x), some (.int (nI i))] [] (LG h 45 r t g) (Q) := by
  intro k
  induction k with
  | zero =>
    intro i hi kk
    refine r_iload_n 2 dX0_thirsty_2 rfl rfl ?_
    refine r_aload_n 0 dX0_thirsty_3 rfl rfl rfl ?_
    refine r_getr (k := 3) (b := 45) dX0_thirsty_4 hx.s21 rfl (by decide) (Or.inl q308) (Or.inl rfl) rfl hx.r_tried ?_
    refine r_geti (k := 0) dX0_thirsty_7 hl.s0 rfl (by decide) (Or.inr ⟨_, q219⟩) (Or.inl rfl) rfl ?_
    refine r_eqi (show _ = nI ((np r)) from ((LG_r0 (k := 0) (i := 2) rfl).trans hn)) ?_
    refine r_icmp_ge 32 dX0_thirsty_10 (by decide) (fun c_10 => ?_) (fun c_10 => ?_)
    · skip
      have n_10 : (np r) ≤ i := n_ge (by omega) (by omega) c_10
      exact kk
    · skip
      have n_10 : i < (np r) := n_gen (by omega) (by omega) c_10
      exact absurd n_10 (by omega)
  | succ k ih =>
  intro i hi kk
  refine r_iload_n 2 dX0_thirsty_2 rfl rfl ?_
  refine r_aload_n 0 dX0_thirsty_3 rfl rfl rfl ?_
  refine r_getr (k := 3) (b := 45) dX0_thirsty_4 hx.s21 rfl (by decide) (Or.inl q308) (Or.inl rfl) rfl hx.r_tried ?_
  refine r_geti (k := 0) dX0_thirsty_7 hl.s0 rfl (by decide) (Or.inr ⟨_, q219⟩) (Or.inl rfl) rfl ?_
  refine r_eqi (show _ = nI ((np r)) from ((LG_r0 (k := 0) (i := 2) rfl).trans hn)) ?_
  refine r_icmp_ge 32 dX0_thirsty_10 (by decide) (fun c_10 => ?_) (fun c_10 => ?_)
  · skip
    have n_10 : (np r) ≤ i := n_ge (by omega) (by omega) c_10
    exact absurd n_10 (by omega)
  · skip
    have n_10 : i < (np r) := n_gen (by omega) (by omega) c_10
    refine r_aload_n 0 dX0_thirsty_13 rfl rfl rfl ?_
    refine r_getr (k := 3) (b := 45) dX0_thirsty_14 hx.s21 rfl (by decide) (Or.inl q308) (Or.inl rfl) rfl hx.r_tried ?_
    refine r_getr (k := 4) (b := (45 + 4)) dX0_thirsty_17 hl.s0 rfl (by decide) (Or.inr ⟨_, q227⟩) (Or.inl rfl) rfl hl.r_thirst ?_
    refine r_iload_n 2 dX0_thirsty_20 rfl rfl ?_
    refine r_ialdN (i) dX0_thirsty_21 hl.s4 rfl (by omega) (by decide) ?_
    refine r_eqi (show _ = (pv r i 4) from LG_r4 (by omega)) ?_
    refine r_iload_n 1 dX0_thirsty_22 rfl rfl ?_
    refine r_icmp_ge 32 dX0_thirsty_23 (by decide) (fun c_23 => ?_) (fun c_23 => ?_)
    · skip
      rw [show thF r x (k + 1) i = i from if_neg (i_le_nlt c_23)] at kk
      exact kk
    · skip
      rw [show thF r x (k + 1) i = thF r x k (i + 1) from if_pos (i_nle c_23)] at kk
      refine r_iinc dX0_thirsty_26 rfl (by decide) rfl ?_
      refine gG_ls (ls' := [_, _, some (.int (nI ((i + 1))))]) (by rw [show (Int32.ofInt 1) = nI 1 from rfl, nI_add]; rfl) ?_
      refine r_goto 2 dX0_thirsty_29 (by decide) ?_
      exact ih (i + 1) (by omega) kk
theorem X_thirsty {d : Nat} {h : Hp} (hx : LayX (hS h) (hR h)) (hl : LayL (hS h) (hR h) 45) {r g : Row} {t x : Int32} (hn : r 2 = nI (np r)) (hn8 : np r ≤ 8) : gC (d + 1) (0) (0) m_X0_thirsty [.ref 21, .int x] (LG h 45 r t g) (Ret (some (.int (thI r x))) (LG h 45 r t g)) := by
  have hle := thV_le (r := r) (x := x)
  refine gC.of (ls := [some (.ref 21), some (.int x), none]) (by decide +kernel) rfl rfl rfl rfl (Nat.le_of_ble_eq_true rfl) ?_
  refine r_iconst (v := nI 0) dX0_thirsty_0 rfl ?_
  refine r_istore_n 2 dX0_thirsty_1 rfl (by decide) rfl ?_
  refine gG_ls (ls' := [_, _, _]) rfl ?_
  refine X_thirsty_L hx hl hn hn8 (np r) 0 (by omega) ?_
  refine gG_ls (ls' := [_, _, some (.int (nI (thV r x)))]) rfl ?_
  refine r_iload_n 2 dX0_thirsty_32 rfl rfl ?_
  refine r_aload_n 0 dX0_thirsty_33 rfl rfl rfl ?_
  refine r_getr (k := 3) (b := 45) dX0_thirsty_34 hx.s21 rfl (by decide) (Or.inl q308) (Or.inl rfl) rfl hx.r_tried ?_
  refine r_geti (k := 0) dX0_thirsty_37 hl.s0 rfl (by decide) (Or.inr ⟨_, q219⟩) (Or.inl rfl) rfl ?_
  refine r_eqi (show _ = nI ((np r)) from ((LG_r0 (k := 0) (i := 2) rfl).trans hn)) ?_
  refine r_icmp_ge 47 dX0_thirsty_40 (by decide) (fun c_40 => ?_) (fun c_40 => ?_)
  · skip
    have n_40 : (np r) ≤ (thV r x) := n_ge (by omega) (by omega) c_40
    refine r_iconst (v := (-1)) dX0_thirsty_47 (by decide +kernel) ?_
    refine e_iret dX0_thirsty_48 rfl ?_
    exact ⟨by rw [thI_2 (by omega)], rfl⟩
  · skip
    have n_40 : (thV r x) < (np r) := n_gen (by omega) (by omega) c_40
    refine r_iload_n 2 dX0_thirsty_43 rfl rfl ?_
    refine r_goto 48 dX0_thirsty_44 (by decide) ?_
    refine e_iret dX0_thirsty_48 rfl ?_
    exact ⟨by rw [thI_3 (by omega)], rfl⟩
theorem X_first_L {d : Nat} {h : Hp} {S : MSt} (hX : CX h S) (w : WF S.r) {x y1 : Int32} {Q : gQ} : ∀ (k m : Nat) (g : Row), m + k = 61 → (∀ g9 : Row, gG (d + 409) (0) (0) m_X0_first 71 [some (.ref 21), some (.int x), some (.int y1), some (.int (nI (fsF S.r x k m)))] [] (LG (LC h 45 23) 45 (passR S.r (-1) (fsF S.r x k m)) (-1) g9) (Q)) → gG (d + 409) (0) (0) m_X0_first 43 [some (.ref 21), some (.int x), some (.int y1), some (.int (nI m))] [] (LG (LC h 45 23) 45 (passR S.r (-1) m) (-1) g) (Q) := by
  intro k
  induction k with
  | zero =>
    intro m g hi kk
    refine r_iload_n 3 dX0_first_43 rfl rfl ?_
    refine r_bipush (v := nI 60) dX0_first_44 (by decide +kernel) ?_
    refine r_icmp_gt 71 dX0_first_46 (by decide) (fun c_46 => ?_) (fun c_46 => ?_)
    · skip
      have n_46 : 60 < m := n_gt (by omega) (by omega) c_46
      exact kk _
    · skip
      have n_46 : m ≤ 60 := n_gtn (by omega) (by omega) c_46
      exact absurd n_46 (by omega)
  | succ k ih =>
  intro m g hi kk
  have hn8 := w.n8
  have hx := hX.hx
  have hl := hX.hl
  have hb : 21 ≤ 23 ∧ 23 + 10 < 78 := by decide
  have hn : S.r 2 = nI (np S.r) := w.n
  have lw := hX.lw
  have Vr := w.V
  have K := w.K
  have x1 := hX.fr (FrC.lc (h := h))
  have hx1 := x1.hx
  have hl1 := x1.hl
  have hl4b := x1.hl4
  have hb4 : 21 ≤ 45 ∧ 45 + 10 < 78 := by decide
  have lw4 := hX.lw.lc (b := 45) (by decide) (by decide)
  have hRS : RS S.r (passR S.r (-1) m) := passR_RS hn8 m
  have hV := passR_V (mn := -1) Vr K hn8 m
  refine r_iload_n 3 dX0_first_43 rfl rfl ?_
  refine r_bipush (v := nI 60) dX0_first_44 (by decide +kernel) ?_
  refine r_icmp_gt 71 dX0_first_46 (by decide) (fun c_46 => ?_) (fun c_46 => ?_)
  · skip
    have n_46 : 60 < m := n_gt (by omega) (by omega) c_46
    exact absurd n_46 (by omega)
  · skip
    have n_46 : m ≤ 60 := n_gtn (by omega) (by omega) c_46
    refine r_aload_n 0 dX0_first_49 rfl rfl rfl ?_
    refine r_iload_n 1 dX0_first_50 rfl rfl ?_
    refine r_callV_1 dX0_first_51 kX0_224 (X_thirsty (r := (passR S.r (-1) m)) (x := x) (by exact hx1) (by exact hl4b) (by rw [hRS.npe]; exact hRS.two.trans hn) (by rw [hRS.npe]; exact hn8)) (gRecv.of hx1.s21 rfl) rfl rfl (Nat.le_of_ble_eq_true rfl) ?_
    refine r_iconst (v := (-1)) dX0_first_54 (by decide +kernel) ?_
    refine r_icmp_ne 71 dX0_first_55 (by decide) (fun c_55 => ?_) (fun c_55 => ?_)
    · skip
      rw [show fsF S.r x (k + 1) m = m from if_neg (fun e => c_55 (thI_2 (by rw [hRS.npe]; exact e)))] at kk
      exact kk _
    · skip
      rw [show fsF S.r x (k + 1) m = fsF S.r x k (m + 1) from if_pos ((thI_1 (by rw [hRS.npe]; exact hn8) (Decidable.not_not.mp fun q => q c_55)).trans hRS.npe)] at kk
      refine r_aload_n 0 dX0_first_58 rfl rfl rfl ?_
      refine r_getr (k := 3) (b := 45) dX0_first_59 hx1.s21 rfl (by decide) (Or.inl q308) (Or.inl rfl) rfl hx1.r_tried ?_
      refine r_callV_0l dX0_first_62 kX0_228 (L_passes (r := (passR S.r (-1) m)) (t := -1) hl4b hb4 (by rw [hRS.npe]; exact hRS.two.trans hn) (by rw [hRS.npe]; exact hn8) (lw4.rt (RT.of hRS)) hV (hRS.K K)) (gRecv.of hl4b.s0 rfl) rfl rfl (Nat.le_of_ble_eq_true rfl) (fun g_1 => ?_)
      refine r_iinc dX0_first_65 rfl (by decide) rfl ?_
      refine gG_ls (ls' := [_, _, _, some (.int (nI ((m + 1))))]) (by rw [show (Int32.ofInt 1) = nI 1 from rfl, nI_add]; rfl) ?_
      refine r_goto 43 dX0_first_68 (by decide) ?_
      exact ih (m + 1) _ (by omega) kk
theorem X_first {d : Nat} {h : Hp} {S : MSt} (hX : CX h S) (w : WF S.r) {x q : Int32} : gC (d + 409) (0) (0) m_X0_first [.ref 21, .int x, .int q] (h) (RX h (aFirst S x q)) := by
  have e_0 : aFirst S x q = (if inB x (nI 1) (nI 99) = true then (if inB q (nI 0) (nI 1) = true then (if 60 < fsV S.r x then errA S (-1000000002) 2 else (if toN q = 0 then nI (fsV S.r x) else nI (thV (passR S.r (-1) (fsV S.r x)) x), S)) else errA S (-1000000001) 1) else errA S (-1000000001) 1) := rfl
  rw [e_0]
  have hn8 := w.n8
  have hx := hX.hx
  have hl := hX.hl
  have hb : 21 ≤ 23 ∧ 23 + 10 < 78 := by decide
  have hn : S.r 2 = nI (np S.r) := w.n
  have lw := hX.lw
  have Vr := w.V
  have K := w.K
  have hfl : (fsF S.r x 61 0) ≤ 61 := fsF_le 61 0
  rw [show fsV S.r x = (fsF S.r x 61 0) from rfl]
  refine gC.ofH (ls := [some (.ref 21), some (.int x), some (.int q), none]) (by decide +kernel) rfl rfl rfl rfl (Nat.le_of_ble_eq_true rfl) ?_
  refine gG_h hX.lg ?_
  refine r_aload_n 0 dX0_first_0 rfl rfl rfl ?_
  refine r_iload_n 1 dX0_first_1 rfl rfl ?_
  refine r_iconst (v := nI 1) dX0_first_2 rfl ?_
  refine r_bipush (v := nI 99) dX0_first_3 (by decide +kernel) ?_
  refine r_callS_1 dX0_first_5 kX0_86 (X_in)  rfl rfl (Nat.le_of_ble_eq_true rfl) ?_
  refine r_if_eq 24 dX0_first_8 (by decide) (fun c_8 => ?_) (fun c_8 => ?_)
  · skip
    have n_8 : (inB (x) (nI 1) (nI 99)) = false := b2_f c_8
    first | rw [ifT n_8] | rw [ifF n_8] | skip
    refine r_iconst (v := nI 0) dX0_first_24 rfl ?_
    refine r_iconst (v := nI 1) dX0_first_25 rfl ?_
    refine r_need0 dX0_first_26 rfl (by exact hx) (Nat.le_of_ble_eq_true rfl) ?_
    refine t_catch [] (0, 100, 101, 8) [] (hx).s22 rfl rfl (fun z hz => by cases hz) rfl (by decide) q126 q128 ?_
    refine r_astore_n 3 dX0_first_101 rfl (by decide) rfl rfl ?_
    refine gG_ls (ls' := [_, _, _, _]) rfl ?_
    refine r_aload_n 0 dX0_first_102 rfl rfl rfl ?_
    refine r_aload_n 3 dX0_first_103 rfl rfl rfl ?_
    refine r_callV_1 dX0_first_104 kX0_131 (X_finds (k := 1) (by exact hx) (by decide)) (gRecv.of hx.s21 rfl) rfl rfl (Nat.le_of_ble_eq_true rfl) ?_
    refine e_iret dX0_first_107 rfl ?_
    exact RX.err hX.self (FrX.lg (by decide)) (by decide) (by decide) (by decide)
  · skip
    have n_8 : (inB (x) (nI 1) (nI 99)) = true := b2_t c_8
    first | rw [ifT n_8] | rw [ifF n_8] | skip
    refine r_iload_n 2 dX0_first_11 rfl rfl ?_
    refine r_iconst (v := nI 0) dX0_first_12 rfl ?_
    refine r_iconst (v := nI 1) dX0_first_13 rfl ?_
    refine r_callS_1 dX0_first_14 kX0_86 (X_in)  rfl rfl (Nat.le_of_ble_eq_true rfl) ?_
    refine r_if_eq 24 dX0_first_17 (by decide) (fun c_17 => ?_) (fun c_17 => ?_)
    · skip
      have n_17 : (inB (q) (nI 0) (nI 1)) = false := b2_f c_17
      first | rw [ifT n_17] | rw [ifF n_17] | skip
      refine r_iconst (v := nI 0) dX0_first_24 rfl ?_
      refine r_iconst (v := nI 1) dX0_first_25 rfl ?_
      refine r_need0 dX0_first_26 rfl (by exact hx) (Nat.le_of_ble_eq_true rfl) ?_
      refine t_catch [] (0, 100, 101, 8) [] (hx).s22 rfl rfl (fun z hz => by cases hz) rfl (by decide) q126 q128 ?_
      refine r_astore_n 3 dX0_first_101 rfl (by decide) rfl rfl ?_
      refine gG_ls (ls' := [_, _, _, _]) rfl ?_
      refine r_aload_n 0 dX0_first_102 rfl rfl rfl ?_
      refine r_aload_n 3 dX0_first_103 rfl rfl rfl ?_
      refine r_callV_1 dX0_first_104 kX0_131 (X_finds (k := 1) (by exact hx) (by decide)) (gRecv.of hx.s21 rfl) rfl rfl (Nat.le_of_ble_eq_true rfl) ?_
      refine e_iret dX0_first_107 rfl ?_
      exact RX.err hX.self (FrX.lg (by decide)) (by decide) (by decide) (by decide)
    · skip
      have n_17 : (inB (q) (nI 0) (nI 1)) = true := b2_t c_17
      first | rw [ifT n_17] | rw [ifF n_17] | skip
      obtain ⟨c, h_c, rfl⟩ := inB_n (by decide) n_17
      have e_c : toN (nI c) = c := toN_nI (by omega)
      try simp only [e_c]
      refine r_iconst (v := nI 1) dX0_first_20 rfl ?_
      refine r_goto 25 dX0_first_21 (by decide) ?_
      refine r_iconst (v := nI 1) dX0_first_25 rfl ?_
      refine r_need1 dX0_first_26 rfl (by exact hx) (Nat.le_of_ble_eq_true rfl) ?_
      refine r_aload_n 0 dX0_first_29 rfl rfl rfl ?_
      refine r_getr (k := 3) (b := 45) dX0_first_30 hx.s21 rfl (by decide) (Or.inl q308) (Or.inl rfl) rfl hx.r_tried ?_
      refine r_aload_n 0 dX0_first_33 rfl rfl rfl ?_
      refine r_getr (k := 1) (b := 23) dX0_first_34 hx.s21 rfl (by decide) (Or.inl q306) (Or.inl rfl) rfl hx.r_land ?_
      refine gG_h hX.lg.symm ?_
      refine r_callV_1 dX0_first_37 kX0_220 (L_become (b := 45) (c := 23) hX.hl4 hX.hl (by decide) (by decide) (by decide) hX.hold hX.lw) (gRecv.of hX.hl4.s0 rfl) rfl rfl (Nat.le_of_ble_eq_true rfl) ?_
      refine gG_h (LG_0 _ _ _ _) ?_
      have x1 := hX.fr (FrC.lc (h := h))
      have hx1 := x1.hx
      have hl1 := x1.hl
      have hl4b := x1.hl4
      have hb4 : 21 ≤ 45 ∧ 45 + 10 < 78 := by decide
      have lw4 := hX.lw.lc (b := 45) (by decide) (by decide)
      refine r_pop dX0_first_40 rfl ?_
      refine r_iconst (v := nI 0) dX0_first_41 rfl ?_
      refine r_istore_n 3 dX0_first_42 rfl (by decide) rfl ?_
      refine gG_ls (ls' := [_, _, _, _]) rfl ?_
      have hRS : RS S.r (passR S.r (-1) (fsF S.r x 61 0)) := passR_RS hn8 _
      refine X_first_L hX w 61 0 _ rfl (fun g_9 => ?_)
      refine r_aload_n 0 dX0_first_71 rfl rfl rfl ?_
      refine r_iload_n 3 dX0_first_72 rfl rfl ?_
      refine r_bipush (v := nI 60) dX0_first_73 (by decide +kernel) ?_
      refine r_icmp_gt 82 dX0_first_75 (by decide) (fun c_75 => ?_) (fun c_75 => ?_)
      · skip
        have n_75 : 60 < (fsF S.r x 61 0) := n_gt (by omega) (by omega) c_75
        first | rw [iP n_75] | rw [iN n_75] | rw [iN (Nat.not_lt.mpr n_75)] | rw [iN (Nat.not_le.mpr n_75)] | skip
        refine r_iconst (v := nI 0) dX0_first_82 rfl ?_
        refine r_iconst (v := nI 2) dX0_first_83 rfl ?_
        refine r_need0 dX0_first_84 rfl (by exact hx1) (Nat.le_of_ble_eq_true rfl) ?_
        refine t_catch [] (0, 100, 101, 8) [] (hx1).s22 rfl rfl (fun z hz => by cases hz) rfl (by decide) q126 q128 ?_
        refine r_astore_n 3 dX0_first_101 rfl (by decide) rfl rfl ?_
        refine gG_ls (ls' := [_, _, _, _]) rfl ?_
        refine r_aload_n 0 dX0_first_102 rfl rfl rfl ?_
        refine r_aload_n 3 dX0_first_103 rfl rfl rfl ?_
        refine r_callV_1 dX0_first_104 kX0_131 (X_finds (k := 2) (by exact hx1) (by decide)) (gRecv.of hx1.s21 rfl) rfl rfl (Nat.le_of_ble_eq_true rfl) ?_
        refine e_iret dX0_first_107 rfl ?_
        exact RX.err hX.tried FrX.tried (by decide) (by decide) (by decide)
      · skip
        have n_75 : (fsF S.r x 61 0) ≤ 60 := n_gtn (by omega) (by omega) c_75
        first | rw [iP n_75] | rw [iN n_75] | rw [iN (Nat.not_lt.mpr n_75)] | rw [iN (Nat.not_le.mpr n_75)] | skip
        refine r_iconst (v := nI 1) dX0_first_78 rfl ?_
        refine r_goto 83 dX0_first_79 (by decide) ?_
        refine r_iconst (v := nI 2) dX0_first_83 rfl ?_
        refine r_need1 dX0_first_84 rfl (by exact hx1) (Nat.le_of_ble_eq_true rfl) ?_
        refine r_iload_n 2 dX0_first_87 rfl rfl ?_
        refine r_if_ne 95 dX0_first_88 (by decide) (fun c_88 => ?_) (fun c_88 => ?_)
        · skip
          have n_88 : ¬ c = 0 := n_ne0 (by omega) c_88
          first | rw [iP n_88] | rw [iN n_88] | rw [iN (Nat.not_lt.mpr n_88)] | rw [iN (Nat.not_le.mpr n_88)] | skip
          refine r_aload_n 0 dX0_first_95 rfl rfl rfl ?_
          refine r_iload_n 1 dX0_first_96 rfl rfl ?_
          refine r_callV_1 dX0_first_97 kX0_224 (X_thirsty (r := (passR S.r (-1) (fsF S.r x 61 0))) (x := x) (by exact hx1) (by exact hl4b) (by rw [hRS.npe]; exact hRS.two.trans hn) (by rw [hRS.npe]; exact hn8)) (gRecv.of hx1.s21 rfl) rfl rfl (Nat.le_of_ble_eq_true rfl) ?_
          refine e_iret dX0_first_100 rfl ?_
          exact RX.same hX.tried FrX.tried (thI_3 (fun e => fsF_end 61 0 (by omega) (e.trans hRS.npe))) rfl
        · skip
          have n_88 : c = 0 := n_eq0 (by omega) c_88
          first | rw [iP n_88] | rw [iN n_88] | rw [iN (Nat.not_lt.mpr n_88)] | rw [iN (Nat.not_le.mpr n_88)] | skip
          refine r_iload_n 3 dX0_first_91 rfl rfl ?_
          refine r_goto 100 dX0_first_92 (by decide) ?_
          refine e_iret dX0_first_100 rfl ?_
          exact RX.same hX.tried FrX.tried rfl rfl
theorem X_kept_L {d : Nat} {h : Hp} (hx : LayX (hS h) (hR h)) (hl : LayL (hS h) (hR h) 23) (hl4 : LayL (hS h) (hR h) 45) {r1 r g : Row} {t k2 : Int32} {n p : Nat} (hpe : hI h 23 0 = nI n) (hn8 : n ≤ 8) (hp : p < 8) (hth : ∀ i, i < 8 → hI h 61 i = pv r1 i 4) {Q : gQ} : ∀ (k i : Nat), i ≤ n → n + 1 ≤ i + k → (gG (d + 2) (0) (0) m_X0_kept 138 [some (.ref 21), some (.int (nI p)), some (.int k2), some (.int (kpV r1 r p (n))), some (.int (nI n))] [] (LG h 45 r t g) (Q)) → gG (d + 2) (0) (0) m_X0_kept 83 [some (.ref 21), some (.int (nI p)), some (.int k2), some (.int (kpV r1 r p (i))), some (.int (nI i))] [] (LG h 45 r t g) (Q) := by
  intro k
  induction k with
  | zero => exact fun i h1 h2 => absurd h2 (by omega)
  | succ k ih =>
  intro i hi hk kk
  refine r_iload dX0_kept_83 rfl ?_
  refine r_aload_n 0 dX0_kept_85 rfl rfl rfl ?_
  refine r_getr (k := 1) (b := 23) dX0_kept_86 hx.s21 rfl (by decide) (Or.inl q306) (Or.inl rfl) rfl hx.r_land ?_
  refine r_geti (k := 0) dX0_kept_89 hl.s0 rfl (by decide) (Or.inr ⟨_, q219⟩) (Or.inl rfl) rfl ?_
  refine r_eqi (show _ = nI (n) from ((congrFun (LG_far (by omega)) 0).trans hpe)) ?_
  refine r_icmp_ge 138 dX0_kept_92 (by decide) (fun c_92 => ?_) (fun c_92 => ?_)
  · skip
    have n_92 : n ≤ i := n_ge (by omega) (by omega) c_92
    have hin : i = n := by omega
    subst hin
    exact kk
  · skip
    have n_92 : i < n := n_gen (by omega) (by omega) c_92
    refine r_iload_n 3 dX0_kept_95 rfl rfl ?_
    refine r_iload dX0_kept_96 rfl ?_
    refine r_iload_n 1 dX0_kept_98 rfl rfl ?_
    refine r_icmp_eq 129 dX0_kept_99 (by decide) (fun c_99 => ?_) (fun c_99 => ?_)
    · skip
      have n_99 : i = p := n_eq (by omega) (by omega) c_99
      refine r_iconst (v := nI 0) dX0_kept_129 rfl ?_
      refine r_ior dX0_kept_130 ?_
      refine r_istore_n 3 dX0_kept_131 rfl (by decide) rfl ?_
      refine gG_ls (ls' := [_, _, _, _, _]) rfl ?_
      refine r_iinc dX0_kept_132 rfl (by decide) rfl ?_
      refine gG_ls (ls' := [_, _, _, _, some (.int (nI ((i + 1))))]) (by rw [show (Int32.ofInt 1) = nI 1 from rfl, nI_add]; rfl) ?_
      refine r_goto 83 dX0_kept_135 (by decide) ?_
      refine gG_ls (ls' := [_, _, _, some (.int (kpV r1 r p (i + 1))), _]) (by rw [kpV_f (fun q => q.1 n_99)]) ?_
      exact ih (i + 1) (by omega) (by omega) kk
    · skip
      have n_99 : ¬ i = p := n_eqn (by omega) (by omega) c_99
      refine r_aload_n 0 dX0_kept_102 rfl rfl rfl ?_
      refine r_getr (k := 3) (b := 45) dX0_kept_103 hx.s21 rfl (by decide) (Or.inl q308) (Or.inl rfl) rfl hx.r_tried ?_
      refine r_getr (k := 4) (b := (45 + 4)) dX0_kept_106 hl4.s0 rfl (by decide) (Or.inr ⟨_, q227⟩) (Or.inl rfl) rfl hl4.r_thirst ?_
      refine r_iload dX0_kept_109 rfl ?_
      refine r_ialdN (i) dX0_kept_111 hl4.s4 rfl (by omega) (by decide) ?_
      refine r_eqi (show _ = (pv r i 4) from LG_r4 (by omega)) ?_
      refine r_aload_n 0 dX0_kept_112 rfl rfl rfl ?_
      refine r_getr (k := 9) (b := 61) dX0_kept_113 hx.s21 rfl (by decide) (Or.inl q314) (Or.inl rfl) rfl hx.r_thirstThen ?_
      refine r_iload dX0_kept_116 rfl ?_
      refine r_ialdN (i) dX0_kept_118 hx.s61 rfl (by omega) (by decide) ?_
      refine r_eqi (show _ = (pv r1 i 4) from ((congrFun (LG_far (by omega)) i).trans (hth i (by omega)))) ?_
      refine r_icmp_le 129 dX0_kept_119 (by decide) (fun c_119 => ?_) (fun c_119 => ?_)
      · skip
        refine r_iconst (v := nI 0) dX0_kept_129 rfl ?_
        refine r_ior dX0_kept_130 ?_
        refine r_istore_n 3 dX0_kept_131 rfl (by decide) rfl ?_
        refine gG_ls (ls' := [_, _, _, _, _]) rfl ?_
        refine r_iinc dX0_kept_132 rfl (by decide) rfl ?_
        refine gG_ls (ls' := [_, _, _, _, some (.int (nI ((i + 1))))]) (by rw [show (Int32.ofInt 1) = nI 1 from rfl, nI_add]; rfl) ?_
        refine r_goto 83 dX0_kept_135 (by decide) ?_
        refine gG_ls (ls' := [_, _, _, some (.int (kpV r1 r p (i + 1))), _]) (by rw [kpV_f (fun q => i_le_nlt c_119 q.2)]) ?_
        exact ih (i + 1) (by omega) (by omega) kk
      · skip
        refine r_iconst (v := nI 1) dX0_kept_122 rfl ?_
        refine r_iload dX0_kept_123 rfl ?_
        refine r_ishl dX0_kept_125 ?_
        refine r_goto 130 dX0_kept_126 (by decide) ?_
        refine r_ior dX0_kept_130 ?_
        refine r_istore_n 3 dX0_kept_131 rfl (by decide) rfl ?_
        refine gG_ls (ls' := [_, _, _, _, _]) rfl ?_
        refine r_iinc dX0_kept_132 rfl (by decide) rfl ?_
        refine gG_ls (ls' := [_, _, _, _, some (.int (nI ((i + 1))))]) (by rw [show (Int32.ofInt 1) = nI 1 from rfl, nI_add]; rfl) ?_
        refine r_goto 83 dX0_kept_135 (by decide) ?_
        refine gG_ls (ls' := [_, _, _, some (.int (kpV r1 r p (i + 1))), _]) (by rw [kpV_t n_99 (i_nle c_119)]) ?_
        exact ih (i + 1) (by omega) (by omega) kk
theorem X_kept {d : Nat} {h : Hp} {S : MSt} (hX : CX h S) (w : WF S.r) {p n : Int32} : gC (d + 409) (0) (0) m_X0_kept [.ref 21, .int p, .int n] (h) (RX h (aKept S p n)) := by
  have e_0 : aKept S p n = (if inB p 0 (S.r 2 - 1) = true then (if inB n (nI 0) (nI 60) = true then (kpV (passR S.r (-1) (toN n)) (passR S.r p (toN n)) (toN p) (np S.r), S) else errA S (-1000000001) 1) else errA S (-1000000001) 1) := rfl
  rw [e_0]
  have hn8 := w.n8
  have hx := hX.hx
  have hl := hX.hl
  have hb : 21 ≤ 23 ∧ 23 + 10 < 78 := by decide
  have hn : S.r 2 = nI (np S.r) := w.n
  have lw := hX.lw
  have Vr := w.V
  have K := w.K
  refine gC.ofH (ls := [some (.ref 21), some (.int p), some (.int n), none, none]) (by decide +kernel) rfl rfl rfl rfl (Nat.le_of_ble_eq_true rfl) ?_
  refine gG_h hX.lg ?_
  refine r_aload_n 0 dX0_kept_0 rfl rfl rfl ?_
  refine r_aload_n 0 dX0_kept_1 rfl rfl rfl ?_
  refine r_iload_n 1 dX0_kept_2 rfl rfl ?_
  refine r_callV_1 dX0_kept_3 kX0_103 (X_isPerson (r := S.r) hx hl) (gRecv.of hx.s21 rfl) rfl rfl (Nat.le_of_ble_eq_true rfl) ?_
  refine r_if_eq 20 dX0_kept_6 (by decide) (fun c_6 => ?_) (fun c_6 => ?_)
  · skip
    have n_6 : (inB (p) 0 (S.r 2 - 1)) = false := b2_f c_6
    first | rw [ifT n_6] | rw [ifF n_6] | skip
    refine r_iconst (v := nI 0) dX0_kept_20 rfl ?_
    refine r_iconst (v := nI 1) dX0_kept_21 rfl ?_
    refine r_need0 dX0_kept_22 rfl (by exact hx) (Nat.le_of_ble_eq_true rfl) ?_
    refine t_catch [] (0, 139, 140, 8) [] (hx).s22 rfl rfl (fun z hz => by cases hz) rfl (by decide) q126 q128 ?_
    refine r_astore_n 3 dX0_kept_140 rfl (by decide) rfl rfl ?_
    refine gG_ls (ls' := [_, _, _, _, _]) rfl ?_
    refine r_aload_n 0 dX0_kept_141 rfl rfl rfl ?_
    refine r_aload_n 3 dX0_kept_142 rfl rfl rfl ?_
    refine r_callV_1 dX0_kept_143 kX0_131 (X_finds (k := 1) (by exact hx) (by decide)) (gRecv.of hx.s21 rfl) rfl rfl (Nat.le_of_ble_eq_true rfl) ?_
    refine e_iret dX0_kept_146 rfl ?_
    exact RX.err hX.self (FrX.lg (by decide)) (by decide) (by decide) (by decide)
  · skip
    have n_6 : (inB (p) 0 (S.r 2 - 1)) = true := b2_t c_6
    first | rw [ifT n_6] | rw [ifF n_6] | skip
    obtain ⟨k, h_k, rfl⟩ := one_of w n_6
    have e_k : toN (nI k) = k := toN_nI (by omega)
    try simp only [e_k]
    refine r_iload_n 2 dX0_kept_9 rfl rfl ?_
    refine r_callS_1 dX0_kept_10 kX0_217 (X_isAhead (v := n))  rfl rfl (Nat.le_of_ble_eq_true rfl) ?_
    refine r_if_eq 20 dX0_kept_13 (by decide) (fun c_13 => ?_) (fun c_13 => ?_)
    · skip
      have n_13 : (inB (n) (nI 0) (nI 60)) = false := b2_f c_13
      first | rw [ifT n_13] | rw [ifF n_13] | skip
      refine r_iconst (v := nI 0) dX0_kept_20 rfl ?_
      refine r_iconst (v := nI 1) dX0_kept_21 rfl ?_
      refine r_need0 dX0_kept_22 rfl (by exact hx) (Nat.le_of_ble_eq_true rfl) ?_
      refine t_catch [] (0, 139, 140, 8) [] (hx).s22 rfl rfl (fun z hz => by cases hz) rfl (by decide) q126 q128 ?_
      refine r_astore_n 3 dX0_kept_140 rfl (by decide) rfl rfl ?_
      refine gG_ls (ls' := [_, _, _, _, _]) rfl ?_
      refine r_aload_n 0 dX0_kept_141 rfl rfl rfl ?_
      refine r_aload_n 3 dX0_kept_142 rfl rfl rfl ?_
      refine r_callV_1 dX0_kept_143 kX0_131 (X_finds (k := 1) (by exact hx) (by decide)) (gRecv.of hx.s21 rfl) rfl rfl (Nat.le_of_ble_eq_true rfl) ?_
      refine e_iret dX0_kept_146 rfl ?_
      exact RX.err hX.self (FrX.lg (by decide)) (by decide) (by decide) (by decide)
    · skip
      have n_13 : (inB (n) (nI 0) (nI 60)) = true := b2_t c_13
      first | rw [ifT n_13] | rw [ifF n_13] | skip
      obtain ⟨m, h_m, rfl⟩ := inB_n (by decide) n_13
      have e_m : toN (nI m) = m := toN_nI (by omega)
      try simp only [e_m]
      refine r_iconst (v := nI 1) dX0_kept_16 rfl ?_
      refine r_goto 21 dX0_kept_17 (by decide) ?_
      refine r_iconst (v := nI 1) dX0_kept_21 rfl ?_
      refine r_need1 dX0_kept_22 rfl (by exact hx) (Nat.le_of_ble_eq_true rfl) ?_
      refine r_aload_n 0 dX0_kept_25 rfl rfl rfl ?_
      refine r_getr (k := 3) (b := 45) dX0_kept_26 hx.s21 rfl (by decide) (Or.inl q308) (Or.inl rfl) rfl hx.r_tried ?_
      refine r_aload_n 0 dX0_kept_29 rfl rfl rfl ?_
      refine r_getr (k := 1) (b := 23) dX0_kept_30 hx.s21 rfl (by decide) (Or.inl q306) (Or.inl rfl) rfl hx.r_land ?_
      refine gG_h hX.lg.symm ?_
      refine r_callV_1 dX0_kept_33 kX0_220 (L_become (b := 45) (c := 23) hX.hl4 hX.hl (by decide) (by decide) (by decide) hX.hold hX.lw) (gRecv.of hX.hl4.s0 rfl) rfl rfl (Nat.le_of_ble_eq_true rfl) ?_
      refine gG_h (LG_0 _ _ _ _) ?_
      have x1 := hX.fr (FrC.lc (h := h))
      have hx1 := x1.hx
      have hl1 := x1.hl
      have hl4b := x1.hl4
      have hb4 : 21 ≤ 45 ∧ 45 + 10 < 78 := by decide
      have lw4 := hX.lw.lc (b := 45) (by decide) (by decide)
      refine r_iload_n 2 dX0_kept_36 rfl rfl ?_
      refine r_callV_1l dX0_kept_37 kX0_204 (L_goes (r := S.r) (t := -1) (n := m) hl4b hb4 hn hn8 lw4 Vr K (by omega)) (gRecv.of hl4b.s0 rfl) rfl rfl (Nat.le_of_ble_eq_true rfl) (fun g_1 => ?_)
      refine r_getr (k := 4) (b := (45 + 4)) dX0_kept_40 hl4b.s0 rfl (by decide) (Or.inr ⟨_, q227⟩) (Or.inl rfl) rfl hl4b.r_thirst ?_
      refine r_iconst (v := nI 0) dX0_kept_43 rfl ?_
      refine r_aload_n 0 dX0_kept_44 rfl rfl rfl ?_
      refine r_getr (k := 9) (b := 61) dX0_kept_45 hx1.s21 rfl (by decide) (Or.inl q314) (Or.inl rfl) rfl hx1.r_thirstThen ?_
      refine r_iconst (v := nI 0) dX0_kept_48 rfl ?_
      refine r_bipush (v := nI 8) dX0_kept_49 (by decide +kernel) ?_
      refine r_copyI0 (n := 8) dX0_kept_51 kX0_298 hl4b.s4 hx1.s61 (by decide) (by decide) (by decide) (by decide) (fun _ _ => rfl) (Nat.le_of_ble_eq_true rfl) ?_
      refine r_aload_n 0 dX0_kept_54 rfl rfl rfl ?_
      refine r_getr (k := 3) (b := 45) dX0_kept_55 hx1.s21 rfl (by decide) (Or.inl q308) (Or.inl rfl) rfl hx1.r_tried ?_
      refine r_aload_n 0 dX0_kept_58 rfl rfl rfl ?_
      refine r_getr (k := 1) (b := 23) dX0_kept_59 hx1.s21 rfl (by decide) (Or.inl q306) (Or.inl rfl) rfl hx1.r_land ?_
      have x2 : CX (cI (LG (LC h 45 23) 45 (passR S.r (-1) m) (-1) g_1) (45 + 4) 0 61 0 8) S := hX.tried.fr (FrC.c (by unfold EXc; omega))
      refine r_callV_1 dX0_kept_62 kX0_220 (L_become (b := 45) (c := 23) x2.hl4 x2.hl (by decide) (by decide) (by decide) x2.hold x2.lw) (gRecv.of x2.hl4.s0 rfl) rfl rfl (Nat.le_of_ble_eq_true rfl) ?_
      refine gG_h (LG_0 _ _ _ _) ?_
      have x3 := x2.fr (FrC.lc (h := (cI (LG (LC h 45 23) 45 (passR S.r (-1) m) (-1) g_1) (45 + 4) 0 61 0 8)))
      have hx2 := x3.hx
      have hl2 := x3.hl
      have hl42 := x3.hl4
      have lw42 := x2.lw.lc (b := 45) (by decide) (by decide)
      refine r_iload_n 1 dX0_kept_65 rfl rfl ?_
      refine r_puti (k := 7) dX0_kept_66 hl42.s0 rfl (by decide) (Or.inr ⟨_, q233⟩) (Or.inl rfl) (Or.inl rfl) rfl rfl rfl ?_
      refine gG_h LG_wt ?_
      refine r_aload_n 0 dX0_kept_69 rfl rfl rfl ?_
      refine r_getr (k := 3) (b := 45) dX0_kept_70 hx2.s21 rfl (by decide) (Or.inl q308) (Or.inl rfl) rfl hx2.r_tried ?_
      refine r_iload_n 2 dX0_kept_73 rfl rfl ?_
      refine r_callV_1l dX0_kept_74 kX0_204 (L_goes (r := S.r) (t := nI k) (n := m) hl42 hb4 hn hn8 lw42 Vr K (by omega)) (gRecv.of hl42.s0 rfl) rfl rfl (Nat.le_of_ble_eq_true rfl) (fun g_2 => ?_)
      refine r_pop dX0_kept_77 rfl ?_
      refine r_iconst (v := nI 0) dX0_kept_78 rfl ?_
      refine r_istore_n 3 dX0_kept_79 rfl (by decide) rfl ?_
      refine gG_ls (ls' := [_, _, _, _, _]) rfl ?_
      refine r_iconst (v := nI 0) dX0_kept_80 rfl ?_
      refine r_istore dX0_kept_81 (by decide) rfl ?_
      refine gG_ls (ls' := [_, _, _, _, _]) rfl ?_
      have hth : ∀ i, i < 8 → hI (LC (cI (LG (LC h 45 23) 45 (passR S.r (-1) m) (-1) g_1) (45 + 4) 0 61 0 8) 45 23) 61 i = pv (passR S.r (-1) m) i 4 := fun i hi => (cI_at hi).trans (LG_r4 hi)
      refine X_kept_L hx2 hl2 hl42 (r1 := passR S.r (-1) m) (n := np S.r) ((x2.hold 0 0 2 rfl).trans hn) hn8 (by omega) hth (np S.r + 1) 0 (by omega) (by omega) ?_
      refine r_iload_n 3 dX0_kept_138 rfl rfl ?_
      refine e_iret dX0_kept_139 rfl ?_
      exact RX.same x2.tried ((FrX.tried.t (FrX.c (by decide))).t FrX.tried) rfl rfl
theorem X_check_L {d : Nat} {h : Hp} {S : MSt} (hX : CX h S) (w : WF S.r) {n : Nat} (hn20 : n ≤ 20) {Q : gQ} : ∀ (k i : Nat) (g : Row), i + k = n → (∀ (g9 r9 : Row), gG (d + 409) (0) (0) m_X0_check 85 [some (.ref 21), some (.int (nI n)), some (.int (nI ((chF S.r k i).2))), some (.int (b2 (chF S.r k i).1))] [] (LG (LC h 45 23) 45 r9 (-1) g9) (Q)) → gG (d + 409) (0) (0) m_X0_check 32 [some (.ref 21), some (.int (nI n)), some (.int (nI i)), some (.int (nI 1))] [] (LG (LC h 45 23) 45 (passR S.r (-1) i) (-1) g) (Q) := by
  intro k
  induction k with
  | zero =>
    intro i g hi kk
    refine r_iload_n 2 dX0_check_32 rfl rfl ?_
    refine r_iload_n 1 dX0_check_33 rfl rfl ?_
    refine r_icmp_ge 85 dX0_check_34 (by decide) (fun c_34 => ?_) (fun c_34 => ?_)
    · skip
      have n_34 : n ≤ i := n_ge (by omega) (by omega) c_34
      exact kk _ _
    · skip
      have n_34 : i < n := n_gen (by omega) (by omega) c_34
      exact absurd n_34 (by omega)
  | succ k ih =>
  intro i g hi kk
  have hn8 := w.n8
  have hx := hX.hx
  have hl := hX.hl
  have hb : 21 ≤ 23 ∧ 23 + 10 < 78 := by decide
  have hn : S.r 2 = nI (np S.r) := w.n
  have lw := hX.lw
  have Vr := w.V
  have K := w.K
  have x1 := hX.fr (FrC.lc (h := h))
  have hx1 := x1.hx
  have hl1 := x1.hl
  have hl4b := x1.hl4
  have hb4 : 21 ≤ 45 ∧ 45 + 10 < 78 := by decide
  have lw4 := hX.lw.lc (b := 45) (by decide) (by decide)
  have hRS : RS S.r (passR S.r (-1) i) := passR_RS hn8 i
  have hV := passR_V (mn := -1) Vr K hn8 i
  have hRS2 : RS S.r (passR S.r (-1) (i + 1)) := passR_RS hn8 (i + 1)
  refine r_iload_n 2 dX0_check_32 rfl rfl ?_
  refine r_iload_n 1 dX0_check_33 rfl rfl ?_
  refine r_icmp_ge 85 dX0_check_34 (by decide) (fun c_34 => ?_) (fun c_34 => ?_)
  · skip
    have n_34 : n ≤ i := n_ge (by omega) (by omega) c_34
    exact absurd n_34 (by omega)
  · skip
    have n_34 : i < n := n_gen (by omega) (by omega) c_34
    refine r_iload_n 3 dX0_check_37 rfl rfl ?_
    refine r_if_eq 85 dX0_check_38 (by decide) (fun c_38 => ?_) (fun c_38 => ?_)
    · skip
      have n_38 : 1 = 0 := n_eq0 (by omega) c_38
      exact absurd n_38 (by decide)
    · skip
      have n_38 : ¬ 1 = 0 := n_ne0 (by omega) c_38
      refine r_aload_n 0 dX0_check_41 rfl rfl rfl ?_
      refine r_getr (k := 1) (b := 23) dX0_check_42 hx1.s21 rfl (by decide) (Or.inl q306) (Or.inl rfl) rfl hx1.r_land ?_
      refine r_getr (k := 12) (b := (23 + 8)) dX0_check_45 hl1.s0 rfl (by decide) (Or.inr ⟨_, q243⟩) (Or.inl rfl) rfl hl1.r_waiting ?_
      refine r_iload_n 2 dX0_check_48 rfl rfl ?_
      refine r_ialdN (i) dX0_check_49 hl1.s8 rfl (by omega) (by decide) ?_
      refine r_eqi (show _ = (S.r (161 + i)) from (hX.tried.hold 8 i _ (ix_8 (by omega)))) ?_
      refine r_aload_n 0 dX0_check_50 rfl rfl rfl ?_
      refine r_getr (k := 3) (b := 45) dX0_check_51 hx1.s21 rfl (by decide) (Or.inl q308) (Or.inl rfl) rfl hx1.r_tried ?_
      refine r_iconst (v := nI 1) dX0_check_54 rfl ?_
      refine r_callV_1l dX0_check_55 kX0_204 (L_goes (r := passR S.r (-1) i) (t := -1) (n := 1) hl4b hb4 (by rw [hRS.npe]; exact hRS.two.trans hn) (by rw [hRS.npe]; exact hn8) (lw4.rt (RT.of hRS)) hV (hRS.K K) (by decide)) (gRecv.of hl4b.s0 rfl) rfl rfl (Nat.le_of_ble_eq_true rfl) (fun g_1 => ?_)
      refine gG_h (show _ = LG (LC h 45 23) 45 (passR S.r (-1) (i + 1)) (-1) _ from rfl) ?_
      refine r_callV_1 dX0_check_58 kX0_208 (L_allWater (r := (passR S.r (-1) (i + 1))) (t := -1) hl4b hb4 (by rw [hRS2.npe]; exact hRS2.two.trans hn) (by rw [hRS2.npe]; exact hn8)) (gRecv.of hl4b.s0 rfl) rfl rfl (Nat.le_of_ble_eq_true rfl) ?_
      rw [hRS2.npe]
      refine r_icmp_ne 68 dX0_check_61 (by decide) (fun c_61 => ?_) (fun c_61 => ?_)
      · skip
        refine r_iconst (v := nI 0) dX0_check_68 rfl ?_
        refine r_istore_n 3 dX0_check_69 rfl (by decide) rfl ?_
        refine gG_ls (ls' := [_, _, _, _]) rfl ?_
        refine r_iload_n 2 dX0_check_70 rfl rfl ?_
        refine r_iload_n 3 dX0_check_71 rfl rfl ?_
        refine r_if_eq 79 dX0_check_72 (by decide) (fun c_72 => ?_) (fun c_72 => ?_)
        · skip
          have n_72 : 0 = 0 := n_eq0 (by omega) c_72
          refine r_iconst (v := nI 0) dX0_check_79 rfl ?_
          refine r_iadd dX0_check_80 ?_
          refine r_eqi (show _ = nI (i + 0) from by simp only [pk_mul, nI_add]) ?_
          refine r_istore_n 2 dX0_check_81 rfl (by decide) rfl ?_
          refine gG_ls (ls' := [_, _, _, _]) rfl ?_
          refine r_goto 32 dX0_check_82 (by decide) ?_
          rw [chF_f (fun q => c_61 q.symm)] at kk
          refine r_iload_n 2 dX0_check_32 rfl rfl ?_
          refine r_iload_n 1 dX0_check_33 rfl rfl ?_
          refine r_icmp_ge 85 dX0_check_34 (by decide) (fun c_34 => ?_) (fun c_34 => ?_)
          · skip
            have n_34 : n ≤ (i + 0) := n_ge (by omega) (by omega) c_34
            exact kk _ _
          · skip
            have n_34 : (i + 0) < n := n_gen (by omega) (by omega) c_34
            refine r_iload_n 3 dX0_check_37 rfl rfl ?_
            refine r_if_eq 85 dX0_check_38 (by decide) (fun c_38 => ?_) (fun c_38 => ?_)
            · skip
              have n_38 : 0 = 0 := n_eq0 (by omega) c_38
              exact kk _ _
            · skip
              have n_38 : ¬ 0 = 0 := n_ne0 (by omega) c_38
              exact absurd n_38 (by decide)
        · skip
          have n_72 : ¬ 0 = 0 := n_ne0 (by omega) c_72
          exact absurd n_72 (by decide)
      · skip
        refine r_iconst (v := nI 1) dX0_check_64 rfl ?_
        refine r_goto 69 dX0_check_65 (by decide) ?_
        refine r_istore_n 3 dX0_check_69 rfl (by decide) rfl ?_
        refine gG_ls (ls' := [_, _, _, _]) rfl ?_
        refine r_iload_n 2 dX0_check_70 rfl rfl ?_
        refine r_iload_n 3 dX0_check_71 rfl rfl ?_
        refine r_if_eq 79 dX0_check_72 (by decide) (fun c_72 => ?_) (fun c_72 => ?_)
        · skip
          have n_72 : 1 = 0 := n_eq0 (by omega) c_72
          exact absurd n_72 (by decide)
        · skip
          have n_72 : ¬ 1 = 0 := n_ne0 (by omega) c_72
          refine r_iconst (v := nI 1) dX0_check_75 rfl ?_
          refine r_goto 80 dX0_check_76 (by decide) ?_
          refine r_iadd dX0_check_80 ?_
          refine r_eqi (show _ = nI (i + 1) from by simp only [pk_mul, nI_add]) ?_
          refine r_istore_n 2 dX0_check_81 rfl (by decide) rfl ?_
          refine gG_ls (ls' := [_, _, _, _]) rfl ?_
          refine r_goto 32 dX0_check_82 (by decide) ?_
          rw [chF_t (Eq.symm (Decidable.not_not.mp fun q => q c_61))] at kk
          exact ih (i + 1) _ (by omega) kk
theorem X_check_2 {d : Nat} {h : Hp} {S : MSt} (hX : CX h S) (w : WF S.r) {n : Nat} (hn20 : n ≤ 20) {y2 y3 : Option Value} : gG (d + 409) (0) (0) m_X0_check 16 [some (.ref 21), some (.int (nI n)), y2, y3] [] (h) (RX h (if (chF S.r n 0).1 = true then nI 0 else nI (1 + (chF S.r n 0).2), S)) := by
  have hn8 := w.n8
  have hx := hX.hx
  have hl := hX.hl
  have hb : 21 ≤ 23 ∧ 23 + 10 < 78 := by decide
  have hn : S.r 2 = nI (np S.r) := w.n
  have lw := hX.lw
  have Vr := w.V
  have K := w.K
  refine gG_h hX.lg ?_
  refine r_aload_n 0 dX0_check_16 rfl rfl rfl ?_
  refine r_getr (k := 3) (b := 45) dX0_check_17 hx.s21 rfl (by decide) (Or.inl q308) (Or.inl rfl) rfl hx.r_tried ?_
  refine r_aload_n 0 dX0_check_20 rfl rfl rfl ?_
  refine r_getr (k := 1) (b := 23) dX0_check_21 hx.s21 rfl (by decide) (Or.inl q306) (Or.inl rfl) rfl hx.r_land ?_
  refine gG_h hX.lg.symm ?_
  refine r_callV_1 dX0_check_24 kX0_220 (L_become (b := 45) (c := 23) hX.hl4 hX.hl (by decide) (by decide) (by decide) hX.hold hX.lw) (gRecv.of hX.hl4.s0 rfl) rfl rfl (Nat.le_of_ble_eq_true rfl) ?_
  refine gG_h (LG_0 _ _ _ _) ?_
  have x1 := hX.fr (FrC.lc (h := h))
  have hx1 := x1.hx
  have hl1 := x1.hl
  have hl4b := x1.hl4
  have hb4 : 21 ≤ 45 ∧ 45 + 10 < 78 := by decide
  have lw4 := hX.lw.lc (b := 45) (by decide) (by decide)
  refine r_pop dX0_check_27 rfl ?_
  refine r_iconst (v := nI 0) dX0_check_28 rfl ?_
  refine r_istore_n 2 dX0_check_29 rfl (by decide) rfl ?_
  refine gG_ls (ls' := [_, _, _, _]) rfl ?_
  refine r_iconst (v := nI 1) dX0_check_30 rfl ?_
  refine r_istore_n 3 dX0_check_31 rfl (by decide) rfl ?_
  refine gG_ls (ls' := [_, _, _, _]) rfl ?_
  refine X_check_L hX w hn20 n 0 _ (by omega) (fun g_9 r_9 => ?_)
  refine r_iload_n 3 dX0_check_85 rfl rfl ?_
  refine r_if_eq 93 dX0_check_86 (by decide) (fun c_86 => ?_) (fun c_86 => ?_)
  · skip
    have n_86 : (chF S.r n 0).1 = false := b2_f c_86
    first | rw [ifT n_86] | rw [ifF n_86] | skip
    refine r_iconst (v := nI 1) dX0_check_93 rfl ?_
    refine r_iload_n 2 dX0_check_94 rfl rfl ?_
    refine r_iadd dX0_check_95 ?_
    refine r_eqi (show _ = nI (1 + (chF S.r n 0).2) from by simp only [pk_mul, nI_add]) ?_
    refine e_iret dX0_check_96 rfl ?_
    exact RX.same hX.tried FrX.tried rfl rfl
  · skip
    have n_86 : (chF S.r n 0).1 = true := b2_t c_86
    first | rw [ifT n_86] | rw [ifF n_86] | skip
    refine r_iconst (v := nI 0) dX0_check_89 rfl ?_
    refine r_goto 96 dX0_check_90 (by decide) ?_
    refine e_iret dX0_check_96 rfl ?_
    exact RX.same hX.tried FrX.tried rfl rfl
theorem X_check {d : Nat} {h : Hp} {S : MSt} (hX : CX h S) (w : WF S.r)  : gC (d + 409) (0) (0) m_X0_check [.ref 21] (h) (RX h (aCheck S)) := by
  have e_0 : aCheck S = ((if (chF (ru S.r 4 (nI 0)) (toN (S.r 4)) 0).1 = true then nI 0 else nI (1 + (chF (ru S.r 4 (nI 0)) (toN (S.r 4)) 0).2), S.s_r (ru S.r 4 (nI 0)))) := rfl
  rw [e_0]
  have hn8 := w.n8
  have hx := hX.hx
  have hl := hX.hl
  have hb : 21 ≤ 23 ∧ 23 + 10 < 78 := by decide
  have hn : S.r 2 = nI (np S.r) := w.n
  have lw := hX.lw
  have Vr := w.V
  have K := w.K
  obtain ⟨z, h4, hz⟩ := w.Z
  have e_z : toN (S.r 4) = z := by rw [h4]; exact toN_nI (by omega)
  rw [e_z]
  have w0 : WF (ru S.r 4 (nI 0)) := w.four (by decide)
  have x0 : CX (LG h 23 (ru S.r 4 (nI 0)) (-1) (hI h 33)) (S.s_r (ru S.r 4 (nI 0))) := hX.land (lw.ru RU.w4)
  refine gC.of (ls := [some (.ref 21), none, none, none]) (by decide +kernel) rfl rfl rfl rfl (Nat.le_of_ble_eq_true rfl) ?_
  refine gG_h hX.lg ?_
  refine r_aload_n 0 dX0_check_0 rfl rfl rfl ?_
  refine r_getr (k := 1) (b := 23) dX0_check_1 hx.s21 rfl (by decide) (Or.inl q306) (Or.inl rfl) rfl hx.r_land ?_
  refine r_geti (k := 13) dX0_check_4 hl.s0 rfl (by decide) (Or.inr ⟨_, q245⟩) (Or.inl rfl) rfl ?_
  refine r_eqi (show _ = nI (z) from ((LG_r0 (k := 13) (i := 4) rfl).trans h4)) ?_
  refine r_istore_n 1 dX0_check_7 rfl (by decide) rfl ?_
  refine gG_ls (ls' := [_, _, _, _]) rfl ?_
  refine r_aload_n 0 dX0_check_8 rfl rfl rfl ?_
  refine r_getr (k := 1) (b := 23) dX0_check_9 hx.s21 rfl (by decide) (Or.inl q306) (Or.inl rfl) rfl hx.r_land ?_
  refine r_iconst (v := nI 0) dX0_check_12 rfl ?_
  refine r_puti (k := 13) dX0_check_13 hl.s0 rfl (by decide) (Or.inr ⟨_, q245⟩) (Or.inl rfl) (Or.inl rfl) rfl rfl rfl ?_
  refine gG_h (LG_w0 (k := 13) (i := 4) rfl) ?_
  refine gG_mono (fun o h9 q => ⟨q.1, q.2.1, (FrX.lg (by decide)).t q.2.2⟩) (X_check_2 (S := S.s_r (ru S.r 4 (nI 0))) x0 w0 hz)
theorem X_image {d : Nat} {h : Hp} {S : MSt} (hX : CX h S) (w : WF S.r)  : gC (d + 2) (0) (0) m_X0_image [.ref 21] (h) (RX h (aImage S)) := by
  have e_0 : aImage S = ((S.images + nI 1, ((S.s_kept (cpR 281 S.r S.kept)).s_isK (nI 1)).s_images (S.images + nI 1))) := rfl
  rw [e_0]
  have hn8 := w.n8
  have hx := hX.hx
  have hl := hX.hl
  have hb : 21 ≤ 23 ∧ 23 + 10 < 78 := by decide
  have hn : S.r 2 = nI (np S.r) := w.n
  have lw := hX.lw
  have Vr := w.V
  have K := w.K
  refine gC.of (ls := [some (.ref 21), none]) (by decide +kernel) rfl rfl rfl rfl (Nat.le_of_ble_eq_true rfl) ?_
  refine r_aload_n 0 dX0_image_0 rfl rfl rfl ?_
  refine r_getr (k := 2) (b := 34) dX0_image_1 hx.s21 rfl (by decide) (Or.inl q307) (Or.inl rfl) rfl hx.r_image ?_
  refine r_aload_n 0 dX0_image_4 rfl rfl rfl ?_
  refine r_getr (k := 1) (b := 23) dX0_image_5 hx.s21 rfl (by decide) (Or.inl q306) (Or.inl rfl) rfl hx.r_land ?_
  refine r_callV_1 dX0_image_8 kX0_220 (L_become (b := 34) (c := 23) hX.hl3 hX.hl (by decide) (by decide) (by decide) hX.hold hX.lw) (gRecv.of hX.hl3.s0 rfl) rfl rfl (Nat.le_of_ble_eq_true rfl) ?_
  have hxi : LayX (hS h) (hR (LC h 34 23)) := hX.hx.rr (fun _ _ => rfl) (LC_R (by decide) (by decide)) (LC_R (by decide) (by decide)) (LC_R (by decide) (by decide))
  refine r_astore_n 1 dX0_image_11 rfl (by decide) rfl rfl ?_
  refine gG_ls (ls' := [_, _]) rfl ?_
  refine r_aload_n 0 dX0_image_12 rfl rfl rfl ?_
  refine r_dup dX0_image_13 rfl ?_
  refine r_geti (k := 4) dX0_image_14 hxi.s21 rfl (by decide) (Or.inl q309) (Or.inl rfl) rfl ?_
  refine r_eqi (show _ = S.images from ((congrFun (LH_o (by omega)) 4).trans hX.im)) ?_
  refine r_iconst (v := nI 1) dX0_image_17 rfl ?_
  refine r_iadd dX0_image_18 ?_
  refine r_puti (k := 4) dX0_image_19 hxi.s21 rfl (by decide) (Or.inl q309) (Or.inl rfl) (Or.inl rfl) rfl rfl rfl ?_
  refine r_aload_n 0 dX0_image_22 rfl rfl rfl ?_
  refine r_geti (k := 4) dX0_image_23 hxi.s21 rfl (by decide) (Or.inl q309) (Or.inl rfl) rfl ?_
  refine r_eqi (show _ = (S.images + nI 1) from rfl) ?_
  refine e_iret dX0_image_26 rfl ?_
  exact ⟨rfl, hX.image (fun _ => trivial), (FrX.lc (by decide)).t ((FrX.lh (by decide)).t (FrX.w (by decide)))⟩
theorem X_restore {d : Nat} {h : Hp} {S : MSt} (hX : CX h S) (w : WF S.r) (hK : (S.isK = 0 ∧ S.images = nI 0) ∨ (S.isK ≠ 0 ∧ ∃ n, S.images = nI n ∧ 0 < n ∧ n < 2147483648)) : gC (d + 5) (0) (0) m_X0_restore [.ref 21] (h) (RX h (aRestore S)) := by
  have e_0 : aRestore S = (if S.isK = 0 then errA S (-1000000002) 2 else (S.kept 0, S.s_r (cpR 281 S.kept S.r))) := rfl
  rw [e_0]
  have hn8 := w.n8
  have hx := hX.hx
  have hl := hX.hl
  have hb : 21 ≤ 23 ∧ 23 + 10 < 78 := by decide
  have hn : S.r 2 = nI (np S.r) := w.n
  have lw := hX.lw
  have Vr := w.V
  have K := w.K
  refine gC.ofH (ls := [some (.ref 21), none]) (by decide +kernel) rfl rfl rfl rfl (Nat.le_of_ble_eq_true rfl) ?_
  refine r_aload_n 0 dX0_restore_0 rfl rfl rfl ?_
  refine r_aload_n 0 dX0_restore_1 rfl rfl rfl ?_
  refine r_geti (k := 4) dX0_restore_2 hx.s21 rfl (by decide) (Or.inl q309) (Or.inl rfl) rfl ?_
  refine r_eqi (show _ = S.images from hX.im) ?_
  refine r_if_le 12 dX0_restore_5 (by decide) (fun c_5 => ?_) (fun c_5 => ?_)
  · skip
    first | rw [iP c_5] | rw [iN c_5] | rw [iN (i_le_nlt c_5)] | rw [iP (i_nle c_5)] | rw [iP (i_nlt c_5)] | rw [iN (i_lt_nle c_5)] | skip
    have k0 : S.isK = 0 := by rcases hK with ⟨k0, ki⟩ | ⟨k0, n, ki, kp, kl⟩; exact k0; exact absurd c_5 (by rw [ki]; exact nI_nle kp kl)
    rw [iP k0]
    refine r_iconst (v := nI 0) dX0_restore_12 rfl ?_
    refine r_iconst (v := nI 2) dX0_restore_13 rfl ?_
    refine r_need0 dX0_restore_14 rfl (by exact hx) (Nat.le_of_ble_eq_true rfl) ?_
    refine t_catch [] (0, 31, 32, 8) [] (hx).s22 rfl rfl (fun z hz => by cases hz) rfl (by decide) q126 q128 ?_
    refine r_astore_n 1 dX0_restore_32 rfl (by decide) rfl rfl ?_
    refine gG_ls (ls' := [_, _]) rfl ?_
    refine r_aload_n 0 dX0_restore_33 rfl rfl rfl ?_
    refine r_aload_n 1 dX0_restore_34 rfl rfl rfl ?_
    refine r_callV_1 dX0_restore_35 kX0_131 (X_finds (k := 2) (by exact hx) (by decide)) (gRecv.of hx.s21 rfl) rfl rfl (Nat.le_of_ble_eq_true rfl) ?_
    refine e_iret dX0_restore_38 rfl ?_
    exact RX.err hX FrX.r (by decide) (by decide) (by decide)
  · skip
    first | rw [iP c_5] | rw [iN c_5] | rw [iN (i_le_nlt c_5)] | rw [iP (i_nle c_5)] | rw [iP (i_nlt c_5)] | rw [iN (i_lt_nle c_5)] | skip
    have k0 : S.isK ≠ 0 := by rcases hK with ⟨k0, ki⟩ | ⟨k0, n, ki, kp, kl⟩; exact absurd (by rw [ki]; decide) c_5; exact k0
    rw [iN k0]
    refine r_iconst (v := nI 1) dX0_restore_8 rfl ?_
    refine r_goto 13 dX0_restore_9 (by decide) ?_
    refine r_iconst (v := nI 2) dX0_restore_13 rfl ?_
    refine r_need1 dX0_restore_14 rfl (by exact hx) (Nat.le_of_ble_eq_true rfl) ?_
    refine r_aload_n 0 dX0_restore_17 rfl rfl rfl ?_
    refine r_getr (k := 1) (b := 23) dX0_restore_18 hx.s21 rfl (by decide) (Or.inl q306) (Or.inl rfl) rfl hx.r_land ?_
    refine r_aload_n 0 dX0_restore_21 rfl rfl rfl ?_
    refine r_getr (k := 2) (b := 34) dX0_restore_22 hx.s21 rfl (by decide) (Or.inl q307) (Or.inl rfl) rfl hx.r_image ?_
    refine r_callV_1 dX0_restore_25 kX0_220 (L_become (b := 23) (c := 34) hX.hl hX.hl3 (by decide) (by decide) (by decide) (hX.kept k0).1 (hX.kept k0).2) (gRecv.of hX.hl.s0 rfl) rfl rfl (Nat.le_of_ble_eq_true rfl) ?_
    have hl9 : LayL (hS h) (hR (LC h 23 34)) 23 := hX.hl.rr (LC_R (by decide) (by decide)) (LC_R (by decide) (by decide))
    refine r_geti (k := 6) dX0_restore_28 hl.s0 rfl (by decide) (Or.inr ⟨_, q231⟩) (Or.inl rfl) rfl ?_
    refine r_eqi (show _ = (S.kept 0) from (LH_r (b := 23) (o := 0) (k := 6) (i := 0) rfl)) ?_
    refine e_iret dX0_restore_31 rfl ?_
    exact ⟨rfl, hX.restore k0, (FrX.lc (by decide)).t (FrX.lh (by decide))⟩
