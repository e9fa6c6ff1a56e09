theorem M_sumOf_L {d : Nat} {h : Hp} (hm : LayM (hS h) (hR h)) {r o : Row} {q n : Nat} (hq : q ≤ 4) (hn : r 2 = nI n) (hn8 : n ≤ 8) {Q : gQ} : ∀ (k i : Nat), i ≤ n → n + 1 ≤ i + k → (gG (d + 1) (0) (0) m_X6_sumOf 29 [some (.ref 66), some (.int (nI q)), some (.int (sumW r q (n))), some (.int (nI n))] [] (MH h r o) (Q)) → gG (d + 1) (0) (0) m_X6_sumOf 4 [some (.ref 66), some (.int (nI q)), some (.int (sumW r q (i))), some (.int (nI i))] [] (MH h r o) (Q) := by
  intro k
  induction k with
  | zero => exact fun i h1 h2 => absurd h2 (by omega)
  | succ k ih =>
  intro i hi hk kk
  refine r_iload_n 3 dX6_sumOf_4 rfl rfl ?_
  refine r_aload_n 0 dX6_sumOf_5 rfl rfl rfl ?_
  refine r_getr (k := 0) (b := 67) dX6_sumOf_6 hm.s66 rfl (by decide) (Or.inl q1416) (Or.inl rfl) rfl hm.r_row ?_
  refine r_iconst (v := nI 2) dX6_sumOf_9 rfl ?_
  refine r_ialdN (2) dX6_sumOf_10 hm.s67 rfl (by omega) (by decide) ?_
  refine r_eqi (show _ = nI (n) from hn) ?_
  refine r_icmp_ge 29 dX6_sumOf_11 (by decide) (fun c_11 => ?_) (fun c_11 => ?_)
  · skip
    have n_11 : n ≤ i := n_ge (by omega) (by omega) c_11
    have hin : i = n := by omega
    subst hin
    exact kk
  · skip
    have n_11 : i < n := n_gen (by omega) (by omega) c_11
    refine r_iload_n 2 dX6_sumOf_14 rfl rfl ?_
    refine r_aload_n 0 dX6_sumOf_15 rfl rfl rfl ?_
    refine r_iload_n 3 dX6_sumOf_16 rfl rfl ?_
    refine r_iload_n 1 dX6_sumOf_17 rfl rfl ?_
    refine r_callV_1 dX6_sumOf_18 kX6_75 (M_its (p := i) (w := q) hm (by omega)) (gRecv.of hm.s66 rfl) rfl rfl (Nat.le_of_ble_eq_true rfl) ?_
    refine r_iadd dX6_sumOf_21 ?_
    refine r_istore_n 2 dX6_sumOf_22 rfl (by decide) rfl ?_
    refine gG_ls (ls' := [_, _, _, _]) rfl ?_
    refine r_iinc dX6_sumOf_23 rfl (by decide) rfl ?_
    refine gG_ls (ls' := [_, _, _, some (.int (nI ((i + 1))))]) (by rw [show (Int32.ofInt 1) = nI 1 from rfl, nI_add]; rfl) ?_
    refine r_goto 4 dX6_sumOf_26 (by decide) ?_
    exact ih (i + 1) (by omega) (by omega) kk
theorem M_sumOf {d : Nat} {h : Hp} (hm : LayM (hS h) (hR h)) {r o : Row} {q n : Nat} (hq : q ≤ 4) (hn : r 2 = nI n) (hn8 : n ≤ 8) : gC (d + 1) (0) (0) m_X6_sumOf [.ref 66, .int (nI q)] (MH h r o) (Ret (some (.int (sumW r q n))) (MH h r o)) := by
  refine gC.of (ls := [some (.ref 66), some (.int (nI q)), none, none]) (by decide +kernel) rfl rfl rfl rfl (Nat.le_of_ble_eq_true rfl) ?_
  refine r_iconst (v := nI 0) dX6_sumOf_0 rfl ?_
  refine r_istore_n 2 dX6_sumOf_1 rfl (by decide) rfl ?_
  refine gG_ls (ls' := [_, _, _, _]) rfl ?_
  refine r_iconst (v := nI 0) dX6_sumOf_2 rfl ?_
  refine r_istore_n 3 dX6_sumOf_3 rfl (by decide) rfl ?_
  refine gG_ls (ls' := [_, _, _, _]) rfl ?_
  refine M_sumOf_L hm hq hn hn8 (n + 1) 0 (by omega) (by omega) ?_
  refine r_iload_n 2 dX6_sumOf_29 rfl rfl ?_
  refine e_iret dX6_sumOf_30 rfl ?_
  exact ⟨rfl, rfl⟩
theorem A_days {d : Nat} {h : Hp} (hm : LayM (hS h) (hR h)) {r o : Row} (w : WF r) (ho : o 15 = -1) {c : Int32} : gC (d + 420) (0) (0) m_X6_days [.ref 66, .int c] (MH h r o) (RA h (aDays (mS h r o) c)) := by
  have e_0 : aDays (mS h r o) c = (if inB c (nI 1) (nI 60) = true then (if nI 9999 < r 0 + c then errA (mS h r o) (-1000000003) 3 else (sumW (passR r (-1) (toN c)) 3 (np r), (mS h r o).s_r (passR r (-1) (toN c)))) else errA (mS h r o) (-1000000001) 1) := rfl
  rw [e_0]
  have hn8 := w.n8
  refine gC.of (ls := [some (.ref 66), some (.int c)]) (by decide +kernel) rfl rfl rfl rfl (Nat.le_of_ble_eq_true rfl) ?_
  refine r_iload_n 1 dX6_days_0 rfl rfl ?_
  refine r_iconst (v := nI 1) dX6_days_1 rfl ?_
  refine r_bipush (v := nI 60) dX6_days_2 (by decide +kernel) ?_
  refine r_callS_1 dX6_days_4 kX6_48 (M_in)  rfl rfl (Nat.le_of_ble_eq_true rfl) ?_
  refine r_if_ne 17 dX6_days_7 (by decide) (fun c_7 => ?_) (fun c_7 => ?_)
  · skip
    have n_7 : _ = true := b2_t c_7
    first | rw [ifT n_7] | rw [ifF n_7] | skip
    obtain ⟨n, h_1, h_m, rfl⟩ := inB_p (by decide) n_7
    have e_n : toN (nI n) = n := toN_nI (by omega)
    rw [e_n]
    refine r_aload_n 0 dX6_days_17 rfl rfl rfl ?_
    refine r_getr (k := 0) (b := 67) dX6_days_18 hm.s66 rfl (by decide) (Or.inl q1416) (Or.inl rfl) rfl hm.r_row ?_
    refine r_iconst (v := nI 0) dX6_days_21 rfl ?_
    refine r_ialdN (0) dX6_days_22 hm.s67 rfl (by omega) (by decide) ?_
    refine r_eqi (show _ = (r 0) from rfl) ?_
    refine r_iload_n 1 dX6_days_23 rfl rfl ?_
    refine r_iadd dX6_days_24 ?_
    refine r_sipush (v := nI 9999) dX6_days_25 (by decide +kernel) ?_
    refine r_icmp_le 38 dX6_days_28 (by decide) (fun c_28 => ?_) (fun c_28 => ?_)
    · skip
      first | rw [iP c_28] | rw [iN c_28] | rw [iN (i_le_nlt c_28)] | rw [iP (i_nle c_28)] | rw [iP (i_nlt c_28)] | rw [iN (i_lt_nle c_28)] | skip
      refine r_aload_n 0 dX6_days_38 rfl rfl rfl ?_
      refine r_iload_n 1 dX6_days_39 rfl rfl ?_
      refine r_callV_0m dX6_days_40 kX6_183 (M_passes (mn := (-1)) (q := n) hm (by omega) w.T w.K w.n w.n8 ((Jo.r).2.2.1.trans ho)) (gRecv.of hm.s66 rfl) rfl rfl (Nat.le_of_ble_eq_true rfl) (fun o_1 j_1 => ?_)
      refine r_aload_n 0 dX6_days_43 rfl rfl rfl ?_
      refine r_iconst (v := nI 3) dX6_days_44 rfl ?_
      refine r_callV_1 dX6_days_45 kX6_186 (M_sumOf (q := 3) (n := np r) hm (by decide) ((passR_RS (mn := -1) w.n8 n).two.trans w.n) w.n8) (gRecv.of hm.s66 rfl) rfl rfl (Nat.le_of_ble_eq_true rfl) ?_
      refine e_iret dX6_days_48 rfl ?_
      exact RA.mk ((Jo.r).t j_1) ho (FrM.r) (rfl) (rfl)
    · skip
      first | rw [iP c_28] | rw [iN c_28] | rw [iN (i_le_nlt c_28)] | rw [iP (i_nle c_28)] | rw [iP (i_nlt c_28)] | rw [iN (i_lt_nle c_28)] | skip
      refine r_aload_n 0 dX6_days_31 rfl rfl rfl ?_
      refine r_ldc (v := -1000000003) dX6_days_32 q1661 ?_
      refine r_callV_1 dX6_days_34 kX6_53 (M_errs hm (e := (-1000000003 : Int32)) 3 (by decide +kernel) (by decide)) (gRecv.of hm.s66 rfl) rfl rfl (Nat.le_of_ble_eq_true rfl) ?_
      refine e_iret dX6_days_37 rfl ?_
      exact RA.mk (Jo.r) ho ((FrM.r).b (by decide)) (rfl) (rfl)
  · skip
    have n_7 : _ = false := b2_f c_7
    first | rw [ifT n_7] | rw [ifF n_7] | skip
    refine r_aload_n 0 dX6_days_10 rfl rfl rfl ?_
    refine r_ldc (v := -1000000001) dX6_days_11 q1511 ?_
    refine r_callV_1 dX6_days_13 kX6_53 (M_errs hm (e := (-1000000001 : Int32)) 1 (by decide +kernel) (by decide)) (gRecv.of hm.s66 rfl) rfl rfl (Nat.le_of_ble_eq_true rfl) ?_
    refine e_iret dX6_days_16 rfl ?_
    exact RA.mk (Jo.r) ho ((FrM.r).b (by decide)) (rfl) (rfl)
theorem A_then {d : Nat} {h : Hp} (hm : LayM (hS h) (hR h)) {r o : Row} (w : WF r) (ho : o 15 = -1) {n p q : Int32} : gC (d + 420) (0) (0) m_X6_then [.ref 66, .int n, .int p, .int q] (MH h r o) (RA h (aThen (mS h r o) n p q)) := by
  have e_0 : aThen (mS h r o) n p q = (if inB n (nI 0) (nI 60) = true then (if inB p 0 (r 2 - 1) = true then (if inB q (nI 0) (nI 1) = true then (pv (passR r (-1) (toN n)) (toN p) (3 + toN q), (mS h r o)) else errA (mS h r o) (-1000000001) 1) else errA (mS h r o) (-1000000001) 1) else errA (mS h r o) (-1000000001) 1) := rfl
  rw [e_0]
  have hn8 := w.n8
  refine gC.of (ls := [some (.ref 66), some (.int n), some (.int p), some (.int q), none]) (by decide +kernel) rfl rfl rfl rfl (Nat.le_of_ble_eq_true rfl) ?_
  refine r_iload_n 1 dX6_then_0 rfl rfl ?_
  refine r_iconst (v := nI 0) dX6_then_1 rfl ?_
  refine r_bipush (v := nI 60) dX6_then_2 (by decide +kernel) ?_
  refine r_callS_1 dX6_then_4 kX6_48 (M_in)  rfl rfl (Nat.le_of_ble_eq_true rfl) ?_
  refine r_if_eq 27 dX6_then_7 (by decide) (fun c_7 => ?_) (fun c_7 => ?_)
  · skip
    have n_7 : _ = false := b2_f c_7
    first | rw [ifT n_7] | rw [ifF n_7] | skip
    refine r_aload_n 0 dX6_then_27 rfl rfl rfl ?_
    refine r_ldc (v := -1000000001) dX6_then_28 q1511 ?_
    refine r_callV_1 dX6_then_30 kX6_53 (M_errs hm (e := (-1000000001 : Int32)) 1 (by decide +kernel) (by decide)) (gRecv.of hm.s66 rfl) rfl rfl (Nat.le_of_ble_eq_true rfl) ?_
    refine e_iret dX6_then_33 rfl ?_
    exact RA.mk (Jo.r) ho ((FrM.r).b (by decide)) (rfl) (rfl)
  · skip
    have n_7 : _ = true := b2_t c_7
    first | rw [ifT n_7] | rw [ifF n_7] | skip
    obtain ⟨m, h_m, rfl⟩ := inB_n (by decide) n_7
    have e_m : toN (nI m) = m := toN_nI (by omega)
    try simp only [e_m]
    refine r_aload_n 0 dX6_then_10 rfl rfl rfl ?_
    refine r_iload_n 2 dX6_then_11 rfl rfl ?_
    refine r_callV_1 dX6_then_12 kX6_62 (M_isOne hm) (gRecv.of hm.s66 rfl) rfl rfl (Nat.le_of_ble_eq_true rfl) ?_
    refine r_if_eq 27 dX6_then_15 (by decide) (fun c_15 => ?_) (fun c_15 => ?_)
    · skip
      have n_15 : _ = false := b2_f c_15
      first | rw [ifT n_15] | rw [ifF n_15] | skip
      refine r_aload_n 0 dX6_then_27 rfl rfl rfl ?_
      refine r_ldc (v := -1000000001) dX6_then_28 q1511 ?_
      refine r_callV_1 dX6_then_30 kX6_53 (M_errs hm (e := (-1000000001 : Int32)) 1 (by decide +kernel) (by decide)) (gRecv.of hm.s66 rfl) rfl rfl (Nat.le_of_ble_eq_true rfl) ?_
      refine e_iret dX6_then_33 rfl ?_
      exact RA.mk (Jo.r) ho ((FrM.r).b (by decide)) (rfl) (rfl)
    · skip
      have n_15 : _ = true := b2_t c_15
      first | rw [ifT n_15] | rw [ifF n_15] | skip
      obtain ⟨k, h_k, rfl⟩ := one_of w n_15
      have hn8 := w.n8
      have e_k : toN (nI k) = k := toN_nI (by omega)
      try simp only [e_k]
      refine r_iload_n 3 dX6_then_18 rfl rfl ?_
      refine r_iconst (v := nI 0) dX6_then_19 rfl ?_
      refine r_iconst (v := nI 1) dX6_then_20 rfl ?_
      refine r_callS_1 dX6_then_21 kX6_48 (M_in)  rfl rfl (Nat.le_of_ble_eq_true rfl) ?_
      refine r_if_ne 34 dX6_then_24 (by decide) (fun c_24 => ?_) (fun c_24 => ?_)
      · skip
        have n_24 : _ = true := b2_t c_24
        first | rw [ifT n_24] | rw [ifF n_24] | skip
        obtain ⟨c, h_c, rfl⟩ := inB_n (by decide) n_24
        have e_c : toN (nI c) = c := toN_nI (by omega)
        try simp only [e_c]
        refine r_aload_n 0 dX6_then_34 rfl rfl rfl ?_
        refine r_aload_n 0 dX6_then_35 rfl rfl rfl ?_
        refine r_getr (k := 0) (b := 67) dX6_then_36 hm.s66 rfl (by decide) (Or.inl q1416) (Or.inl rfl) rfl hm.r_row ?_
        refine r_aload_n 0 dX6_then_39 rfl rfl rfl ?_
        refine r_getr (k := 2) (b := 69) dX6_then_40 hm.s66 rfl (by decide) (Or.inl q1418) (Or.inl rfl) rfl hm.r_tried ?_
        refine r_callV_0 dX6_then_43 kX6_165 (M_move_out hm 69 (by decide)) (gRecv.of hm.s66 rfl) rfl rfl (Nat.le_of_ble_eq_true rfl) ?_
        refine r_aload_n 0 dX6_then_46 rfl rfl rfl ?_
        refine r_iload_n 1 dX6_then_47 rfl rfl ?_
        refine r_callV_0m dX6_then_48 kX6_183 (M_passes (mn := (-1)) (q := m) (by exact hm) (by omega) w.T w.K w.n w.n8 ((Jo.r).2.2.1.trans ho)) (gRecv.of hm.s66 rfl) rfl rfl (Nat.le_of_ble_eq_true rfl) (fun o_1 j_1 => ?_)
        refine r_aload_n 0 dX6_then_51 rfl rfl rfl ?_
        refine r_iload_n 2 dX6_then_52 rfl rfl ?_
        refine r_iconst (v := nI 3) dX6_then_53 rfl ?_
        refine r_iload_n 3 dX6_then_54 rfl rfl ?_
        refine r_iadd dX6_then_55 ?_
        refine r_eqi (show _ = nI (3 + c) from by simp only [pk_mul, nI_add]) ?_
        refine r_callV_1 dX6_then_56 kX6_75 (M_its (p := k) (w := (3 + c)) (by exact hm) (by omega)) (gRecv.of hm.s66 rfl) rfl rfl (Nat.le_of_ble_eq_true rfl) ?_
        refine r_istore dX6_then_59 (by decide) rfl ?_
        refine gG_ls (ls' := [_, _, _, _, _]) rfl ?_
        refine r_aload_n 0 dX6_then_61 rfl rfl rfl ?_
        refine r_aload_n 0 dX6_then_62 rfl rfl rfl ?_
        refine r_getr (k := 2) (b := 69) dX6_then_63 hm.s66 rfl (by decide) (Or.inl q1418) (Or.inl rfl) rfl hm.r_tried ?_
        refine r_aload_n 0 dX6_then_66 rfl rfl rfl ?_
        refine r_getr (k := 0) (b := 67) dX6_then_67 hm.s66 rfl (by decide) (Or.inl q1416) (Or.inl rfl) rfl hm.r_row ?_
        refine r_callV_0 dX6_then_70 kX6_165 (M_move_in (by exact hm) 69 (by decide)) (gRecv.of hm.s66 rfl) rfl rfl (Nat.le_of_ble_eq_true rfl) ?_
        refine gG_h (show _ = MH _ r _ from by rw [bI_s, cpR_b (passR_RS (mn := -1) w.n8 m).far]) ?_
        refine r_iload dX6_then_73 rfl ?_
        refine e_iret dX6_then_75 rfl ?_
        exact RA.mk ((Jo.r).t j_1) ho ((FrM.r).b (by decide)) (rfl) (rfl)
      · skip
        have n_24 : _ = false := b2_f c_24
        first | rw [ifT n_24] | rw [ifF n_24] | skip
        refine r_aload_n 0 dX6_then_27 rfl rfl rfl ?_
        refine r_ldc (v := -1000000001) dX6_then_28 q1511 ?_
        refine r_callV_1 dX6_then_30 kX6_53 (M_errs hm (e := (-1000000001 : Int32)) 1 (by decide +kernel) (by decide)) (gRecv.of hm.s66 rfl) rfl rfl (Nat.le_of_ble_eq_true rfl) ?_
        refine e_iret dX6_then_33 rfl ?_
        exact RA.mk (Jo.r) ho ((FrM.r).b (by decide)) (rfl) (rfl)
theorem M_thirsty_L {d : Nat} {h : Hp} (hm : LayM (hS h) (hR h)) {r o : Row} {n : Nat} {x : Int32} (hn : r 2 = nI n) (hn8 : n ≤ 8) : ∀ (k i : Nat), i + k = n → gG (d + 1) (0) (0) m_X6_thirsty 2 [some (.ref 66), some (.int x), some (.int (nI i))] [] (MH h r o) (Ret (some (.int (nI (thF r x k i)))) (MH h r o)) := by
  intro k
  induction k with
  | zero =>
    intro i hi
    refine r_iload_n 2 dX6_thirsty_2 rfl rfl ?_
    refine r_aload_n 0 dX6_thirsty_3 rfl rfl rfl ?_
    refine r_getr (k := 0) (b := 67) dX6_thirsty_4 hm.s66 rfl (by decide) (Or.inl q1416) (Or.inl rfl) rfl hm.r_row ?_
    refine r_iconst (v := nI 2) dX6_thirsty_7 rfl ?_
    refine r_ialdN (2) dX6_thirsty_8 hm.s67 rfl (by omega) (by decide) ?_
    refine r_eqi (show _ = nI (n) from hn) ?_
    refine r_icmp_ge 28 dX6_thirsty_9 (by decide) (fun c_9 => ?_) (fun c_9 => ?_)
    · skip
      have n_9 : n ≤ i := n_ge (by omega) (by omega) c_9
      refine r_iload_n 2 dX6_thirsty_28 rfl rfl ?_
      refine e_iret dX6_thirsty_29 rfl ?_
      exact ⟨rfl, rfl⟩
    · skip
      have n_9 : i < n := n_gen (by omega) (by omega) c_9
      exact absurd n_9 (by omega)
  | succ k ih =>
  intro i hi
  refine r_iload_n 2 dX6_thirsty_2 rfl rfl ?_
  refine r_aload_n 0 dX6_thirsty_3 rfl rfl rfl ?_
  refine r_getr (k := 0) (b := 67) dX6_thirsty_4 hm.s66 rfl (by decide) (Or.inl q1416) (Or.inl rfl) rfl hm.r_row ?_
  refine r_iconst (v := nI 2) dX6_thirsty_7 rfl ?_
  refine r_ialdN (2) dX6_thirsty_8 hm.s67 rfl (by omega) (by decide) ?_
  refine r_eqi (show _ = nI (n) from hn) ?_
  refine r_icmp_ge 28 dX6_thirsty_9 (by decide) (fun c_9 => ?_) (fun c_9 => ?_)
  · skip
    have n_9 : n ≤ i := n_ge (by omega) (by omega) c_9
    exact absurd n_9 (by omega)
  · skip
    have n_9 : i < n := n_gen (by omega) (by omega) c_9
    refine r_aload_n 0 dX6_thirsty_12 rfl rfl rfl ?_
    refine r_iload_n 2 dX6_thirsty_13 rfl rfl ?_
    refine r_iconst (v := nI 4) dX6_thirsty_14 rfl ?_
    refine r_callV_1 dX6_thirsty_15 kX6_75 (M_its (p := i) (w := 4) hm (by omega)) (gRecv.of hm.s66 rfl) rfl rfl (Nat.le_of_ble_eq_true rfl) ?_
    refine r_iload_n 1 dX6_thirsty_18 rfl rfl ?_
    refine r_icmp_ge 28 dX6_thirsty_19 (by decide) (fun c_19 => ?_) (fun c_19 => ?_)
    · skip
      rw [show thF r x (k + 1) i = i from if_neg (i_le_nlt c_19)]
      refine r_iload_n 2 dX6_thirsty_28 rfl rfl ?_
      refine e_iret dX6_thirsty_29 rfl ?_
      exact ⟨rfl, rfl⟩
    · skip
      rw [show thF r x (k + 1) i = thF r x k (i + 1) from if_pos (i_nle c_19)]
      refine r_iinc dX6_thirsty_22 rfl (by decide) rfl ?_
      refine gG_ls (ls' := [_, _, some (.int (nI ((i + 1))))]) (by rw [show (Int32.ofInt 1) = nI 1 from rfl, nI_add]; rfl) ?_
      refine r_goto 2 dX6_thirsty_25 (by decide) ?_
      exact ih (i + 1) (by omega)
theorem M_thirsty {d : Nat} {h : Hp} (hm : LayM (hS h) (hR h)) {r o : Row} {n : Nat} {x : Int32} (hn : r 2 = nI n) (hn8 : n ≤ 8) : gC (d + 1) (0) (0) m_X6_thirsty [.ref 66, .int x] (MH h r o) (Ret (some (.int (nI (thF r x n 0)))) (MH h r o)) := by
  refine gC.of (ls := [some (.ref 66), some (.int x), none]) (by decide +kernel) rfl rfl rfl rfl (Nat.le_of_ble_eq_true rfl) ?_
  refine r_iconst (v := nI 0) dX6_thirsty_0 rfl ?_
  refine r_istore_n 2 dX6_thirsty_1 rfl (by decide) rfl ?_
  refine gG_ls (ls' := [_, _, _]) rfl ?_
  exact M_thirsty_L hm hn hn8 n 0 (by omega)
theorem M_first_L {d : Nat} {h : Hp} (hm : LayM (hS h) (hR h)) {r : Row} (w : WF r) {x y1 : Int32} {y2 : Option Value} {Q : gQ} : ∀ (k m : Nat) (o : Row), m + k = 61 → o 15 = -1 → (∀ o9, Jo o o9 → gG (d + 420) (0) (0) m_X6_first 70 [some (.ref 66), some (.int x), some (.int y1), some (.int (nI (fsF r x k m))), y2] [] (MH h (passR r (-1) (fsF r x k m)) o9) (Q)) → gG (d + 420) (0) (0) m_X6_first 40 [some (.ref 66), some (.int x), some (.int y1), some (.int (nI m)), y2] [] (MH h (passR r (-1) m) o) (Q) := by
  intro k
  induction k with
  | zero =>
    intro m o hi ho kk
    refine r_iload_n 3 dX6_first_40 rfl rfl ?_
    refine r_bipush (v := nI 60) dX6_first_41 (by decide +kernel) ?_
    refine r_icmp_gt 70 dX6_first_43 (by decide) (fun c_43 => ?_) (fun c_43 => ?_)
    · skip
      have n_43 : 60 < m := n_gt (by omega) (by omega) c_43
      exact kk _ Jo.r
    · skip
      have n_43 : m ≤ 60 := n_gtn (by omega) (by omega) c_43
      exact absurd n_43 (by omega)
  | succ k ih =>
  intro m o hi ho kk
  have hRS : RS r (passR r (-1) m) := passR_RS w.n8 m
  have hn8 := w.n8
  have hth : nI (thF (passR r (-1) m) x (np r) 0) = nI (thV (passR r (-1) m) x) := by unfold thV; rw [hRS.npe]
  have hle : thV (passR r (-1) m) x ≤ 8 := by have := thF_le (r := passR r (-1) m) (x := x) (np (passR r (-1) m)) 0; unfold thV; rw [hRS.npe] at *; omega
  refine r_iload_n 3 dX6_first_40 rfl rfl ?_
  refine r_bipush (v := nI 60) dX6_first_41 (by decide +kernel) ?_
  refine r_icmp_gt 70 dX6_first_43 (by decide) (fun c_43 => ?_) (fun c_43 => ?_)
  · skip
    have n_43 : 60 < m := n_gt (by omega) (by omega) c_43
    exact absurd n_43 (by omega)
  · skip
    have n_43 : m ≤ 60 := n_gtn (by omega) (by omega) c_43
    refine r_aload_n 0 dX6_first_46 rfl rfl rfl ?_
    refine r_iload_n 1 dX6_first_47 rfl rfl ?_
    refine r_callV_1 dX6_first_48 kX6_221 (M_thirsty (n := np r) (x := x) hm (hRS.two.trans w.n) w.n8) (gRecv.of hm.s66 rfl) rfl rfl (Nat.le_of_ble_eq_true rfl) ?_
    refine r_eqi (show _ = nI ((thV (passR r (-1) m) x)) from hth) ?_
    refine r_aload_n 0 dX6_first_51 rfl rfl rfl ?_
    refine r_getr (k := 0) (b := 67) dX6_first_52 hm.s66 rfl (by decide) (Or.inl q1416) (Or.inl rfl) rfl hm.r_row ?_
    refine r_iconst (v := nI 2) dX6_first_55 rfl ?_
    refine r_ialdN (2) dX6_first_56 hm.s67 rfl (by omega) (by decide) ?_
    refine r_eqi (show _ = nI (np r) from hRS.two.trans w.n) ?_
    refine r_icmp_ne 70 dX6_first_57 (by decide) (fun c_57 => ?_) (fun c_57 => ?_)
    · skip
      have n_57 : ¬ (thV (passR r (-1) m) x) = np r := n_ne (by omega) (by omega) c_57
      rw [show fsF r x (k + 1) m = m from if_neg n_57] at kk
      exact kk _ (Jo.r)
    · skip
      have n_57 : (thV (passR r (-1) m) x) = np r := n_nen (by omega) (by omega) c_57
      rw [show fsF r x (k + 1) m = fsF r x k (m + 1) from if_pos n_57] at kk
      refine r_aload_n 0 dX6_first_60 rfl rfl rfl ?_
      refine r_callV_0m dX6_first_61 kX6_179 (M_oneDay (mn := (-1)) hm (hRS.T w.T) (hRS.K w.K) (hRS.two.trans w.n) w.n8 ((Jo.r).2.2.1.trans ho)) (gRecv.of hm.s66 rfl) rfl rfl (Nat.le_of_ble_eq_true rfl) (fun o_1 j_1 => ?_)
      refine r_iinc dX6_first_64 rfl (by decide) rfl ?_
      refine gG_ls (ls' := [_, _, _, some (.int (nI ((m + 1)))), _]) (by rw [show (Int32.ofInt 1) = nI 1 from rfl, nI_add]; rfl) ?_
      refine r_goto 40 dX6_first_67 (by decide) ?_
      exact ih (m + 1) _ (by omega) (((Jo.r).t j_1).2.2.1.trans ho) (fun o9 j9 => kk o9 (((Jo.r).t j_1).t j9))
theorem A_first {d : Nat} {h : Hp} (hm : LayM (hS h) (hR h)) {r o : Row} (w : WF r) (ho : o 15 = -1) {x q : Int32} : gC (d + 420) (0) (0) m_X6_first [.ref 66, .int x, .int q] (MH h r o) (RA h (aFirst (mS h r o) x q)) := by
  have e_0 : aFirst (mS h r o) x q = (if inB x (nI 1) (nI 99) = true then (if inB q (nI 0) (nI 1) = true then (if 60 < fsV r x then errA (mS h r o) (-1000000002) 2 else (if toN q = 0 then nI (fsV r x) else nI (thV (passR r (-1) (fsV r x)) x), (mS h r o))) else errA (mS h r o) (-1000000001) 1) else errA (mS h r o) (-1000000001) 1) := rfl
  rw [e_0]
  have hn8 := w.n8
  have hfl : (fsF r x 61 0) ≤ 61 := fsF_le 61 0
  rw [show fsV r x = (fsF r x 61 0) from rfl]
  refine gC.of (ls := [some (.ref 66), some (.int x), some (.int q), none, none]) (by decide +kernel) rfl rfl rfl rfl (Nat.le_of_ble_eq_true rfl) ?_
  refine r_iload_n 1 dX6_first_0 rfl rfl ?_
  refine r_iconst (v := nI 1) dX6_first_1 rfl ?_
  refine r_bipush (v := nI 99) dX6_first_2 (by decide +kernel) ?_
  refine r_callS_1 dX6_first_4 kX6_48 (M_in)  rfl rfl (Nat.le_of_ble_eq_true rfl) ?_
  refine r_if_eq 19 dX6_first_7 (by decide) (fun c_7 => ?_) (fun c_7 => ?_)
  · skip
    have n_7 : _ = false := b2_f c_7
    first | rw [ifT n_7] | rw [ifF n_7] | skip
    refine r_aload_n 0 dX6_first_19 rfl rfl rfl ?_
    refine r_ldc (v := -1000000001) dX6_first_20 q1511 ?_
    refine r_callV_1 dX6_first_22 kX6_53 (M_errs hm (e := (-1000000001 : Int32)) 1 (by decide +kernel) (by decide)) (gRecv.of hm.s66 rfl) rfl rfl (Nat.le_of_ble_eq_true rfl) ?_
    refine e_iret dX6_first_25 rfl ?_
    exact RA.mk (Jo.r) ho ((FrM.r).b (by decide)) (rfl) (rfl)
  · skip
    have n_7 : _ = true := b2_t c_7
    first | rw [ifT n_7] | rw [ifF n_7] | skip
    refine r_iload_n 2 dX6_first_10 rfl rfl ?_
    refine r_iconst (v := nI 0) dX6_first_11 rfl ?_
    refine r_iconst (v := nI 1) dX6_first_12 rfl ?_
    refine r_callS_1 dX6_first_13 kX6_48 (M_in)  rfl rfl (Nat.le_of_ble_eq_true rfl) ?_
    refine r_if_ne 26 dX6_first_16 (by decide) (fun c_16 => ?_) (fun c_16 => ?_)
    · skip
      have n_16 : _ = true := b2_t c_16
      first | rw [ifT n_16] | rw [ifF n_16] | skip
      obtain ⟨c, h_c, rfl⟩ := inB_n (by decide) n_16
      have e_c : toN (nI c) = c := toN_nI (by omega)
      try simp only [e_c]
      refine r_aload_n 0 dX6_first_26 rfl rfl rfl ?_
      refine r_aload_n 0 dX6_first_27 rfl rfl rfl ?_
      refine r_getr (k := 0) (b := 67) dX6_first_28 hm.s66 rfl (by decide) (Or.inl q1416) (Or.inl rfl) rfl hm.r_row ?_
      refine r_aload_n 0 dX6_first_31 rfl rfl rfl ?_
      refine r_getr (k := 2) (b := 69) dX6_first_32 hm.s66 rfl (by decide) (Or.inl q1418) (Or.inl rfl) rfl hm.r_tried ?_
      refine r_callV_0 dX6_first_35 kX6_165 (M_move_out hm 69 (by decide)) (gRecv.of hm.s66 rfl) rfl rfl (Nat.le_of_ble_eq_true rfl) ?_
      refine r_iconst (v := nI 0) dX6_first_38 rfl ?_
      refine r_istore_n 3 dX6_first_39 rfl (by decide) rfl ?_
      refine gG_ls (ls' := [_, _, _, _, _]) rfl ?_
      refine M_first_L (h := bI h 69 (cpR 281 r (hI h 69))) hm w 61 0 _ rfl (ho) (fun o_9 j_9 => ?_)
      refine r_aload_n 0 dX6_first_70 rfl rfl rfl ?_
      refine r_iload_n 1 dX6_first_71 rfl rfl ?_
      refine r_callV_1 dX6_first_72 kX6_221 (M_thirsty (n := np r) (x := x) (by exact hm) ((passR_RS (mn := -1) w.n8 (fsF r x 61 0)).two.trans w.n) w.n8) (gRecv.of hm.s66 rfl) rfl rfl (Nat.le_of_ble_eq_true rfl) ?_
      refine r_eqi (show _ = nI ((thV (passR r (-1) (fsF r x 61 0)) x)) from (show nI (thF (passR r (-1) (fsF r x 61 0)) x (np r) 0) = nI (thV (passR r (-1) (fsF r x 61 0)) x) from by unfold thV; rw [(passR_RS (mn := -1) w.n8 (fsF r x 61 0)).npe])) ?_
      refine r_istore dX6_first_75 (by decide) rfl ?_
      refine gG_ls (ls' := [_, _, _, _, _]) rfl ?_
      refine r_aload_n 0 dX6_first_77 rfl rfl rfl ?_
      refine r_aload_n 0 dX6_first_78 rfl rfl rfl ?_
      refine r_getr (k := 2) (b := 69) dX6_first_79 hm.s66 rfl (by decide) (Or.inl q1418) (Or.inl rfl) rfl hm.r_tried ?_
      refine r_aload_n 0 dX6_first_82 rfl rfl rfl ?_
      refine r_getr (k := 0) (b := 67) dX6_first_83 hm.s66 rfl (by decide) (Or.inl q1416) (Or.inl rfl) rfl hm.r_row ?_
      refine r_callV_0 dX6_first_86 kX6_165 (M_move_in (by exact hm) 69 (by decide)) (gRecv.of hm.s66 rfl) rfl rfl (Nat.le_of_ble_eq_true rfl) ?_
      refine gG_h (show _ = MH _ r _ from by rw [bI_s, cpR_b (passR_RS (mn := -1) w.n8 (fsF r x 61 0)).far]) ?_
      refine r_iload_n 3 dX6_first_89 rfl rfl ?_
      refine r_bipush (v := nI 60) dX6_first_90 (by decide +kernel) ?_
      refine r_icmp_le 102 dX6_first_92 (by decide) (fun c_92 => ?_) (fun c_92 => ?_)
      · skip
        have n_92 : (fsF r x 61 0) ≤ 60 := n_le (by omega) (by omega) c_92
        first | rw [iP n_92] | rw [iN n_92] | rw [iN (Nat.not_lt.mpr n_92)] | skip
        refine r_iload_n 2 dX6_first_102 rfl rfl ?_
        refine r_if_ne 110 dX6_first_103 (by decide) (fun c_103 => ?_) (fun c_103 => ?_)
        · skip
          have n_103 : ¬ c = 0 := n_ne0 (by omega) c_103
          first | rw [iP n_103] | rw [iN n_103] | rw [iN (Nat.not_lt.mpr n_103)] | skip
          refine r_iload dX6_first_110 rfl ?_
          refine e_iret dX6_first_112 rfl ?_
          exact RA.mk ((Jo.r).t j_9) ho ((FrM.r).b (by decide)) (rfl) (rfl)
        · skip
          have n_103 : c = 0 := n_eq0 (by omega) c_103
          first | rw [iP n_103] | rw [iN n_103] | rw [iN (Nat.not_lt.mpr n_103)] | skip
          refine r_iload_n 3 dX6_first_106 rfl rfl ?_
          refine r_goto 112 dX6_first_107 (by decide) ?_
          refine e_iret dX6_first_112 rfl ?_
          exact RA.mk ((Jo.r).t j_9) ho ((FrM.r).b (by decide)) (rfl) (rfl)
      · skip
        have n_92 : 60 < (fsF r x 61 0) := n_len (by omega) (by omega) c_92
        first | rw [iP n_92] | rw [iN n_92] | rw [iN (Nat.not_lt.mpr n_92)] | skip
        refine r_aload_n 0 dX6_first_95 rfl rfl rfl ?_
        refine r_ldc (v := -1000000002) dX6_first_96 q1735 ?_
        refine r_callV_1 dX6_first_98 kX6_53 (M_errs (by exact hm) (e := (-1000000002 : Int32)) 2 (by decide +kernel) (by decide)) (gRecv.of hm.s66 rfl) rfl rfl (Nat.le_of_ble_eq_true rfl) ?_
        refine e_iret dX6_first_101 rfl ?_
        exact RA.mk ((Jo.r).t j_9) ho (((FrM.r).b (by decide)).b (by decide)) (rfl) (rfl)
    · skip
      have n_16 : _ = false := b2_f c_16
      first | rw [ifT n_16] | rw [ifF n_16] | skip
      refine r_aload_n 0 dX6_first_19 rfl rfl rfl ?_
      refine r_ldc (v := -1000000001) dX6_first_20 q1511 ?_
      refine r_callV_1 dX6_first_22 kX6_53 (M_errs hm (e := (-1000000001 : Int32)) 1 (by decide +kernel) (by decide)) (gRecv.of hm.s66 rfl) rfl rfl (Nat.le_of_ble_eq_true rfl) ?_
      refine e_iret dX6_first_25 rfl ?_
      exact RA.mk (Jo.r) ho ((FrM.r).b (by decide)) (rfl) (rfl)
theorem M_drawn {d : Nat} {h : Hp} (hm : LayM (hS h) (hR h)) {r o : Row} : gC (d) (0) (0) m_X6_drawn [.ref 66] (MH h r o) (Ret (some (.int (dwV (zN (r 1))))) (MH h (ru r 1 (zN (r 1))) o)) := by
  refine gC.of (ls := [some (.ref 66)]) (by decide +kernel) rfl rfl rfl rfl (Nat.le_of_ble_eq_true rfl) ?_
  refine r_aload_n 0 dX6_drawn_0 rfl rfl rfl ?_
  refine r_getr (k := 0) (b := 67) dX6_drawn_1 hm.s66 rfl (by decide) (Or.inl q1416) (Or.inl rfl) rfl hm.r_row ?_
  refine r_iconst (v := nI 1) dX6_drawn_4 rfl ?_
  refine r_aload_n 0 dX6_drawn_5 rfl rfl rfl ?_
  refine r_getr (k := 0) (b := 67) dX6_drawn_6 hm.s66 rfl (by decide) (Or.inl q1416) (Or.inl rfl) rfl hm.r_row ?_
  refine r_iconst (v := nI 1) dX6_drawn_9 rfl ?_
  refine r_ialdN (1) dX6_drawn_10 hm.s67 rfl (by omega) (by decide) ?_
  refine r_ldc (v := 1103515245) dX6_drawn_11 q1690 ?_
  refine r_imul dX6_drawn_13 ?_
  refine r_sipush (v := nI 12345) dX6_drawn_14 (by decide +kernel) ?_
  refine r_iadd dX6_drawn_17 ?_
  refine r_iastN (1) dX6_drawn_18 hm.s67 rfl (by omega) (by decide) ?_
  refine gG_h (MH_67 _ _ _ _ _) ?_
  refine r_aload_n 0 dX6_drawn_19 rfl rfl rfl ?_
  refine r_getr (k := 0) (b := 67) dX6_drawn_20 hm.s66 rfl (by decide) (Or.inl q1416) (Or.inl rfl) rfl hm.r_row ?_
  refine r_iconst (v := nI 1) dX6_drawn_23 rfl ?_
  refine r_ialdN (1) dX6_drawn_24 hm.s67 rfl (by omega) (by decide) ?_
  refine r_bipush (v := nI 8) dX6_drawn_25 (by decide +kernel) ?_
  refine r_iushr dX6_drawn_27 ?_
  refine e_iret dX6_drawn_28 rfl ?_
  exact ⟨rfl, rfl⟩
theorem M_loose_L1 {d : Nat} {h : Hp} (hm : LayM (hS h) (hR h)) {r o : Row} {n c q : Nat} (hn : r 2 = nI n) (hn8 : n ≤ 8) {Q : gQ} : ∀ (k i : Nat) (y : Option Value), i ≤ n → n + 1 ≤ i + k → (∀ (y : Option Value), gG (d + 420) (0) (0) m_X6_loose 108 [some (.ref 66), some (.int (nI c)), some (.int (nI q)), some (.int (nI n)), y] [] (MH h (looR r (n)) o) (Q)) → gG (d + 420) (0) (0) m_X6_loose 47 [some (.ref 66), some (.int (nI c)), some (.int (nI q)), some (.int (nI i)), y] [] (MH h (looR r (i)) o) (Q) := by
  intro k
  induction k with
  | zero => exact fun i y h1 h2 => absurd h2 (by omega)
  | succ k ih =>
  intro i y hi hk kk
  refine r_iload_n 3 dX6_loose_47 rfl rfl ?_
  refine r_aload_n 0 dX6_loose_48 rfl rfl rfl ?_
  refine r_getr (k := 0) (b := 67) dX6_loose_49 hm.s66 rfl (by decide) (Or.inl q1416) (Or.inl rfl) rfl hm.r_row ?_
  refine r_iconst (v := nI 2) dX6_loose_52 rfl ?_
  refine r_ialdN (2) dX6_loose_53 hm.s67 rfl (by omega) (by decide) ?_
  refine r_eqi (show _ = nI (n) from ((looR_T i (by omega)).two.trans hn)) ?_
  refine r_icmp_ge 108 dX6_loose_54 (by decide) (fun c_54 => ?_) (fun c_54 => ?_)
  · skip
    have n_54 : n ≤ i := n_ge (by omega) (by omega) c_54
    have hin : i = n := by omega
    subst hin
    exact kk _
  · skip
    have n_54 : i < n := n_gen (by omega) (by omega) c_54
    refine r_aload_n 0 dX6_loose_57 rfl rfl rfl ?_
    refine r_callV_1 dX6_loose_58 kX6_190 (M_drawn hm) (gRecv.of hm.s66 rfl) rfl rfl (Nat.le_of_ble_eq_true rfl) ?_
    refine r_istore dX6_loose_61 (by decide) rfl ?_
    refine gG_ls (ls' := [_, _, _, _, _]) rfl ?_
    refine r_aload_n 0 dX6_loose_63 rfl rfl rfl ?_
    refine r_iload_n 3 dX6_loose_64 rfl rfl ?_
    refine r_iconst (v := nI 2) dX6_loose_65 rfl ?_
    refine r_iload dX6_loose_66 rfl ?_
    refine r_bipush (v := nI 8) dX6_loose_68 (by decide +kernel) ?_
    refine r_irem dX6_loose_70 (by decide) ?_
    refine r_if_ne 93 dX6_loose_71 (by decide) (fun c_71 => ?_) (fun c_71 => ?_)
    · skip
      refine r_aload_n 0 dX6_loose_93 rfl rfl rfl ?_
      refine r_iload_n 3 dX6_loose_94 rfl rfl ?_
      refine r_iconst (v := nI 2) dX6_loose_95 rfl ?_
      refine r_callV_1 dX6_loose_96 kX6_75 (M_its (p := i) (w := 2) hm (by omega)) (gRecv.of hm.s66 rfl) rfl rfl (Nat.le_of_ble_eq_true rfl) ?_
      refine r_callV_0 dX6_loose_99 kX6_58 (M_gets (p := i) (w := 2) hm (by omega)) (gRecv.of hm.s66 rfl) rfl rfl (Nat.le_of_ble_eq_true rfl) ?_
      refine r_iinc dX6_loose_102 rfl (by decide) rfl ?_
      refine gG_ls (ls' := [_, _, _, some (.int (nI ((i + 1)))), _]) (by rw [show (Int32.ofInt 1) = nI 1 from rfl, nI_add]; rfl) ?_
      refine r_goto 47 dX6_loose_105 (by decide) ?_
      refine gG_h (show _ = MH h (looR r (i + 1)) o from by rw [looR_s, looV_f c_71]) ?_
      exact ih (i + 1) _ (by omega) (by omega) kk
    · skip
      refine r_aload_n 0 dX6_loose_74 rfl rfl rfl ?_
      refine r_iload_n 3 dX6_loose_75 rfl rfl ?_
      refine r_iconst (v := nI 2) dX6_loose_76 rfl ?_
      refine r_callV_1 dX6_loose_77 kX6_75 (M_its (p := i) (w := 2) hm (by omega)) (gRecv.of hm.s66 rfl) rfl rfl (Nat.le_of_ble_eq_true rfl) ?_
      refine r_iconst (v := nI 1) dX6_loose_80 rfl ?_
      refine r_iload dX6_loose_81 rfl ?_
      refine r_bipush (v := nI 8) dX6_loose_83 (by decide +kernel) ?_
      refine r_idiv dX6_loose_85 (by decide) ?_
      refine r_iconst (v := nI 4) dX6_loose_86 rfl ?_
      refine r_irem dX6_loose_87 (by decide) ?_
      refine r_ishl dX6_loose_88 ?_
      refine r_ixor dX6_loose_89 ?_
      refine r_goto 99 dX6_loose_90 (by decide) ?_
      refine r_callV_0 dX6_loose_99 kX6_58 (M_gets (p := i) (w := 2) hm (by omega)) (gRecv.of hm.s66 rfl) rfl rfl (Nat.le_of_ble_eq_true rfl) ?_
      refine r_iinc dX6_loose_102 rfl (by decide) rfl ?_
      refine gG_ls (ls' := [_, _, _, some (.int (nI ((i + 1)))), _]) (by rw [show (Int32.ofInt 1) = nI 1 from rfl, nI_add]; rfl) ?_
      refine r_goto 47 dX6_loose_105 (by decide) ?_
      refine gG_h (show _ = MH h (looR r (i + 1)) o from by rw [looR_s, looV_t c_71]; rfl) ?_
      exact ih (i + 1) _ (by omega) (by omega) kk
theorem M_loose_L2 {d : Nat} {h : Hp} (hm : LayM (hS h) (hR h)) {r : Row} (w : WF r) {mn : Int32} (hmn : mn = -1) {n : Nat} (hq : n ≤ 60) {Q : gQ} : ∀ (k i : Nat) (y1 : Option Value) (y2 : Option Value) (o : Row), i ≤ n → n + 1 ≤ i + k → o 15 = mn → (∀ (y1 : Option Value) (y2 : Option Value), ∀ o9, Jo o o9 → gG (d + 420) (0) (0) m_X6_loose 118 [some (.ref 66), some (.int (nI n)), some (.int (nI n)), y1, y2] [] (MH h (looseR r (n)) o9) (Q)) → gG (d + 420) (0) (0) m_X6_loose 40 [some (.ref 66), some (.int (nI n)), some (.int (nI i)), y1, y2] [] (MH h (looseR r (i)) o) (Q) := by
  intro k
  induction k with
  | zero => exact fun i y1 y2 o h1 h2 => absurd h2 (by omega)
  | succ k ih =>
  intro i y1 y2 o hi hk ho kk
  have hT : RT r (looseR r i) := looseR_T w.n8 i
  have hn8 := w.n8
  have hT2 : RT r (looR (looseR r i) (np r)) := hT.t (looR_T (np r) w.n8)
  refine r_iload_n 2 dX6_loose_40 rfl rfl ?_
  refine r_iload_n 1 dX6_loose_41 rfl rfl ?_
  refine r_icmp_ge 118 dX6_loose_42 (by decide) (fun c_42 => ?_) (fun c_42 => ?_)
  · skip
    have n_42 : n ≤ i := n_ge (by omega) (by omega) c_42
    have hin : i = n := by omega
    subst hin
    exact kk _ _ _ (Jo.r)
  · skip
    have n_42 : i < n := n_gen (by omega) (by omega) c_42
    refine r_iconst (v := nI 0) dX6_loose_45 rfl ?_
    refine r_istore_n 3 dX6_loose_46 rfl (by decide) rfl ?_
    refine gG_ls (ls' := [_, _, _, _, _]) rfl ?_
    refine M_loose_L1 (n := np r) hm (hT.two.trans w.n) w.n8 (np r + 1) 0 _ (by omega) (by omega) (fun y => ?_)
    refine r_aload_n 0 dX6_loose_108 rfl rfl rfl ?_
    refine r_callV_0m dX6_loose_109 kX6_179 (M_oneDay (mn := -1) hm (hT2.T w.T) (hT2.K w.K) (hT2.two.trans w.n) w.n8 (hmn ▸ ho)) (gRecv.of hm.s66 rfl) rfl rfl (Nat.le_of_ble_eq_true rfl) (fun o_1 j_1 => ?_)
    refine r_iinc dX6_loose_112 rfl (by decide) rfl ?_
    refine gG_ls (ls' := [_, _, some (.int (nI ((i + 1)))), _, _]) (by rw [show (Int32.ofInt 1) = nI 1 from rfl, nI_add]; rfl) ?_
    refine r_goto 40 dX6_loose_115 (by decide) ?_
    exact ih (i + 1) _ _ _ (by omega) (by omega) (((Jo.r).t j_1).2.2.1.trans ho) (fun y1 y2 o9 j9 => kk y1 y2 o9 (((Jo.r).t j_1).t j9))
theorem A_loose {d : Nat} {h : Hp} (hm : LayM (hS h) (hR h)) {r o : Row} (w : WF r) (ho : o 15 = -1) {c : Int32} : gC (d + 420) (0) (0) m_X6_loose [.ref 66, .int c] (MH h r o) (RA h (aLoose (mS h r o) c)) := by
  have e_0 : aLoose (mS h r o) c = (if inB c (nI 1) (nI 40) = true then (if nI 9999 < r 0 + c then errA (mS h r o) (-1000000003) 3 else (sumW (looseR r (toN c)) 3 (np r), (mS h r o).s_r (looseR r (toN c)))) else errA (mS h r o) (-1000000001) 1) := rfl
  rw [e_0]
  have hn8 := w.n8
  refine gC.of (ls := [some (.ref 66), some (.int c), none, none, none]) (by decide +kernel) rfl rfl rfl rfl (Nat.le_of_ble_eq_true rfl) ?_
  refine r_iload_n 1 dX6_loose_0 rfl rfl ?_
  refine r_iconst (v := nI 1) dX6_loose_1 rfl ?_
  refine r_bipush (v := nI 40) dX6_loose_2 (by decide +kernel) ?_
  refine r_callS_1 dX6_loose_4 kX6_48 (M_in)  rfl rfl (Nat.le_of_ble_eq_true rfl) ?_
  refine r_if_ne 17 dX6_loose_7 (by decide) (fun c_7 => ?_) (fun c_7 => ?_)
  · skip
    have n_7 : _ = true := b2_t c_7
    first | rw [ifT n_7] | rw [ifF n_7] | skip
    obtain ⟨n, h_1, h_m, rfl⟩ := inB_p (by decide) n_7
    have e_n : toN (nI n) = n := toN_nI (by omega)
    rw [e_n]
    refine r_aload_n 0 dX6_loose_17 rfl rfl rfl ?_
    refine r_getr (k := 0) (b := 67) dX6_loose_18 hm.s66 rfl (by decide) (Or.inl q1416) (Or.inl rfl) rfl hm.r_row ?_
    refine r_iconst (v := nI 0) dX6_loose_21 rfl ?_
    refine r_ialdN (0) dX6_loose_22 hm.s67 rfl (by omega) (by decide) ?_
    refine r_eqi (show _ = (r 0) from rfl) ?_
    refine r_iload_n 1 dX6_loose_23 rfl rfl ?_
    refine r_iadd dX6_loose_24 ?_
    refine r_sipush (v := nI 9999) dX6_loose_25 (by decide +kernel) ?_
    refine r_icmp_le 38 dX6_loose_28 (by decide) (fun c_28 => ?_) (fun c_28 => ?_)
    · skip
      first | rw [iP c_28] | rw [iN c_28] | rw [iN (i_le_nlt c_28)] | rw [iP (i_nle c_28)] | rw [iP (i_nlt c_28)] | rw [iN (i_lt_nle c_28)] | skip
      refine r_iconst (v := nI 0) dX6_loose_38 rfl ?_
      refine r_istore_n 2 dX6_loose_39 rfl (by decide) rfl ?_
      refine gG_ls (ls' := [_, _, _, _, _]) rfl ?_
      refine M_loose_L2 hm w (mn := -1) rfl (by omega) (n + 1) 0 _ _ _ (by omega) (by omega) ho (fun y1 y2 o_9 j_9 => ?_)
      refine r_aload_n 0 dX6_loose_118 rfl rfl rfl ?_
      refine r_iconst (v := nI 3) dX6_loose_119 rfl ?_
      refine r_callV_1 dX6_loose_120 kX6_186 (M_sumOf (q := 3) (n := np r) hm (by decide) ((looseR_T w.n8 n).two.trans w.n) w.n8) (gRecv.of hm.s66 rfl) rfl rfl (Nat.le_of_ble_eq_true rfl) ?_
      refine e_iret dX6_loose_123 rfl ?_
      exact RA.mk ((Jo.r).t j_9) ho (FrM.r) (rfl) (rfl)
    · skip
      first | rw [iP c_28] | rw [iN c_28] | rw [iN (i_le_nlt c_28)] | rw [iP (i_nle c_28)] | rw [iP (i_nlt c_28)] | rw [iN (i_lt_nle c_28)] | skip
      refine r_aload_n 0 dX6_loose_31 rfl rfl rfl ?_
      refine r_ldc (v := -1000000003) dX6_loose_32 q1661 ?_
      refine r_callV_1 dX6_loose_34 kX6_53 (M_errs hm (e := (-1000000003 : Int32)) 3 (by decide +kernel) (by decide)) (gRecv.of hm.s66 rfl) rfl rfl (Nat.le_of_ble_eq_true rfl) ?_
      refine e_iret dX6_loose_37 rfl ?_
      exact RA.mk (Jo.r) ho ((FrM.r).b (by decide)) (rfl) (rfl)
  · skip
    have n_7 : _ = false := b2_f c_7
    first | rw [ifT n_7] | rw [ifF n_7] | skip
    refine r_aload_n 0 dX6_loose_10 rfl rfl rfl ?_
    refine r_ldc (v := -1000000001) dX6_loose_11 q1511 ?_
    refine r_callV_1 dX6_loose_13 kX6_53 (M_errs hm (e := (-1000000001 : Int32)) 1 (by decide +kernel) (by decide)) (gRecv.of hm.s66 rfl) rfl rfl (Nat.le_of_ble_eq_true rfl) ?_
    refine e_iret dX6_loose_16 rfl ?_
    exact RA.mk (Jo.r) ho ((FrM.r).b (by decide)) (rfl) (rfl)
