theorem M_owed_L {d : Nat} {h : Hp} (hm : LayM (hS h) (hR h)) {r o : Row} {Q : gQ} : ∀ (k i : Nat), i ≤ 64 → 64 + 1 ≤ i + k → (gG (d) (0) (0) m_X6_owed 28 [some (.ref 66), some (.int (sumD r (64))), some (.int (nI 64))] [] (MH h r o) (Q)) → gG (d) (0) (0) m_X6_owed 4 [some (.ref 66), some (.int (sumD r (i))), some (.int (nI i))] [] (MH h r o) (Q) := by
  intro k
  induction k with
  | zero => exact fun i h1 h2 => absurd h2 (by omega)
  | succ k ih =>
  intro i hi hk kk
  refine r_iload_n 2 dX6_owed_4 rfl rfl ?_
  refine r_bipush (v := nI 64) dX6_owed_5 (by decide +kernel) ?_
  refine r_icmp_ge 28 dX6_owed_7 (by decide) (fun c_7 => ?_) (fun c_7 => ?_)
  · skip
    have n_7 : 64 ≤ i := n_ge (by omega) (by omega) c_7
    have hin : i = 64 := by omega
    subst hin
    exact kk
  · skip
    have n_7 : i < 64 := n_gen (by omega) (by omega) c_7
    refine r_iload_n 1 dX6_owed_10 rfl rfl ?_
    refine r_aload_n 0 dX6_owed_11 rfl rfl rfl ?_
    refine r_getr (k := 0) (b := 67) dX6_owed_12 hm.s66 rfl (by decide) (Or.inl q1416) (Or.inl rfl) rfl hm.r_row ?_
    refine r_bipush (v := nI 47) dX6_owed_15 (by decide +kernel) ?_
    refine r_iload_n 2 dX6_owed_17 rfl rfl ?_
    refine r_iadd dX6_owed_18 ?_
    refine r_ialdN ((47 + i)) dX6_owed_19 hm.s67 (by simp only [pk_mul, nI_add]) (by omega) (by decide) ?_
    refine r_iadd dX6_owed_20 ?_
    refine r_istore_n 1 dX6_owed_21 rfl (by decide) rfl ?_
    refine gG_ls (ls' := [_, _, _]) rfl ?_
    refine r_iinc dX6_owed_22 rfl (by decide) rfl ?_
    refine gG_ls (ls' := [_, _, some (.int (nI ((i + 1))))]) (by rw [show (Int32.ofInt 1) = nI 1 from rfl, nI_add]; rfl) ?_
    refine r_goto 4 dX6_owed_25 (by decide) ?_
    exact ih (i + 1) (by omega) (by omega) kk
theorem M_owed {d : Nat} {h : Hp} (hm : LayM (hS h) (hR h)) {r o : Row} : gC (d) (0) (0) m_X6_owed [.ref 66] (MH h r o) (Ret (some (.int (sumD r 64))) (MH h r o)) := by
  refine gC.of (ls := [some (.ref 66), none, none]) (by decide +kernel) rfl rfl rfl rfl (Nat.le_of_ble_eq_true rfl) ?_
  refine r_iconst (v := nI 0) dX6_owed_0 rfl ?_
  refine r_istore_n 1 dX6_owed_1 rfl (by decide) rfl ?_
  refine gG_ls (ls' := [_, _, _]) rfl ?_
  refine r_iconst (v := nI 0) dX6_owed_2 rfl ?_
  refine r_istore_n 2 dX6_owed_3 rfl (by decide) rfl ?_
  refine gG_ls (ls' := [_, _, _]) rfl ?_
  refine M_owed_L hm 65 0 (by omega) (by omega) ?_
  refine r_iload_n 1 dX6_owed_28 rfl rfl ?_
  refine e_iret dX6_owed_29 rfl ?_
  exact ⟨rfl, rfl⟩
theorem M_net_L {d : Nat} {h : Hp} (hm : LayM (hS h) (hR h)) {r o : Row} (w : WF r) {p : Nat} (hp : p < 8) {Q : gQ} : ∀ (k i : Nat), i ≤ np r → np r + 1 ≤ i + k → (gG (d + 1) (0) (0) m_X6_net 51 [some (.ref 66), some (.int (nI p)), some (.int (netV r p (np r))), some (.int (nI (np r)))] [] (MH h r o) (Q)) → gG (d + 1) (0) (0) m_X6_net 19 [some (.ref 66), some (.int (nI p)), some (.int (netV r p (i))), some (.int (nI i))] [] (MH h r o) (Q) := by
  intro k
  induction k with
  | zero => exact fun i h1 h2 => absurd h2 (by omega)
  | succ k ih =>
  intro i hi hk kk
  have hn8 := w.n8
  refine r_iload_n 3 dX6_net_19 rfl rfl ?_
  refine r_aload_n 0 dX6_net_20 rfl rfl rfl ?_
  refine r_getr (k := 0) (b := 67) dX6_net_21 hm.s66 rfl (by decide) (Or.inl q1416) (Or.inl rfl) rfl hm.r_row ?_
  refine r_iconst (v := nI 2) dX6_net_24 rfl ?_
  refine r_ialdN (2) dX6_net_25 hm.s67 rfl (by omega) (by decide) ?_
  refine r_eqi (show _ = nI (np r) from w.n) ?_
  refine r_icmp_ge 51 dX6_net_26 (by decide) (fun c_26 => ?_) (fun c_26 => ?_)
  · skip
    have n_26 : np r ≤ i := n_ge (by omega) (by omega) c_26
    have hin : i = np r := by omega
    subst hin
    exact kk
  · skip
    have n_26 : i < np r := n_gen (by omega) (by omega) c_26
    refine r_iload_n 2 dX6_net_29 rfl rfl ?_
    refine r_aload_n 0 dX6_net_30 rfl rfl rfl ?_
    refine r_iload_n 3 dX6_net_31 rfl rfl ?_
    refine r_iload_n 1 dX6_net_32 rfl rfl ?_
    refine r_callV_1 dX6_net_33 kX6_86 (M_debt (p := i) (w := p) hm (by omega)) (gRecv.of hm.s66 rfl) rfl rfl (Nat.le_of_ble_eq_true rfl) ?_
    refine r_aload_n 0 dX6_net_36 rfl rfl rfl ?_
    refine r_iload_n 1 dX6_net_37 rfl rfl ?_
    refine r_iload_n 3 dX6_net_38 rfl rfl ?_
    refine r_callV_1 dX6_net_39 kX6_86 (M_debt (p := p) (w := i) hm (by omega)) (gRecv.of hm.s66 rfl) rfl rfl (Nat.le_of_ble_eq_true rfl) ?_
    refine r_isub dX6_net_42 ?_
    refine r_iadd dX6_net_43 ?_
    refine r_istore_n 2 dX6_net_44 rfl (by decide) rfl ?_
    refine gG_ls (ls' := [_, _, _, _]) rfl ?_
    refine r_iinc dX6_net_45 rfl (by decide) rfl ?_
    refine gG_ls (ls' := [_, _, _, some (.int (nI ((i + 1))))]) (by rw [show (Int32.ofInt 1) = nI 1 from rfl, nI_add]; rfl) ?_
    refine r_goto 19 dX6_net_48 (by decide) ?_
    exact ih (i + 1) (by omega) (by omega) kk
theorem A_net {d : Nat} {h : Hp} (hm : LayM (hS h) (hR h)) {r o : Row} (w : WF r) (ho : o 15 = -1) {p : Int32} : gC (d + 2) (0) (0) m_X6_net [.ref 66, .int p] (MH h r o) (RA h (aNet (mS h r o) p)) := by
  have e_0 : aNet (mS h r o) p = (if inB p 0 (r 2 - 1) = true then (netV r (toN p) (np r), (mS h r o)) else errA (mS h r o) (-1000000001) 1) := rfl
  rw [e_0]
  have hn8 := w.n8
  refine gC.of (ls := [some (.ref 66), some (.int p), none, none]) (by decide +kernel) rfl rfl rfl rfl (Nat.le_of_ble_eq_true rfl) ?_
  refine r_aload_n 0 dX6_net_0 rfl rfl rfl ?_
  refine r_iload_n 1 dX6_net_1 rfl rfl ?_
  refine r_callV_1 dX6_net_2 kX6_62 (M_isOne hm) (gRecv.of hm.s66 rfl) rfl rfl (Nat.le_of_ble_eq_true rfl) ?_
  refine r_if_ne 15 dX6_net_5 (by decide) (fun c_5 => ?_) (fun c_5 => ?_)
  · skip
    have n_5 : _ = true := b2_t c_5
    first | rw [ifT n_5] | rw [ifF n_5] | skip
    obtain ⟨k, h_k, rfl⟩ := one_of w n_5
    have hn8 := w.n8
    have e_k : toN (nI k) = k := toN_nI (by omega)
    try simp only [e_k]
    refine r_iconst (v := nI 0) dX6_net_15 rfl ?_
    refine r_istore_n 2 dX6_net_16 rfl (by decide) rfl ?_
    refine gG_ls (ls' := [_, _, _, _]) rfl ?_
    refine r_iconst (v := nI 0) dX6_net_17 rfl ?_
    refine r_istore_n 3 dX6_net_18 rfl (by decide) rfl ?_
    refine gG_ls (ls' := [_, _, _, _]) rfl ?_
    refine M_net_L hm w (by omega) (np r + 1) 0 (by omega) (by omega) ?_
    refine r_iload_n 2 dX6_net_51 rfl rfl ?_
    refine e_iret dX6_net_52 rfl ?_
    exact RA.mk (Jo.r) ho (FrM.r) (rfl) (rfl)
  · skip
    have n_5 : _ = false := b2_f c_5
    first | rw [ifT n_5] | rw [ifF n_5] | skip
    refine r_aload_n 0 dX6_net_8 rfl rfl rfl ?_
    refine r_ldc (v := -1000000001) dX6_net_9 q1511 ?_
    refine r_callV_1 dX6_net_11 kX6_53 (M_errs hm (e := (-1000000001 : Int32)) 1 (by decide +kernel) (by decide)) (gRecv.of hm.s66 rfl) rfl rfl (Nat.le_of_ble_eq_true rfl) ?_
    refine e_iret dX6_net_14 rfl ?_
    exact RA.mk (Jo.r) ho ((FrM.r).b (by decide)) (rfl) (rfl)
theorem A_seed {d : Nat} {h : Hp} (hm : LayM (hS h) (hR h)) {r o : Row} (w : WF r) (ho : o 15 = -1) {v : Int32} : gC (d) (0) (0) m_X6_seed [.ref 66, .int v] (MH h r o) (RA h (aSeed (mS h r o) v)) := by
  have e_0 : aSeed (mS h r o) v = ((r 1, (mS h r o).s_r (ru r 1 v))) := rfl
  rw [e_0]
  have hn8 := w.n8
  refine gC.of (ls := [some (.ref 66), some (.int v), none]) (by decide +kernel) rfl rfl rfl rfl (Nat.le_of_ble_eq_true rfl) ?_
  refine r_aload_n 0 dX6_seed_0 rfl rfl rfl ?_
  refine r_getr (k := 0) (b := 67) dX6_seed_1 hm.s66 rfl (by decide) (Or.inl q1416) (Or.inl rfl) rfl hm.r_row ?_
  refine r_iconst (v := nI 1) dX6_seed_4 rfl ?_
  refine r_ialdN (1) dX6_seed_5 hm.s67 rfl (by omega) (by decide) ?_
  refine r_istore_n 2 dX6_seed_6 rfl (by decide) rfl ?_
  refine gG_ls (ls' := [_, _, _]) rfl ?_
  refine r_aload_n 0 dX6_seed_7 rfl rfl rfl ?_
  refine r_getr (k := 0) (b := 67) dX6_seed_8 hm.s66 rfl (by decide) (Or.inl q1416) (Or.inl rfl) rfl hm.r_row ?_
  refine r_iconst (v := nI 1) dX6_seed_11 rfl ?_
  refine r_iload_n 1 dX6_seed_12 rfl rfl ?_
  refine r_iastN (1) dX6_seed_13 hm.s67 rfl (by omega) (by decide) ?_
  refine gG_h (MH_67 _ _ _ _ _) ?_
  refine r_iload_n 2 dX6_seed_14 rfl rfl ?_
  refine e_iret dX6_seed_15 rfl ?_
  exact RA.mk (Jo.r) ho (FrM.r) (rfl) (rfl)
theorem A_trace {d : Nat} {h : Hp} (hm : LayM (hS h) (hR h)) {r o : Row} (w : WF r) (ho : o 15 = -1) {v : Int32} {t : Nat} (h25 : o 25 = nI t) (h40 : t ≤ 40) : gC (d + 2) (0) (0) m_X6_trace [.ref 66, .int v] (MH h r o) (RA h (aTrace (mS h r o) v)) := by
  have e_0 : aTrace (mS h r o) v = (if inB v (nI 0) ((o 25) - nI 1) = true then ((hI h 77) (toN v), (mS h r o)) else errA (mS h r o) (-1000000002) 2) := rfl
  rw [e_0]
  have hn8 := w.n8
  refine gC.of (ls := [some (.ref 66), some (.int v)]) (by decide +kernel) rfl rfl rfl rfl (Nat.le_of_ble_eq_true rfl) ?_
  refine r_iload_n 1 dX6_trace_0 rfl rfl ?_
  refine r_iconst (v := nI 0) dX6_trace_1 rfl ?_
  refine r_aload_n 0 dX6_trace_2 rfl rfl rfl ?_
  refine r_geti (k := 25) dX6_trace_3 hm.s66 rfl (by decide) (Or.inl q1441) (Or.inl rfl) rfl ?_
  refine r_eqi (show _ = (o 25) from rfl) ?_
  refine r_iconst (v := nI 1) dX6_trace_6 rfl ?_
  refine r_isub dX6_trace_7 ?_
  refine r_callS_1 dX6_trace_8 kX6_48 (M_in)  rfl rfl (Nat.le_of_ble_eq_true rfl) ?_
  refine r_if_eq 23 dX6_trace_11 (by decide) (fun c_11 => ?_) (fun c_11 => ?_)
  · skip
    have n_11 : _ = false := b2_f c_11
    first | rw [ifT n_11] | rw [ifF n_11] | skip
    refine r_aload_n 0 dX6_trace_23 rfl rfl rfl ?_
    refine r_ldc (v := -1000000002) dX6_trace_24 q1735 ?_
    refine r_callV_1 dX6_trace_26 kX6_53 (M_errs hm (e := (-1000000002 : Int32)) 2 (by decide +kernel) (by decide)) (gRecv.of hm.s66 rfl) rfl rfl (Nat.le_of_ble_eq_true rfl) ?_
    refine e_iret dX6_trace_29 rfl ?_
    exact RA.mk (Jo.r) ho ((FrM.r).b (by decide)) (rfl) (rfl)
  · skip
    have n_11 : _ = true := b2_t c_11
    first | rw [ifT n_11] | rw [ifF n_11] | skip
    obtain ⟨k, h_k, rfl⟩ := inB_n1 (v := v) (n := t) (by omega) (show inB v 0 (nI t - 1) = true from by rw [← h25]; exact n_11)
    have e_k : toN (nI k) = k := toN_nI (by omega)
    try simp only [e_k]
    refine r_aload_n 0 dX6_trace_14 rfl rfl rfl ?_
    refine r_getr (k := 24) (b := 77) dX6_trace_15 hm.s66 rfl (by decide) (Or.inl q1440) (Or.inl rfl) rfl hm.r_traced ?_
    refine r_iload_n 1 dX6_trace_18 rfl rfl ?_
    refine r_ialdN (k) dX6_trace_19 hm.s77 rfl (by omega) (by decide) ?_
    refine r_goto 29 dX6_trace_20 (by decide) ?_
    refine e_iret dX6_trace_29 rfl ?_
    exact RA.mk (Jo.r) ho (FrM.r) (rfl) (rfl)
theorem A_told {d : Nat} {h : Hp} (hm : LayM (hS h) (hR h)) {r o : Row} (w : WF r) (ho : o 15 = -1) {v : Int32} : gC (d + 2) (0) (0) m_X6_told [.ref 66, .int v] (MH h r o) (RA h (aTold (mS h r o) v)) := by
  have e_0 : aTold (mS h r o) v = (if inB v (nI 1) (nI 5) = true then ((hI h 71) (toN v), (mS h r o)) else errA (mS h r o) (-1000000001) 1) := rfl
  rw [e_0]
  have hn8 := w.n8
  refine gC.of (ls := [some (.ref 66), some (.int v)]) (by decide +kernel) rfl rfl rfl rfl (Nat.le_of_ble_eq_true rfl) ?_
  refine r_iload_n 1 dX6_told_0 rfl rfl ?_
  refine r_iconst (v := nI 1) dX6_told_1 rfl ?_
  refine r_iconst (v := nI 5) dX6_told_2 rfl ?_
  refine r_callS_1 dX6_told_3 kX6_48 (M_in)  rfl rfl (Nat.le_of_ble_eq_true rfl) ?_
  refine r_if_eq 18 dX6_told_6 (by decide) (fun c_6 => ?_) (fun c_6 => ?_)
  · skip
    have n_6 : _ = false := b2_f c_6
    first | rw [ifT n_6] | rw [ifF n_6] | skip
    refine r_aload_n 0 dX6_told_18 rfl rfl rfl ?_
    refine r_ldc (v := -1000000001) dX6_told_19 q1511 ?_
    refine r_callV_1 dX6_told_21 kX6_53 (M_errs hm (e := (-1000000001 : Int32)) 1 (by decide +kernel) (by decide)) (gRecv.of hm.s66 rfl) rfl rfl (Nat.le_of_ble_eq_true rfl) ?_
    refine e_iret dX6_told_24 rfl ?_
    exact RA.mk (Jo.r) ho ((FrM.r).b (by decide)) (rfl) (rfl)
  · skip
    have n_6 : _ = true := b2_t c_6
    first | rw [ifT n_6] | rw [ifF n_6] | skip
    obtain ⟨k, h_1, h_m, rfl⟩ := inB_p (by decide) n_6
    have e_k : toN (nI k) = k := toN_nI (by omega)
    rw [e_k]
    refine r_aload_n 0 dX6_told_9 rfl rfl rfl ?_
    refine r_getr (k := 6) (b := 71) dX6_told_10 hm.s66 rfl (by decide) (Or.inl q1422) (Or.inl rfl) rfl hm.r_found ?_
    refine r_iload_n 1 dX6_told_13 rfl rfl ?_
    refine r_ialdN (k) dX6_told_14 hm.s71 rfl (by omega) (by decide) ?_
    refine r_goto 24 dX6_told_15 (by decide) ?_
    refine e_iret dX6_told_24 rfl ?_
    exact RA.mk (Jo.r) ho (FrM.r) (rfl) (rfl)
theorem A_tell {d : Nat} {h : Hp} (hm : LayM (hS h) (hR h)) {r o : Row} (w : WF r) (ho : o 15 = -1) {v : Int32} : gC (d + 2) (0) (0) m_X6_tell [.ref 66, .int v] (MH h r o) (RA h (aTell (mS h r o) v)) := by
  have e_0 : aTell (mS h r o) v = (if toN (r 4) = 20 then errA (mS h r o) (-1000000004) 4 else (nI (toN (r 4) + 1), (mS h r o).s_r (ru (ru r (161 + toN (r 4)) v) 4 (nI (toN (r 4) + 1))))) := rfl
  rw [e_0]
  have hn8 := w.n8
  obtain ⟨z, h4, hz⟩ := w.Z
  have e_z : toN (r 4) = z := by rw [h4]; exact toN_nI (by omega)
  rw [e_z]
  refine gC.of (ls := [some (.ref 66), some (.int v)]) (by decide +kernel) rfl rfl rfl rfl (Nat.le_of_ble_eq_true rfl) ?_
  refine r_aload_n 0 dX6_tell_0 rfl rfl rfl ?_
  refine r_getr (k := 0) (b := 67) dX6_tell_1 hm.s66 rfl (by decide) (Or.inl q1416) (Or.inl rfl) rfl hm.r_row ?_
  refine r_iconst (v := nI 4) dX6_tell_4 rfl ?_
  refine r_ialdN (4) dX6_tell_5 hm.s67 rfl (by omega) (by decide) ?_
  refine r_eqi (show _ = nI (z) from h4) ?_
  refine r_bipush (v := nI 20) dX6_tell_6 (by decide +kernel) ?_
  refine r_icmp_ne 18 dX6_tell_8 (by decide) (fun c_8 => ?_) (fun c_8 => ?_)
  · skip
    have n_8 : ¬ z = 20 := n_ne (by omega) (by omega) c_8
    first | rw [iP n_8] | rw [iN n_8] | rw [iN (Nat.not_lt.mpr n_8)] | skip
    refine r_aload_n 0 dX6_tell_18 rfl rfl rfl ?_
    refine r_getr (k := 0) (b := 67) dX6_tell_19 hm.s66 rfl (by decide) (Or.inl q1416) (Or.inl rfl) rfl hm.r_row ?_
    refine r_sipush (v := nI 161) dX6_tell_22 (by decide +kernel) ?_
    refine r_aload_n 0 dX6_tell_25 rfl rfl rfl ?_
    refine r_getr (k := 0) (b := 67) dX6_tell_26 hm.s66 rfl (by decide) (Or.inl q1416) (Or.inl rfl) rfl hm.r_row ?_
    refine r_iconst (v := nI 4) dX6_tell_29 rfl ?_
    refine r_ialdN (4) dX6_tell_30 hm.s67 rfl (by omega) (by decide) ?_
    refine r_eqi (show _ = nI (z) from h4) ?_
    refine r_iadd dX6_tell_31 ?_
    refine r_eqi (show _ = nI (161 + z) from by simp only [pk_mul, nI_add]) ?_
    refine r_iload_n 1 dX6_tell_32 rfl rfl ?_
    refine r_iastN ((161 + z)) dX6_tell_33 hm.s67 rfl (by omega) (by decide) ?_
    refine gG_h (MH_67 _ _ _ _ _) ?_
    refine r_aload_n 0 dX6_tell_34 rfl rfl rfl ?_
    refine r_getr (k := 0) (b := 67) dX6_tell_35 hm.s66 rfl (by decide) (Or.inl q1416) (Or.inl rfl) rfl hm.r_row ?_
    refine r_iconst (v := nI 4) dX6_tell_38 rfl ?_
    refine r_dup2 dX6_tell_39 rfl rfl ?_
    refine r_ialdN (4) dX6_tell_40 hm.s67 rfl (by omega) (by decide) ?_
    refine r_eqi (show _ = nI (z) from (ru_n (by omega)).trans h4) ?_
    refine r_iconst (v := nI 1) dX6_tell_41 rfl ?_
    refine r_iadd dX6_tell_42 ?_
    refine r_eqi (show _ = nI ((z + 1)) from (by simp only [nI_add])) ?_
    refine r_iastN (4) dX6_tell_43 hm.s67 rfl (by omega) (by decide) ?_
    refine gG_h (MH_67 _ _ _ _ _) ?_
    refine r_aload_n 0 dX6_tell_44 rfl rfl rfl ?_
    refine r_getr (k := 0) (b := 67) dX6_tell_45 hm.s66 rfl (by decide) (Or.inl q1416) (Or.inl rfl) rfl hm.r_row ?_
    refine r_iconst (v := nI 4) dX6_tell_48 rfl ?_
    refine r_ialdN (4) dX6_tell_49 hm.s67 rfl (by omega) (by decide) ?_
    refine r_eqi (show _ = nI ((z + 1)) from rfl) ?_
    refine e_iret dX6_tell_50 rfl ?_
    exact RA.mk (Jo.r) ho (FrM.r) (rfl) (rfl)
  · skip
    have n_8 : z = 20 := n_nen (by omega) (by omega) c_8
    first | rw [iP n_8] | rw [iN n_8] | rw [iN (Nat.not_lt.mpr n_8)] | skip
    refine r_aload_n 0 dX6_tell_11 rfl rfl rfl ?_
    refine r_ldc (v := -1000000004) dX6_tell_12 q1517 ?_
    refine r_callV_1 dX6_tell_14 kX6_53 (M_errs hm (e := (-1000000004 : Int32)) 4 (by decide +kernel) (by decide)) (gRecv.of hm.s66 rfl) rfl rfl (Nat.le_of_ble_eq_true rfl) ?_
    refine e_iret dX6_tell_17 rfl ?_
    exact RA.mk (Jo.r) ho ((FrM.r).b (by decide)) (rfl) (rfl)
theorem A_restore {d : Nat} {h : Hp} (hm : LayM (hS h) (hR h)) {r o : Row} (w : WF r) (ho : o 15 = -1)  : gC (d + 2) (0) (0) m_X6_restore [.ref 66] (MH h r o) (RA h (aRestore (mS h r o))) := by
  have e_0 : aRestore (mS h r o) = (if (o 4) = 0 then errA (mS h r o) (-1000000002) 2 else ((hI h 68) 0, (mS h r o).s_r (cpR 281 (hI h 68) r))) := rfl
  rw [e_0]
  have hn8 := w.n8
  refine gC.of (ls := [some (.ref 66)]) (by decide +kernel) rfl rfl rfl rfl (Nat.le_of_ble_eq_true rfl) ?_
  refine r_aload_n 0 dX6_restore_0 rfl rfl rfl ?_
  refine r_geti (k := 4) dX6_restore_1 hm.s66 rfl (by decide) (Or.inl q1420) (Or.inl rfl) rfl ?_
  refine r_eqi (show _ = (o 4) from rfl) ?_
  refine r_if_ne 14 dX6_restore_4 (by decide) (fun c_4 => ?_) (fun c_4 => ?_)
  · skip
    first | rw [iP c_4] | rw [iN c_4] | rw [iN (i_le_nlt c_4)] | rw [iP (i_nle c_4)] | rw [iP (i_nlt c_4)] | rw [iN (i_lt_nle c_4)] | skip
    refine r_aload_n 0 dX6_restore_14 rfl rfl rfl ?_
    refine r_aload_n 0 dX6_restore_15 rfl rfl rfl ?_
    refine r_getr (k := 1) (b := 68) dX6_restore_16 hm.s66 rfl (by decide) (Or.inl q1417) (Or.inl rfl) rfl hm.r_kept ?_
    refine r_aload_n 0 dX6_restore_19 rfl rfl rfl ?_
    refine r_getr (k := 0) (b := 67) dX6_restore_20 hm.s66 rfl (by decide) (Or.inl q1416) (Or.inl rfl) rfl hm.r_row ?_
    refine r_callV_0 dX6_restore_23 kX6_165 (M_move_in hm 68 (by decide)) (gRecv.of hm.s66 rfl) rfl rfl (Nat.le_of_ble_eq_true rfl) ?_
    refine r_aload_n 0 dX6_restore_26 rfl rfl rfl ?_
    refine r_getr (k := 0) (b := 67) dX6_restore_27 hm.s66 rfl (by decide) (Or.inl q1416) (Or.inl rfl) rfl hm.r_row ?_
    refine r_iconst (v := nI 0) dX6_restore_30 rfl ?_
    refine r_ialdN (0) dX6_restore_31 hm.s67 rfl (by omega) (by decide) ?_
    refine e_iret dX6_restore_32 rfl ?_
    exact RA.mk (Jo.r) ho (FrM.r) (rfl) (rfl)
  · skip
    first | rw [iP c_4] | rw [iN c_4] | rw [iN (i_le_nlt c_4)] | rw [iP (i_nle c_4)] | rw [iP (i_nlt c_4)] | rw [iN (i_lt_nle c_4)] | skip
    refine r_aload_n 0 dX6_restore_7 rfl rfl rfl ?_
    refine r_ldc (v := -1000000002) dX6_restore_8 q1735 ?_
    refine r_callV_1 dX6_restore_10 kX6_53 (M_errs hm (e := (-1000000002 : Int32)) 2 (by decide +kernel) (by decide)) (gRecv.of hm.s66 rfl) rfl rfl (Nat.le_of_ble_eq_true rfl) ?_
    refine e_iret dX6_restore_13 rfl ?_
    exact RA.mk (Jo.r) ho ((FrM.r).b (by decide)) (rfl) (rfl)
theorem A_image {d : Nat} {h : Hp} (hm : LayM (hS h) (hR h)) {r o : Row} (w : WF r) (ho : o 15 = -1)  : gC (d + 2) (0) (0) m_X6_image [.ref 66] (MH h r o) (RA h (aImage (mS h r o))) := by
  have e_0 : aImage (mS h r o) = (((o 5) + nI 1, (((mS h r o).s_kept (cpR 281 r (hI h 68))).s_isK (nI 1)).s_images ((o 5) + nI 1))) := rfl
  rw [e_0]
  have hn8 := w.n8
  refine gC.of (ls := [some (.ref 66)]) (by decide +kernel) rfl rfl rfl rfl (Nat.le_of_ble_eq_true rfl) ?_
  refine r_aload_n 0 dX6_image_0 rfl rfl rfl ?_
  refine r_aload_n 0 dX6_image_1 rfl rfl rfl ?_
  refine r_getr (k := 0) (b := 67) dX6_image_2 hm.s66 rfl (by decide) (Or.inl q1416) (Or.inl rfl) rfl hm.r_row ?_
  refine r_aload_n 0 dX6_image_5 rfl rfl rfl ?_
  refine r_getr (k := 1) (b := 68) dX6_image_6 hm.s66 rfl (by decide) (Or.inl q1417) (Or.inl rfl) rfl hm.r_kept ?_
  refine r_callV_0 dX6_image_9 kX6_165 (M_move_out hm 68 (by decide)) (gRecv.of hm.s66 rfl) rfl rfl (Nat.le_of_ble_eq_true rfl) ?_
  refine r_aload_n 0 dX6_image_12 rfl rfl rfl ?_
  refine r_iconst (v := nI 1) dX6_image_13 rfl ?_
  refine r_puti (k := 4) dX6_image_14 hm.s66 rfl (by decide) (Or.inl q1420) (Or.inl rfl) (Or.inl rfl) rfl rfl rfl ?_
  refine gG_h (MH_66 _ _ _ _ _) ?_
  refine r_aload_n 0 dX6_image_17 rfl rfl rfl ?_
  refine r_dup dX6_image_18 rfl ?_
  refine r_geti (k := 5) dX6_image_19 hm.s66 rfl (by decide) (Or.inl q1421) (Or.inl rfl) rfl ?_
  refine r_iconst (v := nI 1) dX6_image_22 rfl ?_
  refine r_iadd dX6_image_23 ?_
  refine r_puti (k := 5) dX6_image_24 hm.s66 rfl (by decide) (Or.inl q1421) (Or.inl rfl) (Or.inl rfl) rfl rfl rfl ?_
  refine gG_h (MH_66 _ _ _ _ _) ?_
  refine r_aload_n 0 dX6_image_27 rfl rfl rfl ?_
  refine r_geti (k := 5) dX6_image_28 hm.s66 rfl (by decide) (Or.inl q1421) (Or.inl rfl) rfl ?_
  refine e_iret dX6_image_31 rfl ?_
  exact RA.mk' ho ((FrM.r).b (by decide)) rfl rfl
theorem M_isSheet {d : Nat} {h : Hp} {v : Int32} : gC (d + 1) (0) (0) m_X6_isSheet [.int v] (h) (Ret (some (.int (b2 (inB v (nI 0) (nI 3))))) h) := by
  refine gC.of (ls := [some (.int v)]) (by decide +kernel) rfl rfl rfl rfl (Nat.le_of_ble_eq_true rfl) ?_
  refine r_iload_n 0 dX6_isSheet_0 rfl rfl ?_
  refine r_iconst (v := nI 0) dX6_isSheet_1 rfl ?_
  refine r_iconst (v := nI 3) dX6_isSheet_2 rfl ?_
  refine r_callS_1 dX6_isSheet_3 kX6_48 (M_in)  rfl rfl (Nat.le_of_ble_eq_true rfl) ?_
  refine e_zret dX6_isSheet_6 rfl (nar_b2 _) ?_
  exact ⟨rfl, rfl⟩
theorem M_narrow {d : Nat} {h : Hp} {b v : Int32} : gC (d) (0) (0) m_X6_narrow [.int b, .int v] (h) (Ret (some (.int (narV b v))) h) := by
  refine gC.of (ls := [some (.int b), some (.int v)]) (by decide +kernel) rfl rfl rfl rfl (Nat.le_of_ble_eq_true rfl) ?_
  refine r_iload_n 0 dX6_narrow_0 rfl rfl ?_
  refine r_bipush (v := nI 8) dX6_narrow_1 (by decide +kernel) ?_
  refine r_icmp_ne 11 dX6_narrow_3 (by decide) (fun c_3 => ?_) (fun c_3 => ?_)
  · skip
    refine r_iload_n 0 dX6_narrow_11 rfl rfl ?_
    refine r_bipush (v := nI 16) dX6_narrow_12 (by decide +kernel) ?_
    refine r_icmp_ne 22 dX6_narrow_14 (by decide) (fun c_14 => ?_) (fun c_14 => ?_)
    · skip
      refine r_iload_n 1 dX6_narrow_22 rfl rfl ?_
      refine e_iret dX6_narrow_23 rfl ?_
      exact ⟨by unfold narV; rw [if_neg c_3, if_neg c_14], rfl⟩
    · skip
      refine r_iload_n 1 dX6_narrow_17 rfl rfl ?_
      refine r_i2s dX6_narrow_18 ?_
      refine r_goto 23 dX6_narrow_19 (by decide) ?_
      refine e_iret dX6_narrow_23 rfl ?_
      exact ⟨by unfold narV; rw [if_neg c_3, if_pos c_14], rfl⟩
  · skip
    refine r_iload_n 1 dX6_narrow_6 rfl rfl ?_
    refine r_i2b dX6_narrow_7 ?_
    refine r_goto 23 dX6_narrow_8 (by decide) ?_
    refine e_iret dX6_narrow_23 rfl ?_
    exact ⟨by unfold narV; rw [if_pos c_3], rfl⟩
theorem A_put {d : Nat} {h : Hp} (hm : LayM (hS h) (hR h)) {r o : Row} (w : WF r) (ho : o 15 = -1) {s i v : Int32} (hz : ∀ s, s < 4 → ∃ j, hI h 73 s = nI j ∧ j ≤ 40) : gC (d + 2) (0) (0) m_X6_put [.ref 66, .int s, .int i, .int v] (MH h r o) (RA h (aPut (mS h r o) s i v)) := by
  have e_0 : aPut (mS h r o) s i v = (if inB s (nI 0) (nI 3) = true then (if (hI h 72) (toN s) = 0 then errA (mS h r o) (-1000000002) 2 else (if inB i (nI 0) ((hI h 73) (toN s) - nI 1) = true then (nI 1, (mS h r o).s_sheets (ru (hI h 74) (40 * toN s + toN i) (narV ((hI h 72) (toN s)) v))) else errA (mS h r o) (-1000000001) 1)) else errA (mS h r o) (-1000000001) 1) := rfl
  rw [e_0]
  have hn8 := w.n8
  refine gC.of (ls := [some (.ref 66), some (.int s), some (.int i), some (.int v)]) (by decide +kernel) rfl rfl rfl rfl (Nat.le_of_ble_eq_true rfl) ?_
  refine r_iload_n 1 dX6_put_0 rfl rfl ?_
  refine r_callS_1 dX6_put_1 kX6_228 (M_isSheet (v := s))  rfl rfl (Nat.le_of_ble_eq_true rfl) ?_
  refine r_if_ne 14 dX6_put_4 (by decide) (fun c_4 => ?_) (fun c_4 => ?_)
  · skip
    have n_4 : (inB s (nI 0) (nI 3)) = true := b2_t c_4
    first | rw [ifT n_4] | rw [ifF n_4] | skip
    obtain ⟨k, h_k, rfl⟩ := inB_n (by decide) n_4
    have e_k : toN (nI k) = k := toN_nI (by omega)
    try simp only [e_k]
    refine r_aload_n 0 dX6_put_14 rfl rfl rfl ?_
    refine r_getr (k := 19) (b := 72) dX6_put_15 hm.s66 rfl (by decide) (Or.inl q1435) (Or.inl rfl) rfl hm.r_bitsOf ?_
    refine r_iload_n 1 dX6_put_18 rfl rfl ?_
    refine r_ialdN (k) dX6_put_19 hm.s72 rfl (by omega) (by decide) ?_
    refine r_eqi (show _ = (hI h 72 k) from rfl) ?_
    refine r_if_ne 30 dX6_put_20 (by decide) (fun c_20 => ?_) (fun c_20 => ?_)
    · skip
      first | rw [iP c_20] | rw [iN c_20] | rw [iN (i_le_nlt c_20)] | rw [iP (i_nle c_20)] | rw [iP (i_nlt c_20)] | rw [iN (i_lt_nle c_20)] | skip
      refine r_iload_n 2 dX6_put_30 rfl rfl ?_
      refine r_iconst (v := nI 0) dX6_put_31 rfl ?_
      refine r_aload_n 0 dX6_put_32 rfl rfl rfl ?_
      refine r_getr (k := 20) (b := 73) dX6_put_33 hm.s66 rfl (by decide) (Or.inl q1436) (Or.inl rfl) rfl hm.r_sizeOf ?_
      refine r_iload_n 1 dX6_put_36 rfl rfl ?_
      refine r_ialdN (k) dX6_put_37 hm.s73 rfl (by omega) (by decide) ?_
      refine r_eqi (show _ = (hI h 73 k) from rfl) ?_
      refine r_iconst (v := nI 1) dX6_put_38 rfl ?_
      refine r_isub dX6_put_39 ?_
      refine r_callS_1 dX6_put_40 kX6_48 (M_in)  rfl rfl (Nat.le_of_ble_eq_true rfl) ?_
      refine r_if_ne 53 dX6_put_43 (by decide) (fun c_43 => ?_) (fun c_43 => ?_)
      · skip
        have n_43 : _ = true := b2_t c_43
        first | rw [ifT n_43] | rw [ifF n_43] | skip
        obtain ⟨z, h_z, h_z4⟩ := hz k (by omega)
        obtain ⟨c, h_c, rfl⟩ := inB_n1 (v := i) (n := z) (by omega) (show inB i 0 (nI z - 1) = true from by rw [← h_z]; exact n_43)
        have e_c : toN (nI c) = c := toN_nI (by omega)
        try simp only [e_c]
        refine r_aload_n 0 dX6_put_53 rfl rfl rfl ?_
        refine r_getr (k := 21) (b := 74) dX6_put_54 hm.s66 rfl (by decide) (Or.inl q1437) (Or.inl rfl) rfl hm.r_sheets ?_
        refine r_bipush (v := nI 40) dX6_put_57 (by decide +kernel) ?_
        refine r_iload_n 1 dX6_put_59 rfl rfl ?_
        refine r_imul dX6_put_60 ?_
        refine r_eqi (show _ = nI (40 * k) from by simp only [pk_mul, nI_add]) ?_
        refine r_iload_n 2 dX6_put_61 rfl rfl ?_
        refine r_iadd dX6_put_62 ?_
        refine r_eqi (show _ = nI ((40 * k) + c) from by simp only [pk_mul, nI_add]) ?_
        refine r_aload_n 0 dX6_put_63 rfl rfl rfl ?_
        refine r_getr (k := 19) (b := 72) dX6_put_64 hm.s66 rfl (by decide) (Or.inl q1435) (Or.inl rfl) rfl hm.r_bitsOf ?_
        refine r_iload_n 1 dX6_put_67 rfl rfl ?_
        refine r_ialdN (k) dX6_put_68 hm.s72 rfl (by omega) (by decide) ?_
        refine r_eqi (show _ = (hI h 72 k) from rfl) ?_
        refine r_iload_n 3 dX6_put_69 rfl rfl ?_
        refine r_callS_1 dX6_put_70 kX6_276 (M_narrow (b := (hI h 72 k)) (v := v))  rfl rfl (Nat.le_of_ble_eq_true rfl) ?_
        refine r_iastN (((40 * k) + c)) dX6_put_73 hm.s74 rfl (by omega) (by decide) ?_
        refine gG_h (MH_bI' _ _ _ _ _ _ (by decide) (by decide)) ?_
        refine r_iconst (v := nI 1) dX6_put_74 rfl ?_
        refine e_iret dX6_put_75 rfl ?_
        exact RA.mk (Jo.r) ho ((FrM.r).b (by decide)) (rfl) (rfl)
      · skip
        have n_43 : _ = false := b2_f c_43
        first | rw [ifT n_43] | rw [ifF n_43] | skip
        refine r_aload_n 0 dX6_put_46 rfl rfl rfl ?_
        refine r_ldc (v := -1000000001) dX6_put_47 q1511 ?_
        refine r_callV_1 dX6_put_49 kX6_53 (M_errs hm (e := (-1000000001 : Int32)) 1 (by decide +kernel) (by decide)) (gRecv.of hm.s66 rfl) rfl rfl (Nat.le_of_ble_eq_true rfl) ?_
        refine e_iret dX6_put_52 rfl ?_
        exact RA.mk (Jo.r) ho ((FrM.r).b (by decide)) (rfl) (rfl)
    · skip
      first | rw [iP c_20] | rw [iN c_20] | rw [iN (i_le_nlt c_20)] | rw [iP (i_nle c_20)] | rw [iP (i_nlt c_20)] | rw [iN (i_lt_nle c_20)] | skip
      refine r_aload_n 0 dX6_put_23 rfl rfl rfl ?_
      refine r_ldc (v := -1000000002) dX6_put_24 q1735 ?_
      refine r_callV_1 dX6_put_26 kX6_53 (M_errs hm (e := (-1000000002 : Int32)) 2 (by decide +kernel) (by decide)) (gRecv.of hm.s66 rfl) rfl rfl (Nat.le_of_ble_eq_true rfl) ?_
      refine e_iret dX6_put_29 rfl ?_
      exact RA.mk (Jo.r) ho ((FrM.r).b (by decide)) (rfl) (rfl)
  · skip
    have n_4 : (inB s (nI 0) (nI 3)) = false := b2_f c_4
    first | rw [ifT n_4] | rw [ifF n_4] | skip
    refine r_aload_n 0 dX6_put_7 rfl rfl rfl ?_
    refine r_ldc (v := -1000000001) dX6_put_8 q1511 ?_
    refine r_callV_1 dX6_put_10 kX6_53 (M_errs hm (e := (-1000000001 : Int32)) 1 (by decide +kernel) (by decide)) (gRecv.of hm.s66 rfl) rfl rfl (Nat.le_of_ble_eq_true rfl) ?_
    refine e_iret dX6_put_13 rfl ?_
    exact RA.mk (Jo.r) ho ((FrM.r).b (by decide)) (rfl) (rfl)
theorem M_sheet_L {d : Nat} {h : Hp} (hm : LayM (hS h) (hR h)) {r o : Row} {f : Row} {s : Nat} (hs : s < 4) {b n : Int32} {Q : gQ} : ∀ (k i : Nat), i ≤ 40 → 40 + 1 ≤ i + k → (gG (d + 2) (0) (0) m_X6_sheet 119 [some (.ref 66), some (.int (nI s)), some (.int b), some (.int n), some (.int (nI 40))] [] (MH (bI h 74 (zeroS f s (40))) r o) (Q)) → gG (d + 2) (0) (0) m_X6_sheet 93 [some (.ref 66), some (.int (nI s)), some (.int b), some (.int n), some (.int (nI i))] [] (MH (bI h 74 (zeroS f s (i))) r o) (Q) := by
  intro k
  induction k with
  | zero => exact fun i h1 h2 => absurd h2 (by omega)
  | succ k ih =>
  intro i hi hk kk
  refine r_iload dX6_sheet_93 rfl ?_
  refine r_bipush (v := nI 40) dX6_sheet_95 (by decide +kernel) ?_
  refine r_icmp_ge 119 dX6_sheet_97 (by decide) (fun c_97 => ?_) (fun c_97 => ?_)
  · skip
    have n_97 : 40 ≤ i := n_ge (by omega) (by omega) c_97
    have hin : i = 40 := by omega
    subst hin
    exact kk
  · skip
    have n_97 : i < 40 := n_gen (by omega) (by omega) c_97
    refine r_aload_n 0 dX6_sheet_100 rfl rfl rfl ?_
    refine r_getr (k := 21) (b := 74) dX6_sheet_101 hm.s66 rfl (by decide) (Or.inl q1437) (Or.inl rfl) rfl hm.r_sheets ?_
    refine r_bipush (v := nI 40) dX6_sheet_104 (by decide +kernel) ?_
    refine r_iload_n 1 dX6_sheet_106 rfl rfl ?_
    refine r_imul dX6_sheet_107 ?_
    refine r_eqi (show _ = nI (40 * s) from by simp only [pk_mul, nI_add]) ?_
    refine r_iload dX6_sheet_108 rfl ?_
    refine r_iadd dX6_sheet_110 ?_
    refine r_eqi (show _ = nI ((40 * s) + i) from by simp only [pk_mul, nI_add]) ?_
    refine r_iconst (v := nI 0) dX6_sheet_111 rfl ?_
    refine r_iastN (((40 * s) + i)) dX6_sheet_112 hm.s74 rfl (by omega) (by decide) ?_
    refine gG_h (MH_bI' _ _ _ _ _ _ (by decide) (by decide)) ?_
    refine r_iinc dX6_sheet_113 rfl (by decide) rfl ?_
    refine gG_ls (ls' := [_, _, _, _, some (.int (nI ((i + 1))))]) (by rw [show (Int32.ofInt 1) = nI 1 from rfl, nI_add]; rfl) ?_
    refine r_goto 93 dX6_sheet_116 (by decide) ?_
    refine gG_h (show _ = MH (bI h 74 (zeroS f s (i + 1))) r o from by rw [bI_bI, bI_s]; rfl) ?_
    exact ih (i + 1) (by omega) (by omega) kk
theorem A_sheet {d : Nat} {h : Hp} (hm : LayM (hS h) (hR h)) {r o : Row} (w : WF r) (ho : o 15 = -1) {s b n : Int32} : gC (d + 2) (0) (0) m_X6_sheet [.ref 66, .int s, .int b, .int n] (MH h r o) (RA h (aSheet (mS h r o) s b n)) := by
  have e_0 : aSheet (mS h r o) s b n = (if inB s (nI 0) (nI 3) = true then (if widB b = true then (if b = 0 then okS (mS h r o) (toN s) b n else if n < 0 then errA (mS h r o) (-1000000003) 3 else if nI 40 < n then errA (mS h r o) (-1000000001) 1 else okS (mS h r o) (toN s) b n) else errA (mS h r o) (-1000000001) 1) else errA (mS h r o) (-1000000001) 1) := rfl
  rw [e_0]
  have hn8 := w.n8
  refine gC.of (ls := [some (.ref 66), some (.int s), some (.int b), some (.int n), none]) (by decide +kernel) rfl rfl rfl rfl (Nat.le_of_ble_eq_true rfl) ?_
  refine r_iload_n 1 dX6_sheet_0 rfl rfl ?_
  refine r_callS_1 dX6_sheet_1 kX6_228 (M_isSheet (v := s))  rfl rfl (Nat.le_of_ble_eq_true rfl) ?_
  refine r_if_eq 29 dX6_sheet_4 (by decide) (fun c_4 => ?_) (fun c_4 => ?_)
  · skip
    have n_4 : (inB s (nI 0) (nI 3)) = false := b2_f c_4
    first | rw [ifT n_4] | rw [ifF n_4] | skip
    refine r_aload_n 0 dX6_sheet_29 rfl rfl rfl ?_
    refine r_ldc (v := -1000000001) dX6_sheet_30 q1511 ?_
    refine r_callV_1 dX6_sheet_32 kX6_53 (M_errs hm (e := (-1000000001 : Int32)) 1 (by decide +kernel) (by decide)) (gRecv.of hm.s66 rfl) rfl rfl (Nat.le_of_ble_eq_true rfl) ?_
    refine e_iret dX6_sheet_35 rfl ?_
    exact RA.mk (Jo.r) ho ((FrM.r).b (by decide)) rfl rfl
  · skip
    have n_4 : (inB s (nI 0) (nI 3)) = true := b2_t c_4
    first | rw [ifT n_4] | rw [ifF n_4] | skip
    obtain ⟨k, h_k, rfl⟩ := inB_n (by decide) n_4
    have e_k : toN (nI k) = k := toN_nI (by omega)
    try simp only [e_k]
    refine r_iload_n 2 dX6_sheet_7 rfl rfl ?_
    refine r_if_eq 36 dX6_sheet_8 (by decide) (fun c_8 => ?_) (fun c_8 => ?_)
    · skip
      first | rw [iP c_8] | rw [iN c_8] | rw [iN (i_le_nlt c_8)] | rw [iP (i_nle c_8)] | rw [iP (i_nlt c_8)] | rw [iN (i_lt_nle c_8)] | skip
      rw [ifT (show widB b = true from by rw [c_8]; rfl)]
      refine r_iload_n 2 dX6_sheet_36 rfl rfl ?_
      refine r_if_eq 51 dX6_sheet_37 (by decide) (fun c_37 => ?_) (fun c_37 => ?_)
      · skip
        first | rw [iP c_37] | rw [iN c_37] | rw [iN (i_le_nlt c_37)] | rw [iP (i_nle c_37)] | rw [iP (i_nlt c_37)] | rw [iN (i_lt_nle c_37)] | skip
        refine r_iload_n 2 dX6_sheet_51 rfl rfl ?_
        refine r_if_eq 68 dX6_sheet_52 (by decide) (fun c_52 => ?_) (fun c_52 => ?_)
        · skip
          first | rw [iP c_52] | rw [iN c_52] | rw [iN (i_le_nlt c_52)] | rw [iP (i_nle c_52)] | rw [iP (i_nlt c_52)] | rw [iN (i_lt_nle c_52)] | skip
          unfold okS
          refine r_aload_n 0 dX6_sheet_68 rfl rfl rfl ?_
          refine r_getr (k := 19) (b := 72) dX6_sheet_69 hm.s66 rfl (by decide) (Or.inl q1435) (Or.inl rfl) rfl hm.r_bitsOf ?_
          refine r_iload_n 1 dX6_sheet_72 rfl rfl ?_
          refine r_iload_n 2 dX6_sheet_73 rfl rfl ?_
          refine r_iastN (k) dX6_sheet_74 hm.s72 rfl (by omega) (by decide) ?_
          refine gG_h (MH_bI' _ _ _ _ _ _ (by decide) (by decide)) ?_
          refine r_aload_n 0 dX6_sheet_75 rfl rfl rfl ?_
          refine r_getr (k := 20) (b := 73) dX6_sheet_76 hm.s66 rfl (by decide) (Or.inl q1436) (Or.inl rfl) rfl hm.r_sizeOf ?_
          refine r_iload_n 1 dX6_sheet_79 rfl rfl ?_
          refine r_iload_n 2 dX6_sheet_80 rfl rfl ?_
          refine r_if_ne 88 dX6_sheet_81 (by decide) (fun c_81 => ?_) (fun c_81 => ?_)
          · skip
            first | rw [iP c_81] | rw [iN c_81] | rw [iN (i_le_nlt c_81)] | rw [iP (i_nle c_81)] | rw [iP (i_nlt c_81)] | rw [iN (i_lt_nle c_81)] | skip
            exact absurd c_8 c_81
          · skip
            first | rw [iP c_81] | rw [iN c_81] | rw [iN (i_le_nlt c_81)] | rw [iP (i_nle c_81)] | rw [iP (i_nlt c_81)] | rw [iN (i_lt_nle c_81)] | skip
            refine r_iconst (v := nI 0) dX6_sheet_84 rfl ?_
            refine r_goto 89 dX6_sheet_85 (by decide) ?_
            refine r_iastN (k) dX6_sheet_89 hm.s73 rfl (by omega) (by decide) ?_
            refine gG_h (MH_bI' _ _ _ _ _ _ (by decide) (by decide)) ?_
            refine r_iconst (v := nI 0) dX6_sheet_90 rfl ?_
            refine r_istore dX6_sheet_91 (by decide) rfl ?_
            refine gG_ls (ls' := [_, _, _, _, _]) rfl ?_
            refine gG_h (MH_74 _ _ _) ?_
            refine M_sheet_L (by exact hm) (by omega) 41 0 (by omega) (by omega) ?_
            refine r_iconst (v := nI 1) dX6_sheet_119 rfl ?_
            refine e_iret dX6_sheet_120 rfl ?_
            exact RA.mk (Jo.r) ho ((((FrM.r).b (by decide)).b (by decide)).b (by decide)) rfl rfl
        · skip
          first | rw [iP c_52] | rw [iN c_52] | rw [iN (i_le_nlt c_52)] | rw [iP (i_nle c_52)] | rw [iP (i_nlt c_52)] | rw [iN (i_lt_nle c_52)] | skip
          exact absurd c_8 c_52
      · skip
        first | rw [iP c_37] | rw [iN c_37] | rw [iN (i_le_nlt c_37)] | rw [iP (i_nle c_37)] | rw [iP (i_nlt c_37)] | rw [iN (i_lt_nle c_37)] | skip
        exact absurd c_8 c_37
    · skip
      first | rw [iP c_8] | rw [iN c_8] | rw [iN (i_le_nlt c_8)] | rw [iP (i_nle c_8)] | rw [iP (i_nlt c_8)] | rw [iN (i_lt_nle c_8)] | skip
      refine r_iload_n 2 dX6_sheet_11 rfl rfl ?_
      refine r_bipush (v := nI 8) dX6_sheet_12 (by decide +kernel) ?_
      refine r_icmp_eq 36 dX6_sheet_14 (by decide) (fun c_14 => ?_) (fun c_14 => ?_)
      · skip
        first | rw [iP c_14] | rw [iN c_14] | rw [iN (i_le_nlt c_14)] | rw [iP (i_nle c_14)] | rw [iP (i_nlt c_14)] | rw [iN (i_lt_nle c_14)] | skip
        rw [ifT (show widB b = true from by rw [c_14]; rfl)]
        refine r_iload_n 2 dX6_sheet_36 rfl rfl ?_
        refine r_if_eq 51 dX6_sheet_37 (by decide) (fun c_37 => ?_) (fun c_37 => ?_)
        · skip
          first | rw [iP c_37] | rw [iN c_37] | rw [iN (i_le_nlt c_37)] | rw [iP (i_nle c_37)] | rw [iP (i_nlt c_37)] | rw [iN (i_lt_nle c_37)] | skip
          exact absurd c_37 c_8
        · skip
          first | rw [iP c_37] | rw [iN c_37] | rw [iN (i_le_nlt c_37)] | rw [iP (i_nle c_37)] | rw [iP (i_nlt c_37)] | rw [iN (i_lt_nle c_37)] | skip
          refine r_iload_n 3 dX6_sheet_40 rfl rfl ?_
          refine r_if_ge 51 dX6_sheet_41 (by decide) (fun c_41 => ?_) (fun c_41 => ?_)
          · skip
            first | rw [iP c_41] | rw [iN c_41] | rw [iN (i_le_nlt c_41)] | rw [iP (i_nle c_41)] | rw [iP (i_nlt c_41)] | rw [iN (i_lt_nle c_41)] | skip
            refine r_iload_n 2 dX6_sheet_51 rfl rfl ?_
            refine r_if_eq 68 dX6_sheet_52 (by decide) (fun c_52 => ?_) (fun c_52 => ?_)
            · skip
              first | rw [iP c_52] | rw [iN c_52] | rw [iN (i_le_nlt c_52)] | rw [iP (i_nle c_52)] | rw [iP (i_nlt c_52)] | rw [iN (i_lt_nle c_52)] | skip
              exact absurd c_52 c_8
            · skip
              first | rw [iP c_52] | rw [iN c_52] | rw [iN (i_le_nlt c_52)] | rw [iP (i_nle c_52)] | rw [iP (i_nlt c_52)] | rw [iN (i_lt_nle c_52)] | skip
              refine r_iload_n 3 dX6_sheet_55 rfl rfl ?_
              refine r_bipush (v := nI 40) dX6_sheet_56 (by decide +kernel) ?_
              refine r_icmp_le 68 dX6_sheet_58 (by decide) (fun c_58 => ?_) (fun c_58 => ?_)
              · skip
                first | rw [iP c_58] | rw [iN c_58] | rw [iN (i_le_nlt c_58)] | rw [iP (i_nle c_58)] | rw [iP (i_nlt c_58)] | rw [iN (i_lt_nle c_58)] | skip
                unfold okS
                refine r_aload_n 0 dX6_sheet_68 rfl rfl rfl ?_
                refine r_getr (k := 19) (b := 72) dX6_sheet_69 hm.s66 rfl (by decide) (Or.inl q1435) (Or.inl rfl) rfl hm.r_bitsOf ?_
                refine r_iload_n 1 dX6_sheet_72 rfl rfl ?_
                refine r_iload_n 2 dX6_sheet_73 rfl rfl ?_
                refine r_iastN (k) dX6_sheet_74 hm.s72 rfl (by omega) (by decide) ?_
                refine gG_h (MH_bI' _ _ _ _ _ _ (by decide) (by decide)) ?_
                refine r_aload_n 0 dX6_sheet_75 rfl rfl rfl ?_
                refine r_getr (k := 20) (b := 73) dX6_sheet_76 hm.s66 rfl (by decide) (Or.inl q1436) (Or.inl rfl) rfl hm.r_sizeOf ?_
                refine r_iload_n 1 dX6_sheet_79 rfl rfl ?_
                refine r_iload_n 2 dX6_sheet_80 rfl rfl ?_
                refine r_if_ne 88 dX6_sheet_81 (by decide) (fun c_81 => ?_) (fun c_81 => ?_)
                · skip
                  first | rw [iP c_81] | rw [iN c_81] | rw [iN (i_le_nlt c_81)] | rw [iP (i_nle c_81)] | rw [iP (i_nlt c_81)] | rw [iN (i_lt_nle c_81)] | skip
                  refine r_iload_n 3 dX6_sheet_88 rfl rfl ?_
                  refine r_iastN (k) dX6_sheet_89 hm.s73 rfl (by omega) (by decide) ?_
                  refine gG_h (MH_bI' _ _ _ _ _ _ (by decide) (by decide)) ?_
                  refine r_iconst (v := nI 0) dX6_sheet_90 rfl ?_
                  refine r_istore dX6_sheet_91 (by decide) rfl ?_
                  refine gG_ls (ls' := [_, _, _, _, _]) rfl ?_
                  refine gG_h (MH_74 _ _ _) ?_
                  refine M_sheet_L (by exact hm) (by omega) 41 0 (by omega) (by omega) ?_
                  refine r_iconst (v := nI 1) dX6_sheet_119 rfl ?_
                  refine e_iret dX6_sheet_120 rfl ?_
                  exact RA.mk (Jo.r) ho ((((FrM.r).b (by decide)).b (by decide)).b (by decide)) rfl rfl
                · skip
                  first | rw [iP c_81] | rw [iN c_81] | rw [iN (i_le_nlt c_81)] | rw [iP (i_nle c_81)] | rw [iP (i_nlt c_81)] | rw [iN (i_lt_nle c_81)] | skip
                  exact absurd c_81 c_8
              · skip
                first | rw [iP c_58] | rw [iN c_58] | rw [iN (i_le_nlt c_58)] | rw [iP (i_nle c_58)] | rw [iP (i_nlt c_58)] | rw [iN (i_lt_nle c_58)] | skip
                refine r_aload_n 0 dX6_sheet_61 rfl rfl rfl ?_
                refine r_ldc (v := -1000000001) dX6_sheet_62 q1511 ?_
                refine r_callV_1 dX6_sheet_64 kX6_53 (M_errs hm (e := (-1000000001 : Int32)) 1 (by decide +kernel) (by decide)) (gRecv.of hm.s66 rfl) rfl rfl (Nat.le_of_ble_eq_true rfl) ?_
                refine e_iret dX6_sheet_67 rfl ?_
                exact RA.mk (Jo.r) ho ((FrM.r).b (by decide)) rfl rfl
          · skip
            first | rw [iP c_41] | rw [iN c_41] | rw [iN (i_le_nlt c_41)] | rw [iP (i_nle c_41)] | rw [iP (i_nlt c_41)] | rw [iN (i_lt_nle c_41)] | skip
            refine r_aload_n 0 dX6_sheet_44 rfl rfl rfl ?_
            refine r_ldc (v := -1000000003) dX6_sheet_45 q1661 ?_
            refine r_callV_1 dX6_sheet_47 kX6_53 (M_errs hm (e := (-1000000003 : Int32)) 3 (by decide +kernel) (by decide)) (gRecv.of hm.s66 rfl) rfl rfl (Nat.le_of_ble_eq_true rfl) ?_
            refine e_iret dX6_sheet_50 rfl ?_
            exact RA.mk (Jo.r) ho ((FrM.r).b (by decide)) rfl rfl
      · skip
        first | rw [iP c_14] | rw [iN c_14] | rw [iN (i_le_nlt c_14)] | rw [iP (i_nle c_14)] | rw [iP (i_nlt c_14)] | rw [iN (i_lt_nle c_14)] | skip
        refine r_iload_n 2 dX6_sheet_17 rfl rfl ?_
        refine r_bipush (v := nI 16) dX6_sheet_18 (by decide +kernel) ?_
        refine r_icmp_eq 36 dX6_sheet_20 (by decide) (fun c_20 => ?_) (fun c_20 => ?_)
        · skip
          first | rw [iP c_20] | rw [iN c_20] | rw [iN (i_le_nlt c_20)] | rw [iP (i_nle c_20)] | rw [iP (i_nlt c_20)] | rw [iN (i_lt_nle c_20)] | skip
          rw [ifT (show widB b = true from by rw [c_20]; rfl)]
          refine r_iload_n 2 dX6_sheet_36 rfl rfl ?_
          refine r_if_eq 51 dX6_sheet_37 (by decide) (fun c_37 => ?_) (fun c_37 => ?_)
          · skip
            first | rw [iP c_37] | rw [iN c_37] | rw [iN (i_le_nlt c_37)] | rw [iP (i_nle c_37)] | rw [iP (i_nlt c_37)] | rw [iN (i_lt_nle c_37)] | skip
            exact absurd c_37 c_8
          · skip
            first | rw [iP c_37] | rw [iN c_37] | rw [iN (i_le_nlt c_37)] | rw [iP (i_nle c_37)] | rw [iP (i_nlt c_37)] | rw [iN (i_lt_nle c_37)] | skip
            refine r_iload_n 3 dX6_sheet_40 rfl rfl ?_
            refine r_if_ge 51 dX6_sheet_41 (by decide) (fun c_41 => ?_) (fun c_41 => ?_)
            · skip
              first | rw [iP c_41] | rw [iN c_41] | rw [iN (i_le_nlt c_41)] | rw [iP (i_nle c_41)] | rw [iP (i_nlt c_41)] | rw [iN (i_lt_nle c_41)] | skip
              refine r_iload_n 2 dX6_sheet_51 rfl rfl ?_
              refine r_if_eq 68 dX6_sheet_52 (by decide) (fun c_52 => ?_) (fun c_52 => ?_)
              · skip
                first | rw [iP c_52] | rw [iN c_52] | rw [iN (i_le_nlt c_52)] | rw [iP (i_nle c_52)] | rw [iP (i_nlt c_52)] | rw [iN (i_lt_nle c_52)] | skip
                exact absurd c_52 c_8
              · skip
                first | rw [iP c_52] | rw [iN c_52] | rw [iN (i_le_nlt c_52)] | rw [iP (i_nle c_52)] | rw [iP (i_nlt c_52)] | rw [iN (i_lt_nle c_52)] | skip
                refine r_iload_n 3 dX6_sheet_55 rfl rfl ?_
                refine r_bipush (v := nI 40) dX6_sheet_56 (by decide +kernel) ?_
                refine r_icmp_le 68 dX6_sheet_58 (by decide) (fun c_58 => ?_) (fun c_58 => ?_)
                · skip
                  first | rw [iP c_58] | rw [iN c_58] | rw [iN (i_le_nlt c_58)] | rw [iP (i_nle c_58)] | rw [iP (i_nlt c_58)] | rw [iN (i_lt_nle c_58)] | skip
                  unfold okS
                  refine r_aload_n 0 dX6_sheet_68 rfl rfl rfl ?_
                  refine r_getr (k := 19) (b := 72) dX6_sheet_69 hm.s66 rfl (by decide) (Or.inl q1435) (Or.inl rfl) rfl hm.r_bitsOf ?_
                  refine r_iload_n 1 dX6_sheet_72 rfl rfl ?_
                  refine r_iload_n 2 dX6_sheet_73 rfl rfl ?_
                  refine r_iastN (k) dX6_sheet_74 hm.s72 rfl (by omega) (by decide) ?_
                  refine gG_h (MH_bI' _ _ _ _ _ _ (by decide) (by decide)) ?_
                  refine r_aload_n 0 dX6_sheet_75 rfl rfl rfl ?_
                  refine r_getr (k := 20) (b := 73) dX6_sheet_76 hm.s66 rfl (by decide) (Or.inl q1436) (Or.inl rfl) rfl hm.r_sizeOf ?_
                  refine r_iload_n 1 dX6_sheet_79 rfl rfl ?_
                  refine r_iload_n 2 dX6_sheet_80 rfl rfl ?_
                  refine r_if_ne 88 dX6_sheet_81 (by decide) (fun c_81 => ?_) (fun c_81 => ?_)
                  · skip
                    first | rw [iP c_81] | rw [iN c_81] | rw [iN (i_le_nlt c_81)] | rw [iP (i_nle c_81)] | rw [iP (i_nlt c_81)] | rw [iN (i_lt_nle c_81)] | skip
                    refine r_iload_n 3 dX6_sheet_88 rfl rfl ?_
                    refine r_iastN (k) dX6_sheet_89 hm.s73 rfl (by omega) (by decide) ?_
                    refine gG_h (MH_bI' _ _ _ _ _ _ (by decide) (by decide)) ?_
                    refine r_iconst (v := nI 0) dX6_sheet_90 rfl ?_
                    refine r_istore dX6_sheet_91 (by decide) rfl ?_
                    refine gG_ls (ls' := [_, _, _, _, _]) rfl ?_
                    refine gG_h (MH_74 _ _ _) ?_
                    refine M_sheet_L (by exact hm) (by omega) 41 0 (by omega) (by omega) ?_
                    refine r_iconst (v := nI 1) dX6_sheet_119 rfl ?_
                    refine e_iret dX6_sheet_120 rfl ?_
                    exact RA.mk (Jo.r) ho ((((FrM.r).b (by decide)).b (by decide)).b (by decide)) rfl rfl
                  · skip
                    first | rw [iP c_81] | rw [iN c_81] | rw [iN (i_le_nlt c_81)] | rw [iP (i_nle c_81)] | rw [iP (i_nlt c_81)] | rw [iN (i_lt_nle c_81)] | skip
                    exact absurd c_81 c_8
                · skip
                  first | rw [iP c_58] | rw [iN c_58] | rw [iN (i_le_nlt c_58)] | rw [iP (i_nle c_58)] | rw [iP (i_nlt c_58)] | rw [iN (i_lt_nle c_58)] | skip
                  refine r_aload_n 0 dX6_sheet_61 rfl rfl rfl ?_
                  refine r_ldc (v := -1000000001) dX6_sheet_62 q1511 ?_
                  refine r_callV_1 dX6_sheet_64 kX6_53 (M_errs hm (e := (-1000000001 : Int32)) 1 (by decide +kernel) (by decide)) (gRecv.of hm.s66 rfl) rfl rfl (Nat.le_of_ble_eq_true rfl) ?_
                  refine e_iret dX6_sheet_67 rfl ?_
                  exact RA.mk (Jo.r) ho ((FrM.r).b (by decide)) rfl rfl
            · skip
              first | rw [iP c_41] | rw [iN c_41] | rw [iN (i_le_nlt c_41)] | rw [iP (i_nle c_41)] | rw [iP (i_nlt c_41)] | rw [iN (i_lt_nle c_41)] | skip
              refine r_aload_n 0 dX6_sheet_44 rfl rfl rfl ?_
              refine r_ldc (v := -1000000003) dX6_sheet_45 q1661 ?_
              refine r_callV_1 dX6_sheet_47 kX6_53 (M_errs hm (e := (-1000000003 : Int32)) 3 (by decide +kernel) (by decide)) (gRecv.of hm.s66 rfl) rfl rfl (Nat.le_of_ble_eq_true rfl) ?_
              refine e_iret dX6_sheet_50 rfl ?_
              exact RA.mk (Jo.r) ho ((FrM.r).b (by decide)) rfl rfl
        · skip
          first | rw [iP c_20] | rw [iN c_20] | rw [iN (i_le_nlt c_20)] | rw [iP (i_nle c_20)] | rw [iP (i_nlt c_20)] | rw [iN (i_lt_nle c_20)] | skip
          refine r_iload_n 2 dX6_sheet_23 rfl rfl ?_
          refine r_bipush (v := nI 32) dX6_sheet_24 (by decide +kernel) ?_
          refine r_icmp_eq 36 dX6_sheet_26 (by decide) (fun c_26 => ?_) (fun c_26 => ?_)
          · skip
            first | rw [iP c_26] | rw [iN c_26] | rw [iN (i_le_nlt c_26)] | rw [iP (i_nle c_26)] | rw [iP (i_nlt c_26)] | rw [iN (i_lt_nle c_26)] | skip
            rw [ifT (show widB b = true from by rw [c_26]; rfl)]
            refine r_iload_n 2 dX6_sheet_36 rfl rfl ?_
            refine r_if_eq 51 dX6_sheet_37 (by decide) (fun c_37 => ?_) (fun c_37 => ?_)
            · skip
              first | rw [iP c_37] | rw [iN c_37] | rw [iN (i_le_nlt c_37)] | rw [iP (i_nle c_37)] | rw [iP (i_nlt c_37)] | rw [iN (i_lt_nle c_37)] | skip
              exact absurd c_37 c_8
            · skip
              first | rw [iP c_37] | rw [iN c_37] | rw [iN (i_le_nlt c_37)] | rw [iP (i_nle c_37)] | rw [iP (i_nlt c_37)] | rw [iN (i_lt_nle c_37)] | skip
              refine r_iload_n 3 dX6_sheet_40 rfl rfl ?_
              refine r_if_ge 51 dX6_sheet_41 (by decide) (fun c_41 => ?_) (fun c_41 => ?_)
              · skip
                first | rw [iP c_41] | rw [iN c_41] | rw [iN (i_le_nlt c_41)] | rw [iP (i_nle c_41)] | rw [iP (i_nlt c_41)] | rw [iN (i_lt_nle c_41)] | skip
                refine r_iload_n 2 dX6_sheet_51 rfl rfl ?_
                refine r_if_eq 68 dX6_sheet_52 (by decide) (fun c_52 => ?_) (fun c_52 => ?_)
                · skip
                  first | rw [iP c_52] | rw [iN c_52] | rw [iN (i_le_nlt c_52)] | rw [iP (i_nle c_52)] | rw [iP (i_nlt c_52)] | rw [iN (i_lt_nle c_52)] | skip
                  exact absurd c_52 c_8
                · skip
                  first | rw [iP c_52] | rw [iN c_52] | rw [iN (i_le_nlt c_52)] | rw [iP (i_nle c_52)] | rw [iP (i_nlt c_52)] | rw [iN (i_lt_nle c_52)] | skip
                  refine r_iload_n 3 dX6_sheet_55 rfl rfl ?_
                  refine r_bipush (v := nI 40) dX6_sheet_56 (by decide +kernel) ?_
                  refine r_icmp_le 68 dX6_sheet_58 (by decide) (fun c_58 => ?_) (fun c_58 => ?_)
                  · skip
                    first | rw [iP c_58] | rw [iN c_58] | rw [iN (i_le_nlt c_58)] | rw [iP (i_nle c_58)] | rw [iP (i_nlt c_58)] | rw [iN (i_lt_nle c_58)] | skip
                    unfold okS
                    refine r_aload_n 0 dX6_sheet_68 rfl rfl rfl ?_
                    refine r_getr (k := 19) (b := 72) dX6_sheet_69 hm.s66 rfl (by decide) (Or.inl q1435) (Or.inl rfl) rfl hm.r_bitsOf ?_
                    refine r_iload_n 1 dX6_sheet_72 rfl rfl ?_
                    refine r_iload_n 2 dX6_sheet_73 rfl rfl ?_
                    refine r_iastN (k) dX6_sheet_74 hm.s72 rfl (by omega) (by decide) ?_
                    refine gG_h (MH_bI' _ _ _ _ _ _ (by decide) (by decide)) ?_
                    refine r_aload_n 0 dX6_sheet_75 rfl rfl rfl ?_
                    refine r_getr (k := 20) (b := 73) dX6_sheet_76 hm.s66 rfl (by decide) (Or.inl q1436) (Or.inl rfl) rfl hm.r_sizeOf ?_
                    refine r_iload_n 1 dX6_sheet_79 rfl rfl ?_
                    refine r_iload_n 2 dX6_sheet_80 rfl rfl ?_
                    refine r_if_ne 88 dX6_sheet_81 (by decide) (fun c_81 => ?_) (fun c_81 => ?_)
                    · skip
                      first | rw [iP c_81] | rw [iN c_81] | rw [iN (i_le_nlt c_81)] | rw [iP (i_nle c_81)] | rw [iP (i_nlt c_81)] | rw [iN (i_lt_nle c_81)] | skip
                      refine r_iload_n 3 dX6_sheet_88 rfl rfl ?_
                      refine r_iastN (k) dX6_sheet_89 hm.s73 rfl (by omega) (by decide) ?_
                      refine gG_h (MH_bI' _ _ _ _ _ _ (by decide) (by decide)) ?_
                      refine r_iconst (v := nI 0) dX6_sheet_90 rfl ?_
                      refine r_istore dX6_sheet_91 (by decide) rfl ?_
                      refine gG_ls (ls' := [_, _, _, _, _]) rfl ?_
                      refine gG_h (MH_74 _ _ _) ?_
                      refine M_sheet_L (by exact hm) (by omega) 41 0 (by omega) (by omega) ?_
                      refine r_iconst (v := nI 1) dX6_sheet_119 rfl ?_
                      refine e_iret dX6_sheet_120 rfl ?_
                      exact RA.mk (Jo.r) ho ((((FrM.r).b (by decide)).b (by decide)).b (by decide)) rfl rfl
                    · skip
                      first | rw [iP c_81] | rw [iN c_81] | rw [iN (i_le_nlt c_81)] | rw [iP (i_nle c_81)] | rw [iP (i_nlt c_81)] | rw [iN (i_lt_nle c_81)] | skip
                      exact absurd c_81 c_8
                  · skip
                    first | rw [iP c_58] | rw [iN c_58] | rw [iN (i_le_nlt c_58)] | rw [iP (i_nle c_58)] | rw [iP (i_nlt c_58)] | rw [iN (i_lt_nle c_58)] | skip
                    refine r_aload_n 0 dX6_sheet_61 rfl rfl rfl ?_
                    refine r_ldc (v := -1000000001) dX6_sheet_62 q1511 ?_
                    refine r_callV_1 dX6_sheet_64 kX6_53 (M_errs hm (e := (-1000000001 : Int32)) 1 (by decide +kernel) (by decide)) (gRecv.of hm.s66 rfl) rfl rfl (Nat.le_of_ble_eq_true rfl) ?_
                    refine e_iret dX6_sheet_67 rfl ?_
                    exact RA.mk (Jo.r) ho ((FrM.r).b (by decide)) rfl rfl
              · skip
                first | rw [iP c_41] | rw [iN c_41] | rw [iN (i_le_nlt c_41)] | rw [iP (i_nle c_41)] | rw [iP (i_nlt c_41)] | rw [iN (i_lt_nle c_41)] | skip
                refine r_aload_n 0 dX6_sheet_44 rfl rfl rfl ?_
                refine r_ldc (v := -1000000003) dX6_sheet_45 q1661 ?_
                refine r_callV_1 dX6_sheet_47 kX6_53 (M_errs hm (e := (-1000000003 : Int32)) 3 (by decide +kernel) (by decide)) (gRecv.of hm.s66 rfl) rfl rfl (Nat.le_of_ble_eq_true rfl) ?_
                refine e_iret dX6_sheet_50 rfl ?_
                exact RA.mk (Jo.r) ho ((FrM.r).b (by decide)) rfl rfl
          · skip
            first | rw [iP c_26] | rw [iN c_26] | rw [iN (i_le_nlt c_26)] | rw [iP (i_nle c_26)] | rw [iP (i_nlt c_26)] | rw [iN (i_lt_nle c_26)] | skip
            rw [ifF (show widB b = false from by unfold widB; rw [decide_eq_false c_8, decide_eq_false c_14, decide_eq_false c_20, decide_eq_false c_26]; rfl)]
            refine r_aload_n 0 dX6_sheet_29 rfl rfl rfl ?_
            refine r_ldc (v := -1000000001) dX6_sheet_30 q1511 ?_
            refine r_callV_1 dX6_sheet_32 kX6_53 (M_errs hm (e := (-1000000001 : Int32)) 1 (by decide +kernel) (by decide)) (gRecv.of hm.s66 rfl) rfl rfl (Nat.le_of_ble_eq_true rfl) ?_
            refine e_iret dX6_sheet_35 rfl ?_
            exact RA.mk (Jo.r) ho ((FrM.r).b (by decide)) rfl rfl
