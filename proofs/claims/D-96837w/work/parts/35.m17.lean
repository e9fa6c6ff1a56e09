theorem X_isPerson {d : Nat} {h : Hp} (hx : LayX (hS h) (hR h)) (hl : LayL (hS h) (hR h) 23) {r g : Row} {t : Int32} {v : Int32} : gC (d + 1) (0) (0) m_X0_isPerson [.ref 21, .int v] (LG h 23 r t g) (Ret (some (.int (b2 (inB v 0 (r 2 - 1))))) (LG h 23 r t g)) := by
  refine gC.of (ls := [some (.ref 21), some (.int v)]) (by decide +kernel) rfl rfl rfl rfl (Nat.le_of_ble_eq_true rfl) ?_
  refine r_iload_n 1 dX0_isPerson_0 rfl rfl ?_
  refine r_iconst (v := nI 0) dX0_isPerson_1 rfl ?_
  refine r_aload_n 0 dX0_isPerson_2 rfl rfl rfl ?_
  refine r_getr (k := 1) (b := 23) dX0_isPerson_3 hx.s21 rfl (by decide) (Or.inl q306) (Or.inl rfl) rfl hx.r_land ?_
  refine r_geti (k := 0) dX0_isPerson_6 hl.s0 rfl (by decide) (Or.inr ⟨_, q219⟩) (Or.inl rfl) rfl ?_
  refine r_eqi (show _ = (r 2) from (LG_r0 (k := 0) (i := 2) rfl)) ?_
  refine r_iconst (v := nI 1) dX0_isPerson_9 rfl ?_
  refine r_isub dX0_isPerson_10 ?_
  refine r_callS_1 dX0_isPerson_11 kX0_86 (X_in)  rfl rfl (Nat.le_of_ble_eq_true rfl) ?_
  refine e_zret dX0_isPerson_14 rfl (nar_b2 _) ?_
  exact ⟨rfl, rfl⟩
theorem X_areTwo {d : Nat} {h : Hp} (hx : LayX (hS h) (hR h)) (hl : LayL (hS h) (hR h) 23) {r g : Row} {t : Int32} {a b : Int32} : gC (d + 2) (0) (0) m_X0_areTwo [.ref 21, .int a, .int b] (LG h 23 r t g) (Ret (some (.int (b2 (twoB r a b)))) (LG h 23 r t g)) := by
  refine gC.of (ls := [some (.ref 21), some (.int a), some (.int b)]) (by decide +kernel) rfl rfl rfl rfl (Nat.le_of_ble_eq_true rfl) ?_
  refine r_aload_n 0 dX0_areTwo_0 rfl rfl rfl ?_
  refine r_iload_n 1 dX0_areTwo_1 rfl rfl ?_
  refine r_callV_1 dX0_areTwo_2 kX0_103 (X_isPerson (r := r) hx hl) (gRecv.of hx.s21 rfl) rfl rfl (Nat.le_of_ble_eq_true rfl) ?_
  refine r_if_eq 25 dX0_areTwo_5 (by decide) (fun c_5 => ?_) (fun c_5 => ?_)
  · skip
    have n_5 : (inB (a) 0 (r 2 - 1)) = false := b2_f c_5
    refine r_iconst (v := nI 0) dX0_areTwo_25 rfl ?_
    refine e_zret dX0_areTwo_26 rfl (by decide) ?_
    exact ⟨by rw [areTwo_f1 n_5]; rfl, rfl⟩
  · skip
    have n_5 : (inB (a) 0 (r 2 - 1)) = true := b2_t c_5
    refine r_aload_n 0 dX0_areTwo_8 rfl rfl rfl ?_
    refine r_iload_n 2 dX0_areTwo_9 rfl rfl ?_
    refine r_callV_1 dX0_areTwo_10 kX0_103 (X_isPerson (r := r) hx hl) (gRecv.of hx.s21 rfl) rfl rfl (Nat.le_of_ble_eq_true rfl) ?_
    refine r_if_eq 25 dX0_areTwo_13 (by decide) (fun c_13 => ?_) (fun c_13 => ?_)
    · skip
      have n_13 : (inB (b) 0 (r 2 - 1)) = false := b2_f c_13
      refine r_iconst (v := nI 0) dX0_areTwo_25 rfl ?_
      refine e_zret dX0_areTwo_26 rfl (by decide) ?_
      exact ⟨by rw [areTwo_f2 n_5 n_13]; rfl, rfl⟩
    · skip
      have n_13 : (inB (b) 0 (r 2 - 1)) = true := b2_t c_13
      refine r_iload_n 1 dX0_areTwo_16 rfl rfl ?_
      refine r_iload_n 2 dX0_areTwo_17 rfl rfl ?_
      refine r_icmp_eq 25 dX0_areTwo_18 (by decide) (fun c_18 => ?_) (fun c_18 => ?_)
      · skip
        refine r_iconst (v := nI 0) dX0_areTwo_25 rfl ?_
        refine e_zret dX0_areTwo_26 rfl (by decide) ?_
        exact ⟨by rw [areTwo_f3 n_5 n_13 c_18]; rfl, rfl⟩
      · skip
        refine r_iconst (v := nI 1) dX0_areTwo_21 rfl ?_
        refine r_goto 26 dX0_areTwo_22 (by decide) ?_
        refine e_zret dX0_areTwo_26 rfl (by decide) ?_
        exact ⟨by rw [areTwo_t n_5 n_13 c_18]; rfl, rfl⟩
theorem X_isAhead {d : Nat} {h : Hp} {v : Int32} : gC (d + 1) (0) (0) m_X0_isAhead [.int v] (h) (Ret (some (.int (b2 (inB v (nI 0) (nI 60))))) h) := by
  refine gC.of (ls := [some (.int v)]) (by decide +kernel) rfl rfl rfl rfl (Nat.le_of_ble_eq_true rfl) ?_
  refine r_iload_n 0 dX0_isAhead_0 rfl rfl ?_
  refine r_iconst (v := nI 0) dX0_isAhead_1 rfl ?_
  refine r_bipush (v := nI 60) dX0_isAhead_2 (by decide +kernel) ?_
  refine r_callS_1 dX0_isAhead_4 kX0_86 (X_in)  rfl rfl (Nat.le_of_ble_eq_true rfl) ?_
  refine e_zret dX0_isAhead_7 rfl (nar_b2 _) ?_
  exact ⟨rfl, rfl⟩
theorem X_isSheet {d : Nat} {h : Hp} {v : Int32} : gC (d + 1) (0) (0) m_X0_isSheet [.int v] (h) (Ret (some (.int (b2 (inB v (nI 0) (nI 3))))) h) := by
  refine gC.of (ls := [some (.int v)]) (by decide +kernel) rfl rfl rfl rfl (Nat.le_of_ble_eq_true rfl) ?_
  refine r_iload_n 0 dX0_isSheet_0 rfl rfl ?_
  refine r_iconst (v := nI 0) dX0_isSheet_1 rfl ?_
  refine r_iconst (v := nI 3) dX0_isSheet_2 rfl ?_
  refine r_callS_1 dX0_isSheet_3 kX0_86 (X_in)  rfl rfl (Nat.le_of_ble_eq_true rfl) ?_
  refine e_zret dX0_isSheet_6 rfl (nar_b2 _) ?_
  exact ⟨rfl, rfl⟩
theorem X_personAt {d : Nat} {h : Hp} (hx : LayX (hS h) (hR h)) (hl : LayL (hS h) (hR h) 23) {r g : Row} {t : Int32} (lw : LW h 23 r) (w : WF r) {p : Int32} {c : Bool} : gC (d + 3) (0) (0) m_X0_personAt [.ref 21, .int p, .int (b2 c)] (LG h 23 r t g) (PAq h (LG h 23 r t g) r p c) := by
  refine gC.of (ls := [some (.ref 21), some (.int p), some (.int (b2 c))]) (by decide +kernel) rfl rfl rfl rfl (Nat.le_of_ble_eq_true rfl) ?_
  refine r_aload_n 0 dX0_personAt_0 rfl rfl rfl ?_
  refine r_aload_n 0 dX0_personAt_1 rfl rfl rfl ?_
  refine r_iload_n 1 dX0_personAt_2 rfl rfl ?_
  refine r_callV_1 dX0_personAt_3 kX0_103 (X_isPerson (r := r) hx hl) (gRecv.of hx.s21 rfl) rfl rfl (Nat.le_of_ble_eq_true rfl) ?_
  refine r_if_eq 17 dX0_personAt_6 (by decide) (fun c_6 => ?_) (fun c_6 => ?_)
  · skip
    have n_6 : (inB (p) 0 (r 2 - 1)) = false := b2_f c_6
    refine r_iconst (v := nI 0) dX0_personAt_17 rfl ?_
    refine r_iconst (v := nI 1) dX0_personAt_18 rfl ?_
    refine r_need0 dX0_personAt_19 rfl (by exact hx) (Nat.le_of_ble_eq_true rfl) ?_
    refine t_out (hx).s22 rfl rfl ?_
    exact Or.inr ⟨rfl, rfl, Or.inl n_6⟩
  · skip
    have n_6 : (inB (p) 0 (r 2 - 1)) = true := b2_t c_6
    refine r_iload_n 2 dX0_personAt_9 rfl rfl ?_
    refine r_if_eq 17 dX0_personAt_10 (by decide) (fun c_10 => ?_) (fun c_10 => ?_)
    · skip
      have n_10 : c = false := b2_f c_10
      refine r_iconst (v := nI 0) dX0_personAt_17 rfl ?_
      refine r_iconst (v := nI 1) dX0_personAt_18 rfl ?_
      refine r_need0 dX0_personAt_19 rfl (by exact hx) (Nat.le_of_ble_eq_true rfl) ?_
      refine t_out (hx).s22 rfl rfl ?_
      exact Or.inr ⟨rfl, rfl, Or.inr ⟨n_6, n_10⟩⟩
    · skip
      have n_10 : c = true := b2_t c_10
      refine r_iconst (v := nI 1) dX0_personAt_13 rfl ?_
      refine r_goto 18 dX0_personAt_14 (by decide) ?_
      obtain ⟨k, h_k, rfl⟩ := one_of w n_6
      obtain ⟨a, q, ha, hq, pa⟩ := lw.one h_k w.n8
      have hn8 := w.n8
      refine r_iconst (v := nI 1) dX0_personAt_18 rfl ?_
      refine r_need1 dX0_personAt_19 rfl (by exact hx) (Nat.le_of_ble_eq_true rfl) ?_
      refine r_aload_n 0 dX0_personAt_22 rfl rfl rfl ?_
      refine r_getr (k := 1) (b := 23) dX0_personAt_23 hx.s21 rfl (by decide) (Or.inl q306) (Or.inl rfl) rfl hx.r_land ?_
      refine r_getr (k := 1) (b := (23 + 1)) dX0_personAt_26 hl.s0 rfl (by decide) (Or.inr ⟨_, q221⟩) (Or.inl rfl) rfl hl.r_person ?_
      refine r_iload_n 1 dX0_personAt_29 rfl rfl ?_
      refine r_aaldN (k) (b := a) dX0_personAt_30 hl.s1 (by decide) rfl (by omega) (by decide) ha (by have := pa.1; omega) ?_
      refine e_aret dX0_personAt_31 rfl (Or.inl ⟨_, rfl⟩) rfl ?_
      exact Or.inl ⟨k, a, q, rfl, h_k, n_6, n_10, ha, hq, pa, rfl, rfl⟩
theorem X_mustGo {d : Nat} {h : Hp} (hx : LayX (hS h) (hR h)) (hl : LayL (hS h) (hR h) 23) {r g : Row} {t : Int32} {n m : Int32} : gC (d + 3) (0) (0) m_X0_mustGo [.ref 21, .int n, .int m] (LG h 23 r t g) (MGq (LG h 23 r t g) r n m) := by
  refine gC.of (ls := [some (.ref 21), some (.int n), some (.int m)]) (by decide +kernel) rfl rfl rfl rfl (Nat.le_of_ble_eq_true rfl) ?_
  refine r_aload_n 0 dX0_mustGo_0 rfl rfl rfl ?_
  refine r_iload_n 1 dX0_mustGo_1 rfl rfl ?_
  refine r_iconst (v := nI 1) dX0_mustGo_2 rfl ?_
  refine r_iload_n 2 dX0_mustGo_3 rfl rfl ?_
  refine r_callS_1 dX0_mustGo_4 kX0_86 (X_in)  rfl rfl (Nat.le_of_ble_eq_true rfl) ?_
  refine r_iconst (v := nI 1) dX0_mustGo_7 rfl ?_
  refine r_needB dX0_mustGo_8 rfl (by exact hx) (Nat.le_of_ble_eq_true rfl) (fun n_8 => ?_) (fun n_8 => ?_)
  · skip
    refine r_aload_n 0 dX0_mustGo_11 rfl rfl rfl ?_
    refine r_aload_n 0 dX0_mustGo_12 rfl rfl rfl ?_
    refine r_getr (k := 1) (b := 23) dX0_mustGo_13 hx.s21 rfl (by decide) (Or.inl q306) (Or.inl rfl) rfl hx.r_land ?_
    refine r_geti (k := 6) dX0_mustGo_16 hl.s0 rfl (by decide) (Or.inr ⟨_, q231⟩) (Or.inl rfl) rfl ?_
    refine r_eqi (show _ = (r 0) from (LG_r0 (k := 6) (i := 0) rfl)) ?_
    refine r_iload_n 1 dX0_mustGo_19 rfl rfl ?_
    refine r_iadd dX0_mustGo_20 ?_
    refine r_sipush (v := nI 9999) dX0_mustGo_21 (by decide +kernel) ?_
    refine r_icmp_gt 31 dX0_mustGo_24 (by decide) (fun c_24 => ?_) (fun c_24 => ?_)
    · skip
      refine r_iconst (v := nI 0) dX0_mustGo_31 rfl ?_
      refine r_iconst (v := nI 3) dX0_mustGo_32 rfl ?_
      refine r_need0 dX0_mustGo_33 rfl (by exact hx) (Nat.le_of_ble_eq_true rfl) ?_
      refine t_out (hx).s22 rfl rfl ?_
      exact Or.inr (Or.inr ⟨n_8, c_24, rfl, rfl⟩)
    · skip
      refine r_iconst (v := nI 1) dX0_mustGo_27 rfl ?_
      refine r_goto 32 dX0_mustGo_28 (by decide) ?_
      refine r_iconst (v := nI 3) dX0_mustGo_32 rfl ?_
      refine r_need1 dX0_mustGo_33 rfl (by exact hx) (Nat.le_of_ble_eq_true rfl) ?_
      refine e_vret dX0_mustGo_36 rfl ?_
      exact Or.inl ⟨n_8, c_24, rfl, rfl⟩
  · skip
    refine t_out (hx).s22 rfl rfl ?_
    exact Or.inr (Or.inl ⟨n_8, rfl, rfl⟩)
