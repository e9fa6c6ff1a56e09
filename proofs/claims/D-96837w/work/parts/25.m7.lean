theorem M_givenSet_L {d : Nat} {h : Hp} (hm : LayM (hS h) (hR h)) {r : Row} {n : Nat} {mn : Int32} (ht : RowT r) (hn : r 2 = nI n) (hn8 : n ≤ 8) {Q : gQ} : ∀ (k i : Nat) (o : Row), i ≤ n → n + 1 ≤ i + k → o 15 = mn → (∀ o9, Jo o o9 → gG (d + 420) (0) (0) m_X6_givenSet 38 [some (.ref 66), some (.int (givenSet r (n))), some (.int (nI n))] [] (MH h r o9) (Q)) → gG (d + 420) (0) (0) m_X6_givenSet 4 [some (.ref 66), some (.int (givenSet r (i))), some (.int (nI i))] [] (MH h r o) (Q) := by
  intro k
  induction k with
  | zero => exact fun i o h1 h2 => absurd h2 (by omega)
  | succ k ih =>
  intro i o hi hk ho kk
  refine r_iload_n 2 dX6_givenSet_4 rfl rfl ?_
  refine r_aload_n 0 dX6_givenSet_5 rfl rfl rfl ?_
  refine r_getr (k := 0) (b := 67) dX6_givenSet_6 hm.s66 rfl (by decide) (Or.inl q1416) (Or.inl rfl) rfl hm.r_row ?_
  refine r_iconst (v := nI 2) dX6_givenSet_9 rfl ?_
  refine r_ialdN (2) dX6_givenSet_10 hm.s67 rfl (by omega) (by decide) ?_
  refine r_eqi (show _ = nI (n) from hn) ?_
  refine r_icmp_ge 38 dX6_givenSet_11 (by decide) (fun c_11 => ?_) (fun c_11 => ?_)
  · skip
    have n_11 : n ≤ i := n_ge (by omega) (by omega) c_11
    have hin : i = n := by omega
    subst hin
    exact kk _ (Jo.r)
  · skip
    have n_11 : i < n := n_gen (by omega) (by omega) c_11
    refine r_iload_n 1 dX6_givenSet_14 rfl rfl ?_
    refine r_aload_n 0 dX6_givenSet_15 rfl rfl rfl ?_
    refine r_iload_n 2 dX6_givenSet_16 rfl rfl ?_
    refine r_callV_1m dX6_givenSet_17 kX6_72 (M_isGiven (p := i) hm ht (by omega)) (gRecv.of hm.s66 rfl) rfl rfl (Nat.le_of_ble_eq_true rfl) (fun o_1 j_1 => ?_)
    refine r_if_eq 29 dX6_givenSet_20 (by decide) (fun c_20 => ?_) (fun c_20 => ?_)
    · skip
      have n_20 : (givenB r i) = false := b2_f c_20
      refine r_iconst (v := nI 0) dX6_givenSet_29 rfl ?_
      refine r_ior dX6_givenSet_30 ?_
      refine r_istore_n 1 dX6_givenSet_31 rfl (by decide) rfl ?_
      refine gG_ls (ls' := [_, _, _]) rfl ?_
      refine r_iinc dX6_givenSet_32 rfl (by decide) rfl ?_
      refine gG_ls (ls' := [_, _, some (.int (nI ((i + 1))))]) (by rw [show (Int32.ofInt 1) = nI 1 from rfl, nI_add]; rfl) ?_
      refine r_goto 4 dX6_givenSet_35 (by decide) ?_
      refine gG_ls (ls' := [_, some (.int (givenSet r (i + 1))), _]) (by rw [givenSet_f n_20]; rfl) ?_
      exact ih (i + 1) _ (by omega) (by omega) (((Jo.r).t j_1).2.2.1.trans ho) (fun o9 j9 => kk o9 (((Jo.r).t j_1).t j9))
    · skip
      have n_20 : (givenB r i) = true := b2_t c_20
      refine r_iconst (v := nI 1) dX6_givenSet_23 rfl ?_
      refine r_iload_n 2 dX6_givenSet_24 rfl rfl ?_
      refine r_ishl dX6_givenSet_25 ?_
      refine r_goto 30 dX6_givenSet_26 (by decide) ?_
      refine r_ior dX6_givenSet_30 ?_
      refine r_istore_n 1 dX6_givenSet_31 rfl (by decide) rfl ?_
      refine gG_ls (ls' := [_, _, _]) rfl ?_
      refine r_iinc dX6_givenSet_32 rfl (by decide) rfl ?_
      refine gG_ls (ls' := [_, _, some (.int (nI ((i + 1))))]) (by rw [show (Int32.ofInt 1) = nI 1 from rfl, nI_add]; rfl) ?_
      refine r_goto 4 dX6_givenSet_35 (by decide) ?_
      refine gG_ls (ls' := [_, some (.int (givenSet r (i + 1))), _]) (by rw [givenSet_t n_20]; rfl) ?_
      exact ih (i + 1) _ (by omega) (by omega) (((Jo.r).t j_1).2.2.1.trans ho) (fun o9 j9 => kk o9 (((Jo.r).t j_1).t j9))
theorem M_givenSet {d : Nat} {h : Hp} (hm : LayM (hS h) (hR h)) {r o : Row} {n : Nat} (ht : RowT r) (hn : r 2 = nI n) (hn8 : n ≤ 8) : gC (d + 420) (0) (0) m_X6_givenSet [.ref 66] (MH h r o) (RM (some (.int (givenSet r n))) h (r) (o)) := by
  refine gC.of (ls := [some (.ref 66), none, none]) (by decide +kernel) rfl rfl rfl rfl (Nat.le_of_ble_eq_true rfl) ?_
  refine r_iconst (v := nI 0) dX6_givenSet_0 rfl ?_
  refine r_istore_n 1 dX6_givenSet_1 rfl (by decide) rfl ?_
  refine gG_ls (ls' := [_, _, _]) rfl ?_
  refine r_iconst (v := nI 0) dX6_givenSet_2 rfl ?_
  refine r_istore_n 2 dX6_givenSet_3 rfl (by decide) rfl ?_
  refine gG_ls (ls' := [_, _, _]) rfl ?_
  refine M_givenSet_L hm (mn := o 15) ht hn hn8 (n + 1) 0 _ (by omega) (by omega) rfl (fun o_9 j_9 => ?_)
  refine r_iload_n 1 dX6_givenSet_38 rfl rfl ?_
  refine e_iret dX6_givenSet_39 rfl ?_
  exact ⟨rfl, _, (Jo.r).t j_9, rfl⟩
theorem M_weekOf_L {d : Nat} {h : Hp} (hm : LayM (hS h) (hR h)) {r : Row} {mn : Int32} (ht : RowT r) {p : Nat} {t : Int32} (hp : p < 8) {Q : gQ} : ∀ (k i : Nat) (o : Row), i ≤ 7 → 7 + 1 ≤ i + k → o 15 = mn → (∀ o9, Jo o o9 → gG (d + 420) (0) (0) m_X6_weekOf 44 [some (.ref 66), some (.int (nI p)), some (.int t), some (.int (nI (weekV r p t (7)))), some (.int (nI 7))] [] (MH h r o9) (Q)) → gG (d + 420) (0) (0) m_X6_weekOf 5 [some (.ref 66), some (.int (nI p)), some (.int t), some (.int (nI (weekV r p t (i)))), some (.int (nI i))] [] (MH h r o) (Q) := by
  intro k
  induction k with
  | zero => exact fun i o h1 h2 => absurd h2 (by omega)
  | succ k ih =>
  intro i o hi hk ho kk
  have hw := weekV_le (r := r) (p := p) (t := t) i
  refine r_iload dX6_weekOf_5 rfl ?_
  refine r_bipush (v := nI 7) dX6_weekOf_7 (by decide +kernel) ?_
  refine r_icmp_ge 44 dX6_weekOf_9 (by decide) (fun c_9 => ?_) (fun c_9 => ?_)
  · skip
    have n_9 : 7 ≤ i := n_ge (by omega) (by omega) c_9
    have hin : i = 7 := by omega
    subst hin
    exact kk _ (Jo.r)
  · skip
    have n_9 : i < 7 := n_gen (by omega) (by omega) c_9
    refine r_iload_n 3 dX6_weekOf_12 rfl rfl ?_
    refine r_aload_n 0 dX6_weekOf_13 rfl rfl rfl ?_
    refine r_iload_n 1 dX6_weekOf_14 rfl rfl ?_
    refine r_iload_n 2 dX6_weekOf_15 rfl rfl ?_
    refine r_aload_n 0 dX6_weekOf_16 rfl rfl rfl ?_
    refine r_getr (k := 0) (b := 67) dX6_weekOf_17 hm.s66 rfl (by decide) (Or.inl q1416) (Or.inl rfl) rfl hm.r_row ?_
    refine r_iconst (v := nI 0) dX6_weekOf_20 rfl ?_
    refine r_ialdN (0) dX6_weekOf_21 hm.s67 rfl (by omega) (by decide) ?_
    refine r_iload dX6_weekOf_22 rfl ?_
    refine r_iadd dX6_weekOf_24 ?_
    refine r_callV_1m dX6_weekOf_25 kX6_169 (M_isGivenOn (p := p) hm ht hp) (gRecv.of hm.s66 rfl) rfl rfl (Nat.le_of_ble_eq_true rfl) (fun o_1 j_1 => ?_)
    refine r_if_eq 35 dX6_weekOf_28 (by decide) (fun c_28 => ?_) (fun c_28 => ?_)
    · skip
      have n_28 : (givenOnB r p t (r 0 + nI i)) = false := b2_f c_28
      refine r_iconst (v := nI 0) dX6_weekOf_35 rfl ?_
      refine r_iadd dX6_weekOf_36 ?_
      refine r_eqi (show _ = nI ((weekV r p t (i)) + 0) from by simp only [pk_mul, nI_add]) ?_
      refine r_istore_n 3 dX6_weekOf_37 rfl (by decide) rfl ?_
      refine gG_ls (ls' := [_, _, _, _, _]) rfl ?_
      refine r_iinc dX6_weekOf_38 rfl (by decide) rfl ?_
      refine gG_ls (ls' := [_, _, _, _, some (.int (nI ((i + 1))))]) (by rw [show (Int32.ofInt 1) = nI 1 from rfl, nI_add]; rfl) ?_
      refine r_goto 5 dX6_weekOf_41 (by decide) ?_
      refine gG_ls (ls' := [_, _, _, some (.int (nI (weekV r p t (i + 1)))), _]) (by rw [weekV_f n_28] <;> rfl) ?_
      exact ih (i + 1) _ (by omega) (by omega) (((Jo.r).t j_1).2.2.1.trans ho) (fun o9 j9 => kk o9 (((Jo.r).t j_1).t j9))
    · skip
      have n_28 : (givenOnB r p t (r 0 + nI i)) = true := b2_t c_28
      refine r_iconst (v := nI 1) dX6_weekOf_31 rfl ?_
      refine r_goto 36 dX6_weekOf_32 (by decide) ?_
      refine r_iadd dX6_weekOf_36 ?_
      refine r_eqi (show _ = nI ((weekV r p t (i)) + 1) from by simp only [pk_mul, nI_add]) ?_
      refine r_istore_n 3 dX6_weekOf_37 rfl (by decide) rfl ?_
      refine gG_ls (ls' := [_, _, _, _, _]) rfl ?_
      refine r_iinc dX6_weekOf_38 rfl (by decide) rfl ?_
      refine gG_ls (ls' := [_, _, _, _, some (.int (nI ((i + 1))))]) (by rw [show (Int32.ofInt 1) = nI 1 from rfl, nI_add]; rfl) ?_
      refine r_goto 5 dX6_weekOf_41 (by decide) ?_
      refine gG_ls (ls' := [_, _, _, some (.int (nI (weekV r p t (i + 1)))), _]) (by rw [weekV_t n_28] <;> rfl) ?_
      exact ih (i + 1) _ (by omega) (by omega) (((Jo.r).t j_1).2.2.1.trans ho) (fun o9 j9 => kk o9 (((Jo.r).t j_1).t j9))
theorem M_weekOf {d : Nat} {h : Hp} (hm : LayM (hS h) (hR h)) {r o : Row} (ht : RowT r) {p : Nat} {t : Int32} (hp : p < 8) : gC (d + 420) (0) (0) m_X6_weekOf [.ref 66, .int (nI p), .int t] (MH h r o) (RM (some (.int (nI (weekV r p t 7)))) h (r) (o)) := by
  refine gC.of (ls := [some (.ref 66), some (.int (nI p)), some (.int t), none, none]) (by decide +kernel) rfl rfl rfl rfl (Nat.le_of_ble_eq_true rfl) ?_
  refine r_iconst (v := nI 0) dX6_weekOf_0 rfl ?_
  refine r_istore_n 3 dX6_weekOf_1 rfl (by decide) rfl ?_
  refine gG_ls (ls' := [_, _, _, _, _]) rfl ?_
  refine r_iconst (v := nI 0) dX6_weekOf_2 rfl ?_
  refine r_istore dX6_weekOf_3 (by decide) rfl ?_
  refine gG_ls (ls' := [_, _, _, _, _]) rfl ?_
  refine M_weekOf_L hm (mn := o 15) ht hp 8 0 _ (by omega) (by omega) rfl (fun o_9 j_9 => ?_)
  refine r_iload_n 3 dX6_weekOf_44 rfl rfl ?_
  refine e_iret dX6_weekOf_45 rfl ?_
  exact ⟨rfl, _, (Jo.r).t j_9, rfl⟩
theorem M_turn_L {d : Nat} {h : Hp} (hm : LayM (hS h) (hR h)) {r : Row} {mn : Int32} (ht : RowT r) {p : Nat} {q : Nat} (hp : p < 8) {Q : gQ} : ∀ (k i : Nat) (y : Option Value) (o : Row), i ≤ 16 → 16 + 1 ≤ i + k → o 15 = mn → (∀ (y : Option Value), ∀ o9, Jo o o9 → gG (d + 421) (0) (0) m_X6_turn 84 [some (.ref 66), some (.int (nI p)), some (.int (nI q)), some (.int (nI ((turF r p (16)).1))), some (.int (turF r p (16)).2), some (.int (nI 16)), y] [] (MH h r o9) (Q)) → gG (d + 421) (0) (0) m_X6_turn 32 [some (.ref 66), some (.int (nI p)), some (.int (nI q)), some (.int (nI ((turF r p (i)).1))), some (.int (turF r p (i)).2), some (.int (nI i)), y] [] (MH h r o) (Q) := by
  intro k
  induction k with
  | zero => exact fun i y o h1 h2 => absurd h2 (by omega)
  | succ k ih =>
  intro i y o hi hk ho kk
  refine r_iload dX6_turn_32 rfl ?_
  refine r_bipush (v := nI 15) dX6_turn_34 (by decide +kernel) ?_
  refine r_icmp_gt 84 dX6_turn_36 (by decide) (fun c_36 => ?_) (fun c_36 => ?_)
  · skip
    have n_36 : 15 < i := n_gt (by omega) (by omega) c_36
    have hin : i = 16 := by omega
    subst hin
    exact kk _ _ (Jo.r)
  · skip
    have n_36 : i ≤ 15 := n_gtn (by omega) (by omega) c_36
    refine r_aload_n 0 dX6_turn_39 rfl rfl rfl ?_
    refine r_iload_n 1 dX6_turn_40 rfl rfl ?_
    refine r_iload dX6_turn_41 rfl ?_
    refine r_callV_1m dX6_turn_43 kX6_237 (M_weekOf (p := p) (t := nI i) hm ht (by omega)) (gRecv.of hm.s66 rfl) rfl rfl (Nat.le_of_ble_eq_true rfl) (fun o_1 j_1 => ?_)
    refine r_istore dX6_turn_46 (by decide) rfl ?_
    refine gG_ls (ls' := [_, _, _, _, _, _, _]) rfl ?_
    refine r_iload dX6_turn_48 rfl ?_
    refine r_iload dX6_turn_50 rfl ?_
    refine r_icmp_le 60 dX6_turn_52 (by decide) (fun c_52 => ?_) (fun c_52 => ?_)
    · skip
      refine r_iload_n 3 dX6_turn_60 rfl rfl ?_
      refine r_istore_n 3 dX6_turn_61 rfl (by decide) rfl ?_
      refine gG_ls (ls' := [_, _, _, _, _, _, _]) rfl ?_
      refine r_iload dX6_turn_62 rfl ?_
      refine r_iload dX6_turn_64 rfl ?_
      refine r_icmp_le 74 dX6_turn_66 (by decide) (fun c_66 => ?_) (fun c_66 => ?_)
      · skip
        refine r_iload dX6_turn_74 rfl ?_
        refine r_istore dX6_turn_76 (by decide) rfl ?_
        refine gG_ls (ls' := [_, _, _, _, _, _, _]) rfl ?_
        refine r_iinc dX6_turn_78 rfl (by decide) rfl ?_
        refine gG_ls (ls' := [_, _, _, _, _, some (.int (nI ((i + 1)))), _]) (by rw [show (Int32.ofInt 1) = nI 1 from rfl, nI_add]; rfl) ?_
        refine r_goto 32 dX6_turn_81 (by decide) ?_
        refine gG_ls (ls' := [_, _, _, some (.int (nI (turF r p (i + 1)).1)), some (.int (turF r p (i + 1)).2), _, _]) (by rw [turF_f (i_le_nlt c_52)]) ?_
        exact ih (i + 1) _ _ (by omega) (by omega) (((Jo.r).t j_1).2.2.1.trans ho) (fun y o9 j9 => kk y o9 (((Jo.r).t j_1).t j9))
      · skip
        exact absurd c_52 c_66
    · skip
      refine r_iload dX6_turn_55 rfl ?_
      refine r_goto 61 dX6_turn_57 (by decide) ?_
      refine r_istore_n 3 dX6_turn_61 rfl (by decide) rfl ?_
      refine gG_ls (ls' := [_, _, _, _, _, _, _]) rfl ?_
      refine r_iload dX6_turn_62 rfl ?_
      refine r_iload dX6_turn_64 rfl ?_
      refine r_icmp_le 74 dX6_turn_66 (by decide) (fun c_66 => ?_) (fun c_66 => ?_)
      · skip
        exact absurd c_66 c_52
      · skip
        refine r_iload dX6_turn_69 rfl ?_
        refine r_goto 76 dX6_turn_71 (by decide) ?_
        refine r_istore dX6_turn_76 (by decide) rfl ?_
        refine gG_ls (ls' := [_, _, _, _, _, _, _]) rfl ?_
        refine r_iinc dX6_turn_78 rfl (by decide) rfl ?_
        refine gG_ls (ls' := [_, _, _, _, _, some (.int (nI ((i + 1)))), _]) (by rw [show (Int32.ofInt 1) = nI 1 from rfl, nI_add]; rfl) ?_
        refine r_goto 32 dX6_turn_81 (by decide) ?_
        refine gG_ls (ls' := [_, _, _, some (.int (nI (turF r p (i + 1)).1)), some (.int (turF r p (i + 1)).2), _, _]) (by rw [turF_t (i_nle c_52)]) ?_
        exact ih (i + 1) _ _ (by omega) (by omega) (((Jo.r).t j_1).2.2.1.trans ho) (fun y o9 j9 => kk y o9 (((Jo.r).t j_1).t j9))
theorem A_turn {d : Nat} {h : Hp} (hm : LayM (hS h) (hR h)) {r o : Row} (w : WF r) (ho : o 15 = -1) {p q : Int32} : gC (d + 421) (0) (0) m_X6_turn [.ref 66, .int p, .int q] (MH h r o) (RA h (aTurn (mS h r o) p q)) := by
  have e_0 : aTurn (mS h r o) p q = (if inB p 0 (r 2 - 1) = true then (if inB q (nI 0) (nI 1) = true then (if toN q = 0 then nI (turF r (toN p) 16).1 else (turF r (toN p) 16).2, (mS h r o)) else errA (mS h r o) (-1000000001) 1) else errA (mS h r o) (-1000000001) 1) := rfl
  rw [e_0]
  have hn8 := w.n8
  refine gC.of (ls := [some (.ref 66), some (.int p), some (.int q), none, none, none, none]) (by decide +kernel) rfl rfl rfl rfl (Nat.le_of_ble_eq_true rfl) ?_
  refine r_aload_n 0 dX6_turn_0 rfl rfl rfl ?_
  refine r_iload_n 1 dX6_turn_1 rfl rfl ?_
  refine r_callV_1 dX6_turn_2 kX6_62 (M_isOne hm) (gRecv.of hm.s66 rfl) rfl rfl (Nat.le_of_ble_eq_true rfl) ?_
  refine r_if_eq 17 dX6_turn_5 (by decide) (fun c_5 => ?_) (fun c_5 => ?_)
  · skip
    have n_5 : _ = false := b2_f c_5
    first | rw [ifT n_5] | rw [ifF n_5] | skip
    refine r_aload_n 0 dX6_turn_17 rfl rfl rfl ?_
    refine r_ldc (v := -1000000001) dX6_turn_18 q1511 ?_
    refine r_callV_1 dX6_turn_20 kX6_53 (M_errs hm (e := (-1000000001 : Int32)) 1 (by decide +kernel) (by decide)) (gRecv.of hm.s66 rfl) rfl rfl (Nat.le_of_ble_eq_true rfl) ?_
    refine e_iret dX6_turn_23 rfl ?_
    exact RA.mk (Jo.r) ho ((FrM.r).b (by decide)) (rfl) (rfl)
  · skip
    have n_5 : _ = true := b2_t c_5
    first | rw [ifT n_5] | rw [ifF n_5] | skip
    obtain ⟨k, h_k, rfl⟩ := one_of w n_5
    have hn8 := w.n8
    have e_k : toN (nI k) = k := toN_nI (by omega)
    try simp only [e_k]
    refine r_iload_n 2 dX6_turn_8 rfl rfl ?_
    refine r_iconst (v := nI 0) dX6_turn_9 rfl ?_
    refine r_iconst (v := nI 1) dX6_turn_10 rfl ?_
    refine r_callS_1 dX6_turn_11 kX6_48 (M_in)  rfl rfl (Nat.le_of_ble_eq_true rfl) ?_
    refine r_if_ne 24 dX6_turn_14 (by decide) (fun c_14 => ?_) (fun c_14 => ?_)
    · skip
      have n_14 : _ = true := b2_t c_14
      first | rw [ifT n_14] | rw [ifF n_14] | skip
      obtain ⟨c, h_c, rfl⟩ := inB_n (by decide) n_14
      have e_c : toN (nI c) = c := toN_nI (by omega)
      try simp only [e_c]
      refine r_iconst (v := nI 0) dX6_turn_24 rfl ?_
      refine r_istore_n 3 dX6_turn_25 rfl (by decide) rfl ?_
      refine gG_ls (ls' := [_, _, _, _, _, _, _]) rfl ?_
      refine r_iconst (v := (-1)) dX6_turn_26 (by decide +kernel) ?_
      refine r_istore dX6_turn_27 (by decide) rfl ?_
      refine gG_ls (ls' := [_, _, _, _, _, _, _]) rfl ?_
      refine r_iconst (v := nI 0) dX6_turn_29 rfl ?_
      refine r_istore dX6_turn_30 (by decide) rfl ?_
      refine gG_ls (ls' := [_, _, _, _, _, _, _]) rfl ?_
      refine M_turn_L hm (mn := o 15) w.T (by omega) 17 0 _ _ (by omega) (by omega) rfl (fun y o_9 j_9 => ?_)
      refine r_iload_n 2 dX6_turn_84 rfl rfl ?_
      refine r_if_ne 92 dX6_turn_85 (by decide) (fun c_85 => ?_) (fun c_85 => ?_)
      · skip
        have n_85 : ¬ c = 0 := n_ne0 (by omega) c_85
        first | rw [iP n_85] | rw [iN n_85] | rw [iN (Nat.not_lt.mpr n_85)] | skip
        refine r_iload dX6_turn_92 rfl ?_
        refine e_iret dX6_turn_94 rfl ?_
        exact RA.mk ((Jo.r).t j_9) ho (FrM.r) (rfl) (rfl)
      · skip
        have n_85 : c = 0 := n_eq0 (by omega) c_85
        first | rw [iP n_85] | rw [iN n_85] | rw [iN (Nat.not_lt.mpr n_85)] | skip
        refine r_iload_n 3 dX6_turn_88 rfl rfl ?_
        refine r_goto 94 dX6_turn_89 (by decide) ?_
        refine e_iret dX6_turn_94 rfl ?_
        exact RA.mk ((Jo.r).t j_9) ho (FrM.r) (rfl) (rfl)
    · skip
      have n_14 : _ = false := b2_f c_14
      first | rw [ifT n_14] | rw [ifF n_14] | skip
      refine r_aload_n 0 dX6_turn_17 rfl rfl rfl ?_
      refine r_ldc (v := -1000000001) dX6_turn_18 q1511 ?_
      refine r_callV_1 dX6_turn_20 kX6_53 (M_errs hm (e := (-1000000001 : Int32)) 1 (by decide +kernel) (by decide)) (gRecv.of hm.s66 rfl) rfl rfl (Nat.le_of_ble_eq_true rfl) ?_
      refine e_iret dX6_turn_23 rfl ?_
      exact RA.mk (Jo.r) ho ((FrM.r).b (by decide)) (rfl) (rfl)
