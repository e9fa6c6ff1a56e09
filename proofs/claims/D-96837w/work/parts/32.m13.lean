theorem L_with {d : Nat} {h : Hp} {b : Nat} (hl : LayL (hS h) (hR h) b) (hb : 21 ≤ b ∧ b + 10 < 78) {c : Nat} {v : Int32} {r g : Row} {t : Int32} (hc : c < 128) : gC (d) (0) (0) m_X3_with [.ref (b + 9), .int (nI c), .int v] (LG h b r t g) (Ret (some (.ref (b + 9))) (LG h b r t (ru g c v))) := by
  refine gC.of (ls := [some (.ref (b + 9)), some (.int (nI c)), some (.int v)]) (by decide +kernel) rfl rfl rfl rfl (Nat.le_of_ble_eq_true rfl) ?_
  refine r_aload_n 0 dX3_with_0 rfl rfl rfl ?_
  refine r_getr (k := 0) (b := (b + 10)) dX3_with_1 hl.s9 rfl (by decide) (Or.inl q211) (Or.inl rfl) rfl hl.r_named ?_
  refine r_iload_n 1 dX3_with_4 rfl rfl ?_
  refine r_iload_n 2 dX3_with_5 rfl rfl ?_
  refine r_iastN (c) dX3_with_6 hl.s10 rfl (by omega) (by decide) ?_
  refine gG_h LG_wn ?_
  refine r_aload_n 0 dX3_with_7 rfl rfl rfl ?_
  refine e_aret dX3_with_8 rfl (Or.inl ⟨_, rfl⟩) rfl ?_
  exact ⟨rfl, rfl⟩
theorem L_held {d : Nat} {h : Hp} {v : Int32} : gC (d + 1) (0) (0) m_X2_held [.int v, .int (nI 0), .int (nI 1)] (h) (Ret (some (.int (heldV v 0 1))) h) := by
  refine gC.of (ls := [some (.int v), some (.int (nI 0)), some (.int (nI 1))]) (by decide +kernel) rfl rfl rfl rfl (Nat.le_of_ble_eq_true rfl) ?_
  refine r_iload_n 1 dX2_held_0 rfl rfl ?_
  refine r_iload_n 2 dX2_held_1 rfl rfl ?_
  refine r_iload_n 0 dX2_held_2 rfl rfl ?_
  refine r_mmin dX2_held_3 kX2_75 kM_smin kM_I kM_cmin (Nat.le_of_ble_eq_true rfl) ?_
  refine r_mmax dX2_held_6 kX2_81 kM_smax kM_I kM_cmax (Nat.le_of_ble_eq_true rfl) ?_
  refine e_iret dX2_held_9 rfl ?_
  exact ⟨by rw [← held01], rfl⟩
theorem L_givesBy_n {d : Nat} {h : Hp} {b : Nat} (hl : LayL (hS h) (hR h) b) (hb : 21 ≤ b ∧ b + 10 < 78) {t1 t2 t3 : Int32} {r g : Row} {t : Int32} (ho : hR h (b + 6) 0 = none) : gC (d + 402) (0) (0) m_X2_givesBy [.ref b, .int t1, .int t2, .int t3] (LG h b r t g) (Ret (some (.int (heldV (irem t1 (nI 2)) 0 1))) (LG h b r t g)) := by
  refine gC.of (ls := [some (.ref b), some (.int t1), some (.int t2), some (.int t3), none]) (by decide +kernel) rfl rfl rfl rfl (Nat.le_of_ble_eq_true rfl) ?_
  refine r_aload_n 0 dX2_givesBy_0 rfl rfl rfl ?_
  refine r_getr (k := 8) (b := (b + 6)) dX2_givesBy_1 hl.s0 rfl (by decide) (Or.inl q234) (Or.inl rfl) rfl hl.r_text ?_
  refine r_iconst (v := nI 0) dX2_givesBy_4 rfl ?_
  refine r_aaldNn (0) dX2_givesBy_5 hl.s6 (by decide) rfl (by omega) (by decide) ho ?_
  refine r_ifnonnull_f dX2_givesBy_6 ?_
  refine r_iload_n 1 dX2_givesBy_9 rfl rfl ?_
  refine r_iconst (v := nI 2) dX2_givesBy_10 rfl ?_
  refine r_irem dX2_givesBy_11 (by decide) ?_
  refine r_goto 46 dX2_givesBy_12 (by decide) ?_
  refine r_istore dX2_givesBy_46 (by decide) rfl ?_
  refine gG_ls (ls' := [_, _, _, _, _]) rfl ?_
  refine r_iload dX2_givesBy_48 rfl ?_
  refine r_iconst (v := nI 0) dX2_givesBy_50 rfl ?_
  refine r_iconst (v := nI 1) dX2_givesBy_51 rfl ?_
  refine r_callS_1 dX2_givesBy_52 kX2_92 (L_held)  rfl rfl (Nat.le_of_ble_eq_true rfl) ?_
  refine e_iret dX2_givesBy_55 rfl ?_
  exact ⟨rfl, rfl⟩
theorem L_givesBy_s {d : Nat} {h : Hp} {b : Nat} (hl : LayL (hS h) (hR h) b) (hb : 21 ≤ b ∧ b + 10 < 78) {t1 t2 t3 : Int32} {a : Nat} {v : Row → Int32} {r g : Row} {t : Int32} (ho : hR h (b + 6) 0 = some a) (tv : TV 400 h a v) : gC (d + 402) (0) (0) m_X2_givesBy [.ref b, .int t1, .int t2, .int t3] (LG h b r t g) (Ret (some (.int (heldV (v (ru (ru (ru g 116 t1) 100 t2) 119 t3)) 0 1))) (LG h b r t (ru (ru (ru g 116 t1) 100 t2) 119 t3))) := by
  refine gC.of (ls := [some (.ref b), some (.int t1), some (.int t2), some (.int t3), none]) (by decide +kernel) rfl rfl rfl rfl (Nat.le_of_ble_eq_true rfl) ?_
  refine r_aload_n 0 dX2_givesBy_0 rfl rfl rfl ?_
  refine r_getr (k := 8) (b := (b + 6)) dX2_givesBy_1 hl.s0 rfl (by decide) (Or.inl q234) (Or.inl rfl) rfl hl.r_text ?_
  refine r_iconst (v := nI 0) dX2_givesBy_4 rfl ?_
  refine r_aaldN (0) (b := a) dX2_givesBy_5 hl.s6 (by decide) rfl (by omega) (by decide) ho (by have := tv.ge; omega) ?_
  have ha := tv.ge
  refine r_ifnonnull_t 15 dX2_givesBy_6 (by omega) (by decide) ?_
  refine r_aload_n 0 dX2_givesBy_15 rfl rfl rfl ?_
  refine r_getr (k := 8) (b := (b + 6)) dX2_givesBy_16 hl.s0 rfl (by decide) (Or.inl q234) (Or.inl rfl) rfl hl.r_text ?_
  refine r_iconst (v := nI 0) dX2_givesBy_19 rfl ?_
  refine r_aaldN (0) (b := a) dX2_givesBy_20 hl.s6 (by decide) rfl (by omega) (by decide) ho (by have := tv.ge; omega) ?_
  refine r_aload_n 0 dX2_givesBy_21 rfl rfl rfl ?_
  refine r_getr (k := 14) (b := (b + 9)) dX2_givesBy_22 hl.s0 rfl (by decide) (Or.inl q246) (Or.inl rfl) rfl hl.r_facts ?_
  refine r_bipush (v := nI 116) dX2_givesBy_25 (by decide +kernel) ?_
  refine r_iload_n 1 dX2_givesBy_27 rfl rfl ?_
  refine r_callV_1 dX2_givesBy_28 kX2_84 (L_with hl hb (by decide)) (gRecv.of hl.s9 rfl) rfl rfl (Nat.le_of_ble_eq_true rfl) ?_
  refine r_bipush (v := nI 100) dX2_givesBy_31 (by decide +kernel) ?_
  refine r_iload_n 2 dX2_givesBy_33 rfl rfl ?_
  refine r_callV_1 dX2_givesBy_34 kX2_84 (L_with hl hb (by decide)) (gRecv.of hl.s9 rfl) rfl rfl (Nat.le_of_ble_eq_true rfl) ?_
  refine r_bipush (v := nI 119) dX2_givesBy_37 (by decide +kernel) ?_
  refine r_iload_n 3 dX2_givesBy_39 rfl rfl ?_
  refine r_callV_1 dX2_givesBy_40 kX2_84 (L_with hl hb (by decide)) (gRecv.of hl.s9 rfl) rfl rfl (Nat.le_of_ble_eq_true rfl) ?_
  refine r_val_X2_88 rfl dX2_givesBy_43 (val_ok (h := LG h b r t (ru (ru (ru g 116 t1) 100 t2) 119 t3)) (F := b + 9) (N := b + 10) hl.s9 hl.r_named hl.s10 400) (tv.ext (LG_ext hb)) (Nat.le_of_ble_eq_true rfl) ?_
  rw [LG_n]
  refine r_istore dX2_givesBy_46 (by decide) rfl ?_
  refine gG_ls (ls' := [_, _, _, _, _]) rfl ?_
  refine r_iload dX2_givesBy_48 rfl ?_
  refine r_iconst (v := nI 0) dX2_givesBy_50 rfl ?_
  refine r_iconst (v := nI 1) dX2_givesBy_51 rfl ?_
  refine r_callS_1 dX2_givesBy_52 kX2_92 (L_held)  rfl rfl (Nat.le_of_ble_eq_true rfl) ?_
  refine e_iret dX2_givesBy_55 rfl ?_
  exact ⟨rfl, rfl⟩
theorem L_givesBy {d : Nat} {h : Hp} {b : Nat} (hl : LayL (hS h) (hR h) b) (hb : 21 ≤ b ∧ b + 10 < 78) {t1 t2 t3 : Int32} {r g : Row} {t : Int32} (lw : LWt h b r) : gC (d + 402) 0 0 m_X2_givesBy [.ref b, .int t1, .int t2, .int t3] (LG h b r t g) (RL (some (.int (lawV r 0 t1 t2 t3))) h b r t) := by
  rcases lw 0 (by decide) with ⟨he, ho⟩ | ⟨e, a, v, he, he2, ho, tv, hv⟩
  · rw [lawV_n he]
    exact gC_mono (fun out h' q => ⟨q.1.trans (by rw [if_pos rfl, show (2 : Int32) = nI 2 from rfl]), _, q.2⟩) (L_givesBy_n hl hb ho)
  · rw [lawV_t he he2]
    have f1 : (ru (ru (ru g 116 t1) 100 t2) 119 t3) (nmA 0) = t1 := rfl
    have f2 : (ru (ru (ru g 116 t1) 100 t2) 119 t3) (nmB 0) = t2 := rfl
    have f3 : (ru (ru (ru g 116 t1) 100 t2) 119 t3) (nmC 0) = t3 := rfl
    refine gC_mono (fun out h' q => ⟨q.1.trans (by rw [hv, f1, f2, f3]), _, q.2⟩) (L_givesBy_s hl hb ho tv)
theorem L_lendsBy_n {d : Nat} {h : Hp} {b : Nat} (hl : LayL (hS h) (hR h) b) (hb : 21 ≤ b ∧ b + 10 < 78) {t1 t2 t3 : Int32} {r g : Row} {t : Int32} (ho : hR h (b + 6) 1 = none) : gC (d + 402) (0) (0) m_X2_lendsBy [.ref b, .int t1, .int t2, .int t3] (LG h b r t g) (Ret (some (.int (heldV (if nI 3 < t1 then nI 1 else nI 0) 0 1))) (LG h b r t g)) := by
  refine gC.of (ls := [some (.ref b), some (.int t1), some (.int t2), some (.int t3), none]) (by decide +kernel) rfl rfl rfl rfl (Nat.le_of_ble_eq_true rfl) ?_
  refine r_aload_n 0 dX2_lendsBy_0 rfl rfl rfl ?_
  refine r_getr (k := 8) (b := (b + 6)) dX2_lendsBy_1 hl.s0 rfl (by decide) (Or.inl q234) (Or.inl rfl) rfl hl.r_text ?_
  refine r_iconst (v := nI 1) dX2_lendsBy_4 rfl ?_
  refine r_aaldNn (1) dX2_lendsBy_5 hl.s6 (by decide) rfl (by omega) (by decide) ho ?_
  refine r_ifnonnull_f dX2_lendsBy_6 ?_
  refine r_iload_n 1 dX2_lendsBy_9 rfl rfl ?_
  refine r_iconst (v := nI 3) dX2_lendsBy_10 rfl ?_
  refine r_icmp_le 18 dX2_lendsBy_11 (by decide) (fun c_11 => ?_) (fun c_11 => ?_)
  · skip
    refine r_iconst (v := nI 0) dX2_lendsBy_18 rfl ?_
    refine r_goto 53 dX2_lendsBy_19 (by decide) ?_
    refine r_istore dX2_lendsBy_53 (by decide) rfl ?_
    refine gG_ls (ls' := [_, _, _, _, _]) rfl ?_
    refine r_iload dX2_lendsBy_55 rfl ?_
    refine r_iconst (v := nI 0) dX2_lendsBy_57 rfl ?_
    refine r_iconst (v := nI 1) dX2_lendsBy_58 rfl ?_
    refine r_callS_1 dX2_lendsBy_59 kX2_92 (L_held)  rfl rfl (Nat.le_of_ble_eq_true rfl) ?_
    refine e_iret dX2_lendsBy_62 rfl ?_
    exact ⟨by rw [if_neg (i_le_nlt c_11)], rfl⟩
  · skip
    refine r_iconst (v := nI 1) dX2_lendsBy_14 rfl ?_
    refine r_goto 53 dX2_lendsBy_15 (by decide) ?_
    refine r_istore dX2_lendsBy_53 (by decide) rfl ?_
    refine gG_ls (ls' := [_, _, _, _, _]) rfl ?_
    refine r_iload dX2_lendsBy_55 rfl ?_
    refine r_iconst (v := nI 0) dX2_lendsBy_57 rfl ?_
    refine r_iconst (v := nI 1) dX2_lendsBy_58 rfl ?_
    refine r_callS_1 dX2_lendsBy_59 kX2_92 (L_held)  rfl rfl (Nat.le_of_ble_eq_true rfl) ?_
    refine e_iret dX2_lendsBy_62 rfl ?_
    exact ⟨by rw [if_pos (i_nle c_11)], rfl⟩
theorem L_lendsBy_s {d : Nat} {h : Hp} {b : Nat} (hl : LayL (hS h) (hR h) b) (hb : 21 ≤ b ∧ b + 10 < 78) {t1 t2 t3 : Int32} {a : Nat} {v : Row → Int32} {r g : Row} {t : Int32} (ho : hR h (b + 6) 1 = some a) (tv : TV 400 h a v) : gC (d + 402) (0) (0) m_X2_lendsBy [.ref b, .int t1, .int t2, .int t3] (LG h b r t g) (Ret (some (.int (heldV (v (ru (ru (ru g 119 t1) 111 t2) 109 t3)) 0 1))) (LG h b r t (ru (ru (ru g 119 t1) 111 t2) 109 t3))) := by
  refine gC.of (ls := [some (.ref b), some (.int t1), some (.int t2), some (.int t3), none]) (by decide +kernel) rfl rfl rfl rfl (Nat.le_of_ble_eq_true rfl) ?_
  refine r_aload_n 0 dX2_lendsBy_0 rfl rfl rfl ?_
  refine r_getr (k := 8) (b := (b + 6)) dX2_lendsBy_1 hl.s0 rfl (by decide) (Or.inl q234) (Or.inl rfl) rfl hl.r_text ?_
  refine r_iconst (v := nI 1) dX2_lendsBy_4 rfl ?_
  refine r_aaldN (1) (b := a) dX2_lendsBy_5 hl.s6 (by decide) rfl (by omega) (by decide) ho (by have := tv.ge; omega) ?_
  have ha := tv.ge
  refine r_ifnonnull_t 22 dX2_lendsBy_6 (by omega) (by decide) ?_
  refine r_aload_n 0 dX2_lendsBy_22 rfl rfl rfl ?_
  refine r_getr (k := 8) (b := (b + 6)) dX2_lendsBy_23 hl.s0 rfl (by decide) (Or.inl q234) (Or.inl rfl) rfl hl.r_text ?_
  refine r_iconst (v := nI 1) dX2_lendsBy_26 rfl ?_
  refine r_aaldN (1) (b := a) dX2_lendsBy_27 hl.s6 (by decide) rfl (by omega) (by decide) ho (by have := tv.ge; omega) ?_
  refine r_aload_n 0 dX2_lendsBy_28 rfl rfl rfl ?_
  refine r_getr (k := 14) (b := (b + 9)) dX2_lendsBy_29 hl.s0 rfl (by decide) (Or.inl q246) (Or.inl rfl) rfl hl.r_facts ?_
  refine r_bipush (v := nI 119) dX2_lendsBy_32 (by decide +kernel) ?_
  refine r_iload_n 1 dX2_lendsBy_34 rfl rfl ?_
  refine r_callV_1 dX2_lendsBy_35 kX2_84 (L_with hl hb (by decide)) (gRecv.of hl.s9 rfl) rfl rfl (Nat.le_of_ble_eq_true rfl) ?_
  refine r_bipush (v := nI 111) dX2_lendsBy_38 (by decide +kernel) ?_
  refine r_iload_n 2 dX2_lendsBy_40 rfl rfl ?_
  refine r_callV_1 dX2_lendsBy_41 kX2_84 (L_with hl hb (by decide)) (gRecv.of hl.s9 rfl) rfl rfl (Nat.le_of_ble_eq_true rfl) ?_
  refine r_bipush (v := nI 109) dX2_lendsBy_44 (by decide +kernel) ?_
  refine r_iload_n 3 dX2_lendsBy_46 rfl rfl ?_
  refine r_callV_1 dX2_lendsBy_47 kX2_84 (L_with hl hb (by decide)) (gRecv.of hl.s9 rfl) rfl rfl (Nat.le_of_ble_eq_true rfl) ?_
  refine r_val_X2_88 rfl dX2_lendsBy_50 (val_ok (h := LG h b r t (ru (ru (ru g 119 t1) 111 t2) 109 t3)) (F := b + 9) (N := b + 10) hl.s9 hl.r_named hl.s10 400) (tv.ext (LG_ext hb)) (Nat.le_of_ble_eq_true rfl) ?_
  rw [LG_n]
  refine r_istore dX2_lendsBy_53 (by decide) rfl ?_
  refine gG_ls (ls' := [_, _, _, _, _]) rfl ?_
  refine r_iload dX2_lendsBy_55 rfl ?_
  refine r_iconst (v := nI 0) dX2_lendsBy_57 rfl ?_
  refine r_iconst (v := nI 1) dX2_lendsBy_58 rfl ?_
  refine r_callS_1 dX2_lendsBy_59 kX2_92 (L_held)  rfl rfl (Nat.le_of_ble_eq_true rfl) ?_
  refine e_iret dX2_lendsBy_62 rfl ?_
  exact ⟨rfl, rfl⟩
theorem L_lendsBy {d : Nat} {h : Hp} {b : Nat} (hl : LayL (hS h) (hR h) b) (hb : 21 ≤ b ∧ b + 10 < 78) {t1 t2 t3 : Int32} {r g : Row} {t : Int32} (lw : LWt h b r) : gC (d + 402) 0 0 m_X2_lendsBy [.ref b, .int t1, .int t2, .int t3] (LG h b r t g) (RL (some (.int (lawV r 1 t1 t2 t3))) h b r t) := by
  rcases lw 1 (by decide) with ⟨he, ho⟩ | ⟨e, a, v, he, he2, ho, tv, hv⟩
  · rw [lawV_n he]
    exact gC_mono (fun out h' q => ⟨q.1.trans (by rw [lend01]; rfl), _, q.2⟩) (L_lendsBy_n hl hb ho)
  · rw [lawV_t he he2]
    have f1 : (ru (ru (ru g 119 t1) 111 t2) 109 t3) (nmA 1) = t1 := rfl
    have f2 : (ru (ru (ru g 119 t1) 111 t2) 109 t3) (nmB 1) = t2 := rfl
    have f3 : (ru (ru (ru g 119 t1) 111 t2) 109 t3) (nmC 1) = t3 := rfl
    refine gC_mono (fun out h' q => ⟨q.1.trans (by rw [hv, f1, f2, f3]), _, q.2⟩) (L_lendsBy_s hl hb ho tv)
theorem L_isGiven {d : Nat} {h : Hp} {b : Nat} (hl : LayL (hS h) (hR h) b) (hb : 21 ≤ b ∧ b + 10 < 78) {p : Nat} {t1 w : Int32} {r g : Row} {t : Int32} (lw : LW h b r) (hp : p < 8) : gC (d + 403) (0) (0) m_X2_isGiven [.ref b, .int (nI p), .int t1, .int w] (LG h b r t g) (RL (some (.int (b2 (givenOnB r p t1 w)))) h b (r) t) := by
  refine gC.of (ls := [some (.ref b), some (.int (nI p)), some (.int t1), some (.int w)]) (by decide +kernel) rfl rfl rfl rfl (Nat.le_of_ble_eq_true rfl) ?_
  refine r_aload_n 0 dX2_isGiven_0 rfl rfl rfl ?_
  refine r_iload_n 2 dX2_isGiven_1 rfl rfl ?_
  refine r_iload_n 3 dX2_isGiven_2 rfl rfl ?_
  refine r_bipush (v := nI 7) dX2_isGiven_3 (by decide +kernel) ?_
  refine r_irem dX2_isGiven_5 (by decide) ?_
  refine r_aload_n 0 dX2_isGiven_6 rfl rfl rfl ?_
  refine r_getr (k := 3) (b := (b + 3)) dX2_isGiven_7 hl.s0 rfl (by decide) (Or.inl q224) (Or.inl rfl) rfl hl.r_water ?_
  refine r_iload_n 1 dX2_isGiven_10 rfl rfl ?_
  refine r_ialdN (p) dX2_isGiven_11 hl.s3 rfl (by omega) (by decide) ?_
  refine r_eqi (show _ = (pv r p 3) from LG_r3 (by omega)) ?_
  refine r_callV_1l dX2_isGiven_12 kX2_96 (L_givesBy hl hb lw.2) (gRecv.of hl.s0 rfl) rfl rfl (Nat.le_of_ble_eq_true rfl) (fun g_1 => ?_)
  refine r_if_eq 22 dX2_isGiven_15 (by decide) (fun c_15 => ?_) (fun c_15 => ?_)
  · skip
    refine r_iconst (v := nI 0) dX2_isGiven_22 rfl ?_
    refine e_zret dX2_isGiven_23 rfl (by decide) ?_
    exact ⟨by rw [gOn_f c_15]; rfl, _, rfl⟩
  · skip
    refine r_iconst (v := nI 1) dX2_isGiven_18 rfl ?_
    refine r_goto 23 dX2_isGiven_19 (by decide) ?_
    refine e_zret dX2_isGiven_23 rfl (by decide) ?_
    exact ⟨by rw [gOn_t c_15]; rfl, _, rfl⟩
theorem L_isGivenNow {d : Nat} {h : Hp} {b : Nat} (hl : LayL (hS h) (hR h) b) (hb : 21 ≤ b ∧ b + 10 < 78) {p : Nat} {r g : Row} {t : Int32} (lw : LW h b r) (hp : p < 8) : gC (d + 404) (0) (0) m_X2_isGivenNow [.ref b, .int (nI p)] (LG h b r t g) (RL (some (.int (b2 (givenB r p)))) h b (r) t) := by
  refine gC.of (ls := [some (.ref b), some (.int (nI p))]) (by decide +kernel) rfl rfl rfl rfl (Nat.le_of_ble_eq_true rfl) ?_
  refine r_aload_n 0 dX2_isGivenNow_0 rfl rfl rfl ?_
  refine r_iload_n 1 dX2_isGivenNow_1 rfl rfl ?_
  refine r_aload_n 0 dX2_isGivenNow_2 rfl rfl rfl ?_
  refine r_getr (k := 2) (b := (b + 2)) dX2_isGivenNow_3 hl.s0 rfl (by decide) (Or.inl q222) (Or.inl rfl) rfl hl.r_traits ?_
  refine r_iload_n 1 dX2_isGivenNow_6 rfl rfl ?_
  refine r_ialdN (p) dX2_isGivenNow_7 hl.s2 rfl (by omega) (by decide) ?_
  refine r_eqi (show _ = (pv r p 2) from LG_r2 (by omega)) ?_
  refine r_aload_n 0 dX2_isGivenNow_8 rfl rfl rfl ?_
  refine r_geti (k := 6) dX2_isGivenNow_9 hl.s0 rfl (by decide) (Or.inl q230) (Or.inl rfl) rfl ?_
  refine r_eqi (show _ = (r 0) from (LG_r0 (k := 6) (i := 0) rfl)) ?_
  refine r_callV_1l dX2_isGivenNow_12 kX2_99 (L_isGiven (p := p) hl hb lw (by omega)) (gRecv.of hl.s0 rfl) rfl rfl (Nat.le_of_ble_eq_true rfl) (fun g_1 => ?_)
  refine e_zret dX2_isGivenNow_15 rfl (nar_b2 _) ?_
  exact ⟨rfl, _, rfl⟩
theorem L_who_L {d : Nat} {h : Hp} {b : Nat} (hl : LayL (hS h) (hR h) b) (hb : 21 ≤ b ∧ b + 10 < 78)  {r : Row} {t : Int32} {n : Nat} (hn : r 2 = nI n) (hn8 : n ≤ 8) (lw : LW h b r) {Q : gQ} : ∀ (k i : Nat) (g : Row), i ≤ n → n + 1 ≤ i + k → (∀ (g9 : Row), gG (d + 405) (0) (0) m_X2_whoAreGiven 36 [some (.ref b), some (.int (givenSet r (n))), some (.int (nI n))] [] (LG h b (r) t g9) (Q)) → gG (d + 405) (0) (0) m_X2_whoAreGiven 4 [some (.ref b), some (.int (givenSet r (i))), some (.int (nI i))] [] (LG h b (r) t g) (Q) := by
  intro k
  induction k with
  | zero => exact fun i g h1 h2 => absurd h2 (by omega)
  | succ k ih =>
  intro i g hi hk kk
  refine r_iload_n 2 dX2_whoAreGiven_4 rfl rfl ?_
  refine r_aload_n 0 dX2_whoAreGiven_5 rfl rfl rfl ?_
  refine r_geti (k := 0) dX2_whoAreGiven_6 hl.s0 rfl (by decide) (Or.inl q218) (Or.inl rfl) rfl ?_
  refine r_eqi (show _ = nI (n) from ((LG_r0 (k := 0) (i := 2) rfl).trans hn)) ?_
  refine r_icmp_ge 36 dX2_whoAreGiven_9 (by decide) (fun c_9 => ?_) (fun c_9 => ?_)
  · skip
    have n_9 : n ≤ i := n_ge (by omega) (by omega) c_9
    have hin : i = n := by omega
    subst hin
    exact kk _
  · skip
    have n_9 : i < n := n_gen (by omega) (by omega) c_9
    refine r_iload_n 1 dX2_whoAreGiven_12 rfl rfl ?_
    refine r_aload_n 0 dX2_whoAreGiven_13 rfl rfl rfl ?_
    refine r_iload_n 2 dX2_whoAreGiven_14 rfl rfl ?_
    refine r_callV_1l dX2_whoAreGiven_15 kX2_103 (L_isGivenNow (p := i) hl hb lw (by omega)) (gRecv.of hl.s0 rfl) rfl rfl (Nat.le_of_ble_eq_true rfl) (fun g_1 => ?_)
    refine r_if_eq 27 dX2_whoAreGiven_18 (by decide) (fun c_18 => ?_) (fun c_18 => ?_)
    · skip
      have n_18 : (givenB r i) = false := b2_f c_18
      refine r_iconst (v := nI 0) dX2_whoAreGiven_27 rfl ?_
      refine r_ior dX2_whoAreGiven_28 ?_
      refine r_istore_n 1 dX2_whoAreGiven_29 rfl (by decide) rfl ?_
      refine gG_ls (ls' := [_, _, _]) rfl ?_
      refine r_iinc dX2_whoAreGiven_30 rfl (by decide) rfl ?_
      refine gG_ls (ls' := [_, _, some (.int (nI ((i + 1))))]) (by rw [show (Int32.ofInt 1) = nI 1 from rfl, nI_add]; rfl) ?_
      refine r_goto 4 dX2_whoAreGiven_33 (by decide) ?_
      refine gG_ls (ls' := [_, some (.int (givenSet r (i + 1))), _]) (by rw [givenSet_f n_18]; rfl) ?_
      exact ih (i + 1) _ (by omega) (by omega) kk
    · skip
      have n_18 : (givenB r i) = true := b2_t c_18
      refine r_iconst (v := nI 1) dX2_whoAreGiven_21 rfl ?_
      refine r_iload_n 2 dX2_whoAreGiven_22 rfl rfl ?_
      refine r_ishl dX2_whoAreGiven_23 ?_
      refine r_goto 28 dX2_whoAreGiven_24 (by decide) ?_
      refine r_ior dX2_whoAreGiven_28 ?_
      refine r_istore_n 1 dX2_whoAreGiven_29 rfl (by decide) rfl ?_
      refine gG_ls (ls' := [_, _, _]) rfl ?_
      refine r_iinc dX2_whoAreGiven_30 rfl (by decide) rfl ?_
      refine gG_ls (ls' := [_, _, some (.int (nI ((i + 1))))]) (by rw [show (Int32.ofInt 1) = nI 1 from rfl, nI_add]; rfl) ?_
      refine r_goto 4 dX2_whoAreGiven_33 (by decide) ?_
      refine gG_ls (ls' := [_, some (.int (givenSet r (i + 1))), _]) (by rw [givenSet_t n_18]; rfl) ?_
      exact ih (i + 1) _ (by omega) (by omega) kk
theorem L_who {d : Nat} {h : Hp} {b : Nat} (hl : LayL (hS h) (hR h) b) (hb : 21 ≤ b ∧ b + 10 < 78)  {r g : Row} {t : Int32} {n : Nat} (hn : r 2 = nI n) (hn8 : n ≤ 8) (lw : LW h b r) : gC (d + 405) (0) (0) m_X2_whoAreGiven [.ref b] (LG h b r t g) (RL (some (.int (givenSet r n))) h b (r) t) := by
  refine gC.of (ls := [some (.ref b), none, none]) (by decide +kernel) rfl rfl rfl rfl (Nat.le_of_ble_eq_true rfl) ?_
  refine r_iconst (v := nI 0) dX2_whoAreGiven_0 rfl ?_
  refine r_istore_n 1 dX2_whoAreGiven_1 rfl (by decide) rfl ?_
  refine gG_ls (ls' := [_, _, _]) rfl ?_
  refine r_iconst (v := nI 0) dX2_whoAreGiven_2 rfl ?_
  refine r_istore_n 2 dX2_whoAreGiven_3 rfl (by decide) rfl ?_
  refine gG_ls (ls' := [_, _, _]) rfl ?_
  refine L_who_L hl hb hn hn8 lw (n + 1) 0 _ (by omega) (by omega) (fun g_9 => ?_)
  refine r_iload_n 1 dX2_whoAreGiven_36 rfl rfl ?_
  refine e_iret dX2_whoAreGiven_37 rfl ?_
  exact ⟨rfl, _, rfl⟩
theorem L_place {d : Nat} {h : Hp} {i j : Nat} : gC (d) (0) (0) m_X2_place [.int (nI i), .int (nI j)] (h) (Ret (some (.int (nI (8 * i + j)))) h) := by
  refine gC.of (ls := [some (.int (nI i)), some (.int (nI j))]) (by decide +kernel) rfl rfl rfl rfl (Nat.le_of_ble_eq_true rfl) ?_
  refine r_bipush (v := nI 8) dX2_place_0 (by decide +kernel) ?_
  refine r_iload_n 0 dX2_place_2 rfl rfl ?_
  refine r_imul dX2_place_3 ?_
  refine r_eqi (show _ = nI (8 * i) from by simp only [pk_mul, nI_add]) ?_
  refine r_iload_n 1 dX2_place_4 rfl rfl ?_
  refine r_iadd dX2_place_5 ?_
  refine r_eqi (show _ = nI ((8 * i) + j) from by simp only [pk_mul, nI_add]) ?_
  refine e_iret dX2_place_6 rfl ?_
  exact ⟨by simp only [pk_mul, nI_add], rfl⟩
theorem L_doesLend {d : Nat} {h : Hp} {b : Nat} (hl : LayL (hS h) (hR h) b) (hb : 21 ≤ b ∧ b + 10 < 78) {p q a k : Nat} {r g : Row} {t : Int32} (lw : LW h b r) (hp : p < 8) (hq : q < 8) (ha : hR h (b + 1) p = some a) (pa : PAt h a p k (pv r p 1)) : gC (d + 403) (0) (0) m_X2_doesLend [.ref b, .int (nI p), .int (nI q)] (LG h b r t g) (RL (some (.int (b2 (lendsB r t p q)))) h b (r) t) := by
  refine gC.of (ls := [some (.ref b), some (.int (nI p)), some (.int (nI q))]) (by decide +kernel) rfl rfl rfl rfl (Nat.le_of_ble_eq_true rfl) ?_
  refine r_iload_n 1 dX2_doesLend_0 rfl rfl ?_
  refine r_iload_n 2 dX2_doesLend_1 rfl rfl ?_
  refine r_icmp_eq 58 dX2_doesLend_2 (by decide) (fun c_2 => ?_) (fun c_2 => ?_)
  · skip
    have n_2 : p = q := n_eq (by omega) (by omega) c_2
    refine r_iconst (v := nI 0) dX2_doesLend_58 rfl ?_
    refine e_zret dX2_doesLend_59 rfl (by decide) ?_
    exact ⟨by rw [show lendsB r t p q = false from by simp [lendsB, n_2]]; rfl, _, rfl⟩
  · skip
    have n_2 : ¬ p = q := n_eqn (by omega) (by omega) c_2
    refine r_iload_n 1 dX2_doesLend_5 rfl rfl ?_
    refine r_aload_n 0 dX2_doesLend_6 rfl rfl rfl ?_
    refine r_geti (k := 7) dX2_doesLend_7 hl.s0 rfl (by decide) (Or.inl q232) (Or.inl rfl) rfl ?_
    refine r_eqi (show _ = t from LG_rt) ?_
    refine r_icmp_eq 58 dX2_doesLend_10 (by decide) (fun c_10 => ?_) (fun c_10 => ?_)
    · skip
      refine r_iconst (v := nI 0) dX2_doesLend_58 rfl ?_
      refine e_zret dX2_doesLend_59 rfl (by decide) ?_
      exact ⟨by rw [show lendsB r t p q = false from by simp [lendsB, c_10]]; rfl, _, rfl⟩
    · skip
      refine r_aload_n 0 dX2_doesLend_13 rfl rfl rfl ?_
      refine r_getr (k := 3) (b := (b + 3)) dX2_doesLend_14 hl.s0 rfl (by decide) (Or.inl q224) (Or.inl rfl) rfl hl.r_water ?_
      refine r_iload_n 1 dX2_doesLend_17 rfl rfl ?_
      refine r_ialdN (p) dX2_doesLend_18 hl.s3 rfl (by omega) (by decide) ?_
      refine r_eqi (show _ = (pv r p 3) from LG_r3 (by omega)) ?_
      refine r_if_le 58 dX2_doesLend_19 (by decide) (fun c_19 => ?_) (fun c_19 => ?_)
      · skip
        refine r_iconst (v := nI 0) dX2_doesLend_58 rfl ?_
        refine e_zret dX2_doesLend_59 rfl (by decide) ?_
        exact ⟨by rw [show lendsB r t p q = false from by simp [lendsB, i_le_nlt c_19]]; rfl, _, rfl⟩
      · skip
        refine r_aload_n 0 dX2_doesLend_22 rfl rfl rfl ?_
        refine r_aload_n 0 dX2_doesLend_23 rfl rfl rfl ?_
        refine r_getr (k := 3) (b := (b + 3)) dX2_doesLend_24 hl.s0 rfl (by decide) (Or.inl q224) (Or.inl rfl) rfl hl.r_water ?_
        refine r_iload_n 1 dX2_doesLend_27 rfl rfl ?_
        refine r_ialdN (p) dX2_doesLend_28 hl.s3 rfl (by omega) (by decide) ?_
        refine r_eqi (show _ = (pv r p 3) from LG_r3 (by omega)) ?_
        refine r_aload_n 0 dX2_doesLend_29 rfl rfl rfl ?_
        refine r_getr (k := 5) (b := (b + 5)) dX2_doesLend_30 hl.s0 rfl (by decide) (Or.inl q228) (Or.inl rfl) rfl hl.r_owed ?_
        refine r_iload_n 2 dX2_doesLend_33 rfl rfl ?_
        refine r_iload_n 1 dX2_doesLend_34 rfl rfl ?_
        refine r_callS_1 dX2_doesLend_35 kX2_107 (L_place (i := q) (j := p))  rfl rfl (Nat.le_of_ble_eq_true rfl) ?_
        refine r_ialdN ((8 * q + p)) dX2_doesLend_38 hl.s5 rfl (by omega) (by decide) ?_
        refine r_eqi (show _ = (dv r q p) from LG_r5 (by omega) (by omega)) ?_
        refine r_aload_n 0 dX2_doesLend_39 rfl rfl rfl ?_
        refine r_getr (k := 1) (b := (b + 1)) dX2_doesLend_40 hl.s0 rfl (by decide) (Or.inl q220) (Or.inl rfl) rfl hl.r_person ?_
        refine r_iload_n 1 dX2_doesLend_43 rfl rfl ?_
        refine r_aaldN (p) (b := a) dX2_doesLend_44 hl.s1 (by decide) rfl (by omega) (by decide) ha (by have := pa.1; omega) ?_
        refine r_One_m dX2_doesLend_45 (Or.inl q384) (pa.ext (LG_ext hb)) ?_
        refine r_callV_1l dX2_doesLend_48 kX2_113 (L_lendsBy hl hb lw.2) (gRecv.of hl.s0 rfl) rfl rfl (Nat.le_of_ble_eq_true rfl) (fun g_1 => ?_)
        refine r_if_eq 58 dX2_doesLend_51 (by decide) (fun c_51 => ?_) (fun c_51 => ?_)
        · skip
          refine r_iconst (v := nI 0) dX2_doesLend_58 rfl ?_
          refine e_zret dX2_doesLend_59 rfl (by decide) ?_
          exact ⟨by rw [show lendsB r t p q = false from by simp [lendsB, c_51]]; rfl, _, rfl⟩
        · skip
          refine r_iconst (v := nI 1) dX2_doesLend_54 rfl ?_
          refine r_goto 59 dX2_doesLend_55 (by decide) ?_
          refine e_zret dX2_doesLend_59 rfl (by decide) ?_
          exact ⟨by rw [show lendsB r t p q = true from by simp [lendsB, n_2, c_10, i_nle c_19, c_51]]; rfl, _, rfl⟩
theorem L_lender_L {d : Nat} {h : Hp} {b : Nat} (hl : LayL (hS h) (hR h) b) (hb : 21 ≤ b ∧ b + 10 < 78) {r : Row} {t : Int32} {n : Nat} (hn : r 2 = nI n) (hn8 : n ≤ 8) (lw : LW h b r) {q : Nat} (hq : q < 8) {Q : gQ} : ∀ (k i : Nat) (y : Option Value) (g : Row), i ≤ n → n + 1 ≤ i + k → (∀ (y : Option Value) (g9 : Row), gG (d + 404) (0) (0) m_X2_lender 65 [some (.ref b), some (.int (nI q)), some (.int (frI (bgo r t q n))), some (.int (nI n)), y] [] (LG h b r t g9) (Q)) → gG (d + 404) (0) (0) m_X2_lender 4 [some (.ref b), some (.int (nI q)), some (.int (frI (bgo r t q i))), some (.int (nI i)), y] [] (LG h b r t g) (Q) := by
  intro k
  induction k with
  | zero => exact fun i y g h1 h2 => absurd h2 (by omega)
  | succ k ih =>
  intro i y g hi hk kk
  refine r_iload_n 3 dX2_lender_4 rfl rfl ?_
  refine r_aload_n 0 dX2_lender_5 rfl rfl rfl ?_
  refine r_geti (k := 0) dX2_lender_6 hl.s0 rfl (by decide) (Or.inl q218) (Or.inl rfl) rfl ?_
  refine r_eqi (show _ = nI (n) from ((LG_r0 (k := 0) (i := 2) rfl).trans hn)) ?_
  refine r_icmp_ge 65 dX2_lender_9 (by decide) (fun c_9 => ?_) (fun c_9 => ?_)
  · skip
    have n_9 : n ≤ i := n_ge (by omega) (by omega) c_9
    have hin : i = n := by omega
    subst hin
    exact kk _ _
  · skip
    have n_9 : i < n := n_gen (by omega) (by omega) c_9
    obtain ⟨a, k9, ha, hk9, pa⟩ := lw.one (p := i) (by rw [np_of hn (by omega)]; omega) (by rw [np_of hn (by omega)]; exact hn8)
    rcases hb9 : bgo r t q i with _ | w
    · skip
      have hfr : frI none = -1 := rfl
      rw [hfr]
      refine r_iload_n 2 dX2_lender_12 rfl rfl ?_
      refine r_iconst (v := (-1)) dX2_lender_13 (by decide +kernel) ?_
      refine r_icmp_eq 32 dX2_lender_14 (by decide) (fun c_14 => ?_) (fun c_14 => ?_)
      · skip
        refine r_iconst (v := nI 1) dX2_lender_32 rfl ?_
        refine r_goto 37 dX2_lender_33 (by decide) ?_
        refine r_istore dX2_lender_37 (by decide) rfl ?_
        refine gG_ls (ls' := [_, _, _, _, _]) rfl ?_
        refine r_iload dX2_lender_39 rfl ?_
        refine r_if_eq 57 dX2_lender_41 (by decide) (fun c_41 => ?_) (fun c_41 => ?_)
        · skip
          have n_41 : 1 = 0 := n_eq0 (by omega) c_41
          exact absurd n_41 (by decide)
        · skip
          have n_41 : ¬ 1 = 0 := n_ne0 (by omega) c_41
          refine r_aload_n 0 dX2_lender_44 rfl rfl rfl ?_
          refine r_iload_n 3 dX2_lender_45 rfl rfl ?_
          refine r_iload_n 1 dX2_lender_46 rfl rfl ?_
          refine r_callV_1l dX2_lender_47 kX2_116 (L_doesLend (p := i) (q := q) hl hb lw (by omega) (by omega) ha pa) (gRecv.of hl.s0 rfl) rfl rfl (Nat.le_of_ble_eq_true rfl) (fun g_1 => ?_)
          refine r_if_eq 57 dX2_lender_50 (by decide) (fun c_50 => ?_) (fun c_50 => ?_)
          · skip
            have n_50 : (lendsB r t i q) = false := b2_f c_50
            refine r_iload_n 2 dX2_lender_57 rfl rfl ?_
            refine r_istore_n 2 dX2_lender_58 rfl (by decide) rfl ?_
            refine gG_ls (ls' := [_, _, _, _, _]) rfl ?_
            refine r_iinc dX2_lender_59 rfl (by decide) rfl ?_
            refine gG_ls (ls' := [_, _, _, some (.int (nI ((i + 1)))), _]) (by rw [show (Int32.ofInt 1) = nI 1 from rfl, nI_add]; rfl) ?_
            refine r_goto 4 dX2_lender_62 (by decide) ?_
            refine gG_ls (ls' := [_, _, some (.int (frI (bgo r t q (i + 1)))), _, _]) (by rw [bgo_n1 n_50, hb9]; rfl) ?_
            exact ih (i + 1) _ _ (by omega) (by omega) kk
          · skip
            have n_50 : (lendsB r t i q) = true := b2_t c_50
            refine r_iload_n 3 dX2_lender_53 rfl rfl ?_
            refine r_goto 58 dX2_lender_54 (by decide) ?_
            refine r_istore_n 2 dX2_lender_58 rfl (by decide) rfl ?_
            refine gG_ls (ls' := [_, _, _, _, _]) rfl ?_
            refine r_iinc dX2_lender_59 rfl (by decide) rfl ?_
            refine gG_ls (ls' := [_, _, _, some (.int (nI ((i + 1)))), _]) (by rw [show (Int32.ofInt 1) = nI 1 from rfl, nI_add]; rfl) ?_
            refine r_goto 4 dX2_lender_62 (by decide) ?_
            refine gG_ls (ls' := [_, _, some (.int (frI (bgo r t q (i + 1)))), _, _]) (by rw [bgo_s n_50 (fun w9 h9 => by rw [hb9] at h9; cases h9)]; rfl) ?_
            exact ih (i + 1) _ _ (by omega) (by omega) kk
      · skip
        exact absurd rfl c_14
    · skip
      have hfr : frI (some w) = nI w := rfl
      rw [hfr]
      have hw : w < i := bgo_lt hb9
      refine r_iload_n 2 dX2_lender_12 rfl rfl ?_
      refine r_iconst (v := (-1)) dX2_lender_13 (by decide +kernel) ?_
      refine r_icmp_eq 32 dX2_lender_14 (by decide) (fun c_14 => ?_) (fun c_14 => ?_)
      · skip
        exact absurd c_14 (nI_ne1 (by omega))
      · skip
        refine r_aload_n 0 dX2_lender_17 rfl rfl rfl ?_
        refine r_getr (k := 3) (b := (b + 3)) dX2_lender_18 hl.s0 rfl (by decide) (Or.inl q224) (Or.inl rfl) rfl hl.r_water ?_
        refine r_iload_n 3 dX2_lender_21 rfl rfl ?_
        refine r_ialdN (i) dX2_lender_22 hl.s3 rfl (by omega) (by decide) ?_
        refine r_eqi (show _ = (pv r i 3) from LG_r3 (by omega)) ?_
        refine r_aload_n 0 dX2_lender_23 rfl rfl rfl ?_
        refine r_getr (k := 3) (b := (b + 3)) dX2_lender_24 hl.s0 rfl (by decide) (Or.inl q224) (Or.inl rfl) rfl hl.r_water ?_
        refine r_iload_n 2 dX2_lender_27 rfl rfl ?_
        refine r_ialdN (w) dX2_lender_28 hl.s3 rfl (by omega) (by decide) ?_
        refine r_eqi (show _ = (pv r w 3) from LG_r3 (by omega)) ?_
        refine r_icmp_le 36 dX2_lender_29 (by decide) (fun c_29 => ?_) (fun c_29 => ?_)
        · skip
          refine r_iconst (v := nI 0) dX2_lender_36 rfl ?_
          refine r_istore dX2_lender_37 (by decide) rfl ?_
          refine gG_ls (ls' := [_, _, _, _, _]) rfl ?_
          refine r_iload dX2_lender_39 rfl ?_
          refine r_if_eq 57 dX2_lender_41 (by decide) (fun c_41 => ?_) (fun c_41 => ?_)
          · skip
            have n_41 : 0 = 0 := n_eq0 (by omega) c_41
            refine r_iload_n 2 dX2_lender_57 rfl rfl ?_
            refine r_istore_n 2 dX2_lender_58 rfl (by decide) rfl ?_
            refine gG_ls (ls' := [_, _, _, _, _]) rfl ?_
            refine r_iinc dX2_lender_59 rfl (by decide) rfl ?_
            refine gG_ls (ls' := [_, _, _, some (.int (nI ((i + 1)))), _]) (by rw [show (Int32.ofInt 1) = nI 1 from rfl, nI_add]; rfl) ?_
            refine r_goto 4 dX2_lender_62 (by decide) ?_
            refine gG_ls (ls' := [_, _, some (.int (frI (bgo r t q (i + 1)))), _, _]) (by rw [bgo_n2 hb9 (i_le_nlt c_29), hb9]; rfl) ?_
            exact ih (i + 1) _ _ (by omega) (by omega) kk
          · skip
            have n_41 : ¬ 0 = 0 := n_ne0 (by omega) c_41
            exact absurd n_41 (by decide)
        · skip
          refine r_iconst (v := nI 1) dX2_lender_32 rfl ?_
          refine r_goto 37 dX2_lender_33 (by decide) ?_
          refine r_istore dX2_lender_37 (by decide) rfl ?_
          refine gG_ls (ls' := [_, _, _, _, _]) rfl ?_
          refine r_iload dX2_lender_39 rfl ?_
          refine r_if_eq 57 dX2_lender_41 (by decide) (fun c_41 => ?_) (fun c_41 => ?_)
          · skip
            have n_41 : 1 = 0 := n_eq0 (by omega) c_41
            exact absurd n_41 (by decide)
          · skip
            have n_41 : ¬ 1 = 0 := n_ne0 (by omega) c_41
            refine r_aload_n 0 dX2_lender_44 rfl rfl rfl ?_
            refine r_iload_n 3 dX2_lender_45 rfl rfl ?_
            refine r_iload_n 1 dX2_lender_46 rfl rfl ?_
            refine r_callV_1l dX2_lender_47 kX2_116 (L_doesLend (p := i) (q := q) hl hb lw (by omega) (by omega) ha pa) (gRecv.of hl.s0 rfl) rfl rfl (Nat.le_of_ble_eq_true rfl) (fun g_2 => ?_)
            refine r_if_eq 57 dX2_lender_50 (by decide) (fun c_50 => ?_) (fun c_50 => ?_)
            · skip
              have n_50 : (lendsB r t i q) = false := b2_f c_50
              refine r_iload_n 2 dX2_lender_57 rfl rfl ?_
              refine r_istore_n 2 dX2_lender_58 rfl (by decide) rfl ?_
              refine gG_ls (ls' := [_, _, _, _, _]) rfl ?_
              refine r_iinc dX2_lender_59 rfl (by decide) rfl ?_
              refine gG_ls (ls' := [_, _, _, some (.int (nI ((i + 1)))), _]) (by rw [show (Int32.ofInt 1) = nI 1 from rfl, nI_add]; rfl) ?_
              refine r_goto 4 dX2_lender_62 (by decide) ?_
              refine gG_ls (ls' := [_, _, some (.int (frI (bgo r t q (i + 1)))), _, _]) (by rw [bgo_n1 n_50, hb9]; rfl) ?_
              exact ih (i + 1) _ _ (by omega) (by omega) kk
            · skip
              have n_50 : (lendsB r t i q) = true := b2_t c_50
              refine r_iload_n 3 dX2_lender_53 rfl rfl ?_
              refine r_goto 58 dX2_lender_54 (by decide) ?_
              refine r_istore_n 2 dX2_lender_58 rfl (by decide) rfl ?_
              refine gG_ls (ls' := [_, _, _, _, _]) rfl ?_
              refine r_iinc dX2_lender_59 rfl (by decide) rfl ?_
              refine gG_ls (ls' := [_, _, _, some (.int (nI ((i + 1)))), _]) (by rw [show (Int32.ofInt 1) = nI 1 from rfl, nI_add]; rfl) ?_
              refine r_goto 4 dX2_lender_62 (by decide) ?_
              refine gG_ls (ls' := [_, _, some (.int (frI (bgo r t q (i + 1)))), _, _]) (by rw [bgo_s n_50 (fun w9 h9 => by rw [hb9] at h9; cases h9; exact i_nle c_29)]; rfl) ?_
              exact ih (i + 1) _ _ (by omega) (by omega) kk
theorem L_lender {d : Nat} {h : Hp} {b : Nat} (hl : LayL (hS h) (hR h) b) (hb : 21 ≤ b ∧ b + 10 < 78)  {r g : Row} {t : Int32} {n q : Nat} (hn : r 2 = nI n) (hn8 : n ≤ 8) (lw : LW h b r) (hq : q < 8) : gC (d + 404) (0) (0) m_X2_lender [.ref b, .int (nI q)] (LG h b r t g) (RL (some (.int (frI (bgo r t q n)))) h b (r) t) := by
  refine gC.of (ls := [some (.ref b), some (.int (nI q)), none, none, none]) (by decide +kernel) rfl rfl rfl rfl (Nat.le_of_ble_eq_true rfl) ?_
  refine r_iconst (v := (-1)) dX2_lender_0 (by decide +kernel) ?_
  refine r_istore_n 2 dX2_lender_1 rfl (by decide) rfl ?_
  refine gG_ls (ls' := [_, _, _, _, _]) rfl ?_
  refine r_iconst (v := nI 0) dX2_lender_2 rfl ?_
  refine r_istore_n 3 dX2_lender_3 rfl (by decide) rfl ?_
  refine gG_ls (ls' := [_, _, _, _, _]) rfl ?_
  refine L_lender_L hl hb hn hn8 lw hq (n + 1) 0 _ _ (by omega) (by omega) (fun y g_9 => ?_)
  refine r_iload_n 2 dX2_lender_65 rfl rfl ?_
  refine e_iret dX2_lender_66 rfl ?_
  exact ⟨rfl, _, rfl⟩
theorem L_begs {d : Nat} {h : Hp} {b : Nat} (hl : LayL (hS h) (hR h) b) (hb : 21 ≤ b ∧ b + 10 < 78)  {r g : Row} {t : Int32} {n p : Nat} (hn : r 2 = nI n) (hn8 : n ≤ 8) (lw : LW h b r) (hp : p < 8) (Vr : RowV r) : gC (d + 405) (0) (0) m_X2_begs [.ref b, .int (nI p)] (LG h b r t g) (RL (none) h b (begR r t p) t) := by
  refine gC.of (ls := [some (.ref b), some (.int (nI p)), none]) (by decide +kernel) rfl rfl rfl rfl (Nat.le_of_ble_eq_true rfl) ?_
  refine r_aload_n 0 dX2_begs_0 rfl rfl rfl ?_
  refine r_iload_n 1 dX2_begs_1 rfl rfl ?_
  refine r_callV_1l dX2_begs_2 kX2_120 (L_lender (n := n) (q := p) hl hb hn hn8 lw (by omega)) (gRecv.of hl.s0 rfl) rfl rfl (Nat.le_of_ble_eq_true rfl) (fun g_1 => ?_)
  rcases hb9 : bgo r t p n with _ | w
  · skip
    have hfr : frI none = -1 := rfl
    rw [hfr]
    have hR : begR r t p = r := by unfold begR; rw [np_of hn (by omega), hb9]
    rw [hR]
    refine r_istore_n 2 dX2_begs_5 rfl (by decide) rfl ?_
    refine gG_ls (ls' := [_, _, _]) rfl ?_
    refine r_iload_n 2 dX2_begs_6 rfl rfl ?_
    refine r_iconst (v := (-1)) dX2_begs_7 (by decide +kernel) ?_
    refine r_icmp_eq 68 dX2_begs_8 (by decide) (fun c_8 => ?_) (fun c_8 => ?_)
    · skip
      refine e_vret dX2_begs_68 rfl ?_
      exact ⟨rfl, _, rfl⟩
    · skip
      exact absurd rfl c_8
  · skip
    have hfr : frI (some w) = nI w := rfl
    rw [hfr]
    have hw : w < n := bgo_lt hb9
    have hR : begR r t p = sdv (spv (spv r w 3 (pv r w 3 - 1)) p 3 (heldV (pv (spv r w 3 (pv r w 3 - 1)) p 3 + 1) 0 999)) p w (heldV (dv (spv (spv r w 3 (pv r w 3 - 1)) p 3 (heldV (pv (spv r w 3 (pv r w 3 - 1)) p 3 + 1) 0 999)) p w + 1) 0 99) := by unfold begR; rw [np_of hn (by omega), hb9]
    rw [hR]
    obtain ⟨x1, hx1, hx19⟩ := Vr.1 w (by omega)
    have hx0 : 0 < x1 := nI_p (by omega) (by rw [← hx1]; exact bgo_pos hb9)
    have e1 : pv r w 3 - 1 = nI (x1 - 1) := by rw [hx1, show (1 : Int32) = nI 1 from rfl, nI_sub (by omega)]
    have V1 : RowV (spv r w 3 (pv r w 3 - 1)) := by rw [e1]; exact Vr.w3 (by omega) (by omega)
    obtain ⟨x2, hx2, hx29⟩ := V1.1 p hp
    have e2 : (if pv (spv r w 3 (pv r w 3 - 1)) p 3 + nI 1 < nI 999 then pv (spv r w 3 (pv r w 3 - 1)) p 3 + nI 1 else nI 999) = heldV (pv (spv r w 3 (pv r w 3 - 1)) p 3 + 1) 0 999 := by rw [hx2, nI_add, mmin_n (by omega) (by omega)]; rw [show (1 : Int32) = nI 1 from rfl, nI_add]; rfl
    have V2 : RowV (spv (spv r w 3 (pv r w 3 - 1)) p 3 (heldV (pv (spv r w 3 (pv r w 3 - 1)) p 3 + 1) 0 999)) := by rw [hx2, show (1 : Int32) = nI 1 from rfl, nI_add, show (999 : Int32) = nI 999 from rfl, held_n (by omega) (by omega)]; exact V1.w3 hp (by omega)
    obtain ⟨x3, hx3, hx39⟩ := pos_nI V2.2.2 hp (show w < 8 by omega)
    have e3 : (if dv (spv (spv r w 3 (pv r w 3 - 1)) p 3 (heldV (pv (spv r w 3 (pv r w 3 - 1)) p 3 + 1) 0 999)) p w + nI 1 < nI 99 then dv (spv (spv r w 3 (pv r w 3 - 1)) p 3 (heldV (pv (spv r w 3 (pv r w 3 - 1)) p 3 + 1) 0 999)) p w + nI 1 else nI 99) = heldV (dv (spv (spv r w 3 (pv r w 3 - 1)) p 3 (heldV (pv (spv r w 3 (pv r w 3 - 1)) p 3 + 1) 0 999)) p w + 1) 0 99 := by rw [hx3, nI_add, mmin_n (by omega) (by omega)]; rw [show (1 : Int32) = nI 1 from rfl, nI_add]; rfl
    refine r_istore_n 2 dX2_begs_5 rfl (by decide) rfl ?_
    refine gG_ls (ls' := [_, _, _]) rfl ?_
    refine r_iload_n 2 dX2_begs_6 rfl rfl ?_
    refine r_iconst (v := (-1)) dX2_begs_7 (by decide +kernel) ?_
    refine r_icmp_eq 68 dX2_begs_8 (by decide) (fun c_8 => ?_) (fun c_8 => ?_)
    · skip
      exact absurd c_8 (nI_ne1 (by omega))
    · skip
      refine r_aload_n 0 dX2_begs_11 rfl rfl rfl ?_
      refine r_getr (k := 3) (b := (b + 3)) dX2_begs_12 hl.s0 rfl (by decide) (Or.inl q224) (Or.inl rfl) rfl hl.r_water ?_
      refine r_iload_n 2 dX2_begs_15 rfl rfl ?_
      refine r_dup2 dX2_begs_16 rfl rfl ?_
      refine r_ialdN (w) dX2_begs_17 hl.s3 rfl (by omega) (by decide) ?_
      refine r_eqi (show _ = (pv r w 3) from LG_r3 (by omega)) ?_
      refine r_iconst (v := nI 1) dX2_begs_18 rfl ?_
      refine r_isub dX2_begs_19 ?_
      refine r_iastN (w) dX2_begs_20 hl.s3 rfl (by omega) (by decide) ?_
      refine gG_h (LG_w3 (by omega)) ?_
      refine r_aload_n 0 dX2_begs_21 rfl rfl rfl ?_
      refine r_getr (k := 3) (b := (b + 3)) dX2_begs_22 hl.s0 rfl (by decide) (Or.inl q224) (Or.inl rfl) rfl hl.r_water ?_
      refine r_iload_n 1 dX2_begs_25 rfl rfl ?_
      refine r_sipush (v := nI 999) dX2_begs_26 (by decide +kernel) ?_
      refine r_aload_n 0 dX2_begs_29 rfl rfl rfl ?_
      refine r_getr (k := 3) (b := (b + 3)) dX2_begs_30 hl.s0 rfl (by decide) (Or.inl q224) (Or.inl rfl) rfl hl.r_water ?_
      refine r_iload_n 1 dX2_begs_33 rfl rfl ?_
      refine r_ialdN (p) dX2_begs_34 hl.s3 rfl (by omega) (by decide) ?_
      refine r_eqi (show _ = (pv (spv r w 3 (pv r w 3 - 1)) p 3) from LG_r3 (by omega)) ?_
      refine r_iconst (v := nI 1) dX2_begs_35 rfl ?_
      refine r_iadd dX2_begs_36 ?_
      refine r_mmin dX2_begs_37 kX2_75 kM_smin kM_I kM_cmin (Nat.le_of_ble_eq_true rfl) ?_
      refine r_eqi (show _ = (heldV (pv (spv r w 3 (pv r w 3 - 1)) p 3 + 1) 0 999) from e2) ?_
      refine r_iastN (p) dX2_begs_40 hl.s3 rfl (by omega) (by decide) ?_
      refine gG_h (LG_w3 (by omega)) ?_
      refine r_aload_n 0 dX2_begs_41 rfl rfl rfl ?_
      refine r_getr (k := 5) (b := (b + 5)) dX2_begs_42 hl.s0 rfl (by decide) (Or.inl q228) (Or.inl rfl) rfl hl.r_owed ?_
      refine r_iload_n 1 dX2_begs_45 rfl rfl ?_
      refine r_iload_n 2 dX2_begs_46 rfl rfl ?_
      refine r_callS_1 dX2_begs_47 kX2_107 (L_place (i := p) (j := w))  rfl rfl (Nat.le_of_ble_eq_true rfl) ?_
      refine r_bipush (v := nI 99) dX2_begs_50 (by decide +kernel) ?_
      refine r_aload_n 0 dX2_begs_52 rfl rfl rfl ?_
      refine r_getr (k := 5) (b := (b + 5)) dX2_begs_53 hl.s0 rfl (by decide) (Or.inl q228) (Or.inl rfl) rfl hl.r_owed ?_
      refine r_iload_n 1 dX2_begs_56 rfl rfl ?_
      refine r_iload_n 2 dX2_begs_57 rfl rfl ?_
      refine r_callS_1 dX2_begs_58 kX2_107 (L_place (i := p) (j := w))  rfl rfl (Nat.le_of_ble_eq_true rfl) ?_
      refine r_ialdN ((8 * p + w)) dX2_begs_61 hl.s5 rfl (by omega) (by decide) ?_
      refine r_eqi (show _ = (dv (spv (spv r w 3 (pv r w 3 - 1)) p 3 (heldV (pv (spv r w 3 (pv r w 3 - 1)) p 3 + 1) 0 999)) p w) from LG_r5 (by omega) (by omega)) ?_
      refine r_iconst (v := nI 1) dX2_begs_62 rfl ?_
      refine r_iadd dX2_begs_63 ?_
      refine r_mmin dX2_begs_64 kX2_75 kM_smin kM_I kM_cmin (Nat.le_of_ble_eq_true rfl) ?_
      refine r_eqi (show _ = (heldV (dv (spv (spv r w 3 (pv r w 3 - 1)) p 3 (heldV (pv (spv r w 3 (pv r w 3 - 1)) p 3 + 1) 0 999)) p w + 1) 0 99) from e3) ?_
      refine r_iastN ((8 * p + w)) dX2_begs_67 hl.s5 rfl (by omega) (by decide) ?_
      refine gG_h (LG_w5 (by omega) (by omega)) ?_
      refine e_vret dX2_begs_68 rfl ?_
      exact ⟨rfl, _, rfl⟩
