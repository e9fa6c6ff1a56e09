theorem L_goesToIt {d : Nat} {h : Hp} {b : Nat} (hl : LayL (hS h) (hR h) b) (hb : 21 ≤ b ∧ b + 10 < 78) {p : Nat} {g : Row} {r : Row} {t : Int32} (hn : r 2 = nI (np r)) (hn8 : np r ≤ 8) (lw : LW h b r) (Vr : RowV r) (K : RowK r) (hp : p < np r) : gC (d + 406) (0) (0) m_X2_goesToIt [.ref b, .int (nI p)] (LG h b r t g) (RL (none) h b (goR r t p) t) := by
  obtain ⟨a, k9, ha, hk9, pa⟩ := lw.one (p := p) hp hn8
  have h79 := pa.2.2.2.1
  obtain ⟨q9, m9, hq9, hq7, hm, hm9⟩ := K p (by omega)
  obtain ⟨x, hx, hx9⟩ := Vr.1 p (by omega)
  obtain ⟨F, hF, eF⟩ := fill_n k9 h79 m9 hm9
  have e1 : (if pv r p 3 + (fillV k9 (pv r p 1)) < nI 999 then pv r p 3 + (fillV k9 (pv r p 1)) else nI 999) = (heldV (pv r p 3 + (fillV k9 (pv r p 1))) 0 999) := by rw [hm, eF, hx, nI_add, mmin_n (by omega) (by omega)]; rfl
  refine gC.of (ls := [some (.ref b), some (.int (nI p))]) (by decide +kernel) rfl rfl rfl rfl (Nat.le_of_ble_eq_true rfl) ?_
  refine r_aload_n 0 dX2_goesToIt_0 rfl rfl rfl ?_
  refine r_iload_n 1 dX2_goesToIt_1 rfl rfl ?_
  refine r_callV_1l dX2_goesToIt_2 kX2_103 (L_isGivenNow (p := p) hl hb lw (by omega)) (gRecv.of hl.s0 rfl) rfl rfl (Nat.le_of_ble_eq_true rfl) (fun g_1 => ?_)
  refine r_if_eq 39 dX2_goesToIt_5 (by decide) (fun c_5 => ?_) (fun c_5 => ?_)
  · skip
    have n_5 : (givenB r p) = false := b2_f c_5
    rw [goR_f n_5]
    refine r_aload_n 0 dX2_goesToIt_39 rfl rfl rfl ?_
    refine r_iload_n 1 dX2_goesToIt_40 rfl rfl ?_
    refine r_callV_0l dX2_goesToIt_41 kX2_128 (L_begs (n := np r) (p := p) hl hb hn hn8 lw (by omega) Vr) (gRecv.of hl.s0 rfl) rfl rfl (Nat.le_of_ble_eq_true rfl) (fun g_2 => ?_)
    refine e_vret dX2_goesToIt_44 rfl ?_
    exact ⟨rfl, _, rfl⟩
  · skip
    have n_5 : (givenB r p) = true := b2_t c_5
    rw [goR_t n_5 hk9 h79]
    refine r_aload_n 0 dX2_goesToIt_8 rfl rfl rfl ?_
    refine r_getr (k := 3) (b := (b + 3)) dX2_goesToIt_9 hl.s0 rfl (by decide) (Or.inl q224) (Or.inl rfl) rfl hl.r_water ?_
    refine r_iload_n 1 dX2_goesToIt_12 rfl rfl ?_
    refine r_sipush (v := nI 999) dX2_goesToIt_13 (by decide +kernel) ?_
    refine r_aload_n 0 dX2_goesToIt_16 rfl rfl rfl ?_
    refine r_getr (k := 3) (b := (b + 3)) dX2_goesToIt_17 hl.s0 rfl (by decide) (Or.inl q224) (Or.inl rfl) rfl hl.r_water ?_
    refine r_iload_n 1 dX2_goesToIt_20 rfl rfl ?_
    refine r_ialdN (p) dX2_goesToIt_21 hl.s3 rfl (by omega) (by decide) ?_
    refine r_eqi (show _ = (pv r p 3) from LG_r3 (by omega)) ?_
    refine r_aload_n 0 dX2_goesToIt_22 rfl rfl rfl ?_
    refine r_getr (k := 1) (b := (b + 1)) dX2_goesToIt_23 hl.s0 rfl (by decide) (Or.inl q220) (Or.inl rfl) rfl hl.r_person ?_
    refine r_iload_n 1 dX2_goesToIt_26 rfl rfl ?_
    refine r_aaldN (p) (b := a) dX2_goesToIt_27 hl.s1 (by decide) rfl (by omega) (by decide) ha (by have := pa.1; omega) ?_
    refine r_bucket_X2_124 rfl dX2_goesToIt_28 (pa.ext (LG_ext hb)) (Nat.le_of_ble_eq_true rfl) ?_
    refine r_iadd dX2_goesToIt_31 ?_
    refine r_mmin dX2_goesToIt_32 kX2_75 kM_smin kM_I kM_cmin (Nat.le_of_ble_eq_true rfl) ?_
    refine r_eqi (show _ = (heldV (pv r p 3 + (fillV k9 (pv r p 1))) 0 999) from e1) ?_
    refine r_iastN (p) dX2_goesToIt_35 hl.s3 rfl (by omega) (by decide) ?_
    refine gG_h (LG_w3 (by omega)) ?_
    refine r_goto 44 dX2_goesToIt_36 (by decide) ?_
    refine e_vret dX2_goesToIt_44 rfl ?_
    exact ⟨rfl, _, rfl⟩
theorem L_drinks {d : Nat} {h : Hp} {b : Nat} (hl : LayL (hS h) (hR h) b) (hb : 21 ≤ b ∧ b + 10 < 78) {p : Nat} {g : Row} {r : Row} {t : Int32} (hn : r 2 = nI (np r)) (hn8 : np r ≤ 8) (lw : LW h b r) (Vr : RowV r) (K : RowK r) (hp : p < np r) : gC (d + 406) (0) (0) m_X2_drinks [.ref b, .int (nI p)] (LG h b r t g) (RL (none) h b (drR r p) t) := by
  refine gC.of (ls := [some (.ref b), some (.int (nI p)), none]) (by decide +kernel) rfl rfl rfl rfl (Nat.le_of_ble_eq_true rfl) ?_
  obtain ⟨a, k9, ha, hk9, pa⟩ := lw.one (p := p) hp hn8
  have h79 := pa.2.2.2.1
  obtain ⟨q9, m9, hq9, hq7, hm, hm9⟩ := K p (by omega)
  obtain ⟨x, hx, hx9⟩ := Vr.1 p (by omega)
  obtain ⟨D, hD, eD⟩ := drink_n k9 h79
  obtain ⟨y, hy, hy9⟩ := Vr.2.1 p (by omega)
  rcases Nat.lt_or_ge x D with c9 | c9
  · skip
    have c9 : x < D := c9
    have hc : pv r p 3 - drinkV k9 < 0 := by rw [hx, eD]; exact neg_sub (by omega) (by omega) c9
    rw [drR_1 hk9 h79 hc]
    have e1 : (if nI 0 < drinkV k9 - pv r p 3 then drinkV k9 - pv r p 3 else nI 0) = nI (D - x) := by rw [hx, eD]; exact mmax0 (by omega) (by omega) (by omega)
    have e2 : (if nI 0 < pv r p 3 - drinkV k9 then pv r p 3 - drinkV k9 else nI 0) = nI 0 := by rw [hx, eD]; exact mmaxN (by omega) (by omega) (by omega)
    have e3 : (if pv (spv r p 3 (nI 0)) p 4 + nI (D - x) < nI 99 then pv (spv r p 3 (nI 0)) p 4 + nI (D - x) else nI 99) = heldV (pv (spv r p 3 0) p 4 - (pv r p 3 - drinkV k9)) 0 99 := by rw [show spv r p 3 (0 : Int32) = spv r p 3 (nI 0) from rfl, pv_spv (by omega) (by omega) (by omega), hy, hx, eD, sub_sub_n c9, nI_add, mmin_n (by omega) (by omega)]; rfl
    refine r_iconst (v := nI 0) dX2_drinks_0 rfl ?_
    refine r_aload_n 0 dX2_drinks_1 rfl rfl rfl ?_
    refine r_getr (k := 1) (b := (b + 1)) dX2_drinks_2 hl.s0 rfl (by decide) (Or.inl q220) (Or.inl rfl) rfl hl.r_person ?_
    refine r_iload_n 1 dX2_drinks_5 rfl rfl ?_
    refine r_aaldN (p) (b := a) dX2_drinks_6 hl.s1 (by decide) rfl (by omega) (by decide) ha (by have := pa.1; omega) ?_
    refine r_drinks_X2_132 rfl dX2_drinks_7 (pa.ext (LG_ext hb)) (Nat.le_of_ble_eq_true rfl) ?_
    refine r_aload_n 0 dX2_drinks_10 rfl rfl rfl ?_
    refine r_getr (k := 3) (b := (b + 3)) dX2_drinks_11 hl.s0 rfl (by decide) (Or.inl q224) (Or.inl rfl) rfl hl.r_water ?_
    refine r_iload_n 1 dX2_drinks_14 rfl rfl ?_
    refine r_ialdN (p) dX2_drinks_15 hl.s3 rfl (by omega) (by decide) ?_
    refine r_eqi (show _ = (pv r p 3) from LG_r3 (by omega)) ?_
    refine r_isub dX2_drinks_16 ?_
    refine r_mmax dX2_drinks_17 kX2_81 kM_smax kM_I kM_cmax (Nat.le_of_ble_eq_true rfl) ?_
    refine r_eqi (show _ = nI ((D - x)) from e1) ?_
    refine r_istore_n 2 dX2_drinks_20 rfl (by decide) rfl ?_
    refine gG_ls (ls' := [_, _, _]) rfl ?_
    refine r_aload_n 0 dX2_drinks_21 rfl rfl rfl ?_
    refine r_getr (k := 3) (b := (b + 3)) dX2_drinks_22 hl.s0 rfl (by decide) (Or.inl q224) (Or.inl rfl) rfl hl.r_water ?_
    refine r_iload_n 1 dX2_drinks_25 rfl rfl ?_
    refine r_iconst (v := nI 0) dX2_drinks_26 rfl ?_
    refine r_aload_n 0 dX2_drinks_27 rfl rfl rfl ?_
    refine r_getr (k := 3) (b := (b + 3)) dX2_drinks_28 hl.s0 rfl (by decide) (Or.inl q224) (Or.inl rfl) rfl hl.r_water ?_
    refine r_iload_n 1 dX2_drinks_31 rfl rfl ?_
    refine r_ialdN (p) dX2_drinks_32 hl.s3 rfl (by omega) (by decide) ?_
    refine r_eqi (show _ = (pv r p 3) from LG_r3 (by omega)) ?_
    refine r_aload_n 0 dX2_drinks_33 rfl rfl rfl ?_
    refine r_getr (k := 1) (b := (b + 1)) dX2_drinks_34 hl.s0 rfl (by decide) (Or.inl q220) (Or.inl rfl) rfl hl.r_person ?_
    refine r_iload_n 1 dX2_drinks_37 rfl rfl ?_
    refine r_aaldN (p) (b := a) dX2_drinks_38 hl.s1 (by decide) rfl (by omega) (by decide) ha (by have := pa.1; omega) ?_
    refine r_drinks_X2_132 rfl dX2_drinks_39 (pa.ext (LG_ext hb)) (Nat.le_of_ble_eq_true rfl) ?_
    refine r_isub dX2_drinks_42 ?_
    refine r_mmax dX2_drinks_43 kX2_81 kM_smax kM_I kM_cmax (Nat.le_of_ble_eq_true rfl) ?_
    refine r_eqi (show _ = nI 0 from e2) ?_
    refine r_iastN (p) dX2_drinks_46 hl.s3 rfl (by omega) (by decide) ?_
    refine gG_h (LG_w3 (by omega)) ?_
    refine r_aload_n 0 dX2_drinks_47 rfl rfl rfl ?_
    refine r_getr (k := 4) (b := (b + 4)) dX2_drinks_48 hl.s0 rfl (by decide) (Or.inl q226) (Or.inl rfl) rfl hl.r_thirst ?_
    refine r_iload_n 1 dX2_drinks_51 rfl rfl ?_
    refine r_iload_n 2 dX2_drinks_52 rfl rfl ?_
    refine r_if_le 72 dX2_drinks_53 (by decide) (fun c_53 => ?_) (fun c_53 => ?_)
    · skip
      have n_53 : (D - x) = 0 := n_le0 (by omega) c_53
      exact absurd n_53 (by omega)
    · skip
      have n_53 : 0 < (D - x) := n_le0n (by omega) c_53
      refine r_bipush (v := nI 99) dX2_drinks_56 (by decide +kernel) ?_
      refine r_aload_n 0 dX2_drinks_58 rfl rfl rfl ?_
      refine r_getr (k := 4) (b := (b + 4)) dX2_drinks_59 hl.s0 rfl (by decide) (Or.inl q226) (Or.inl rfl) rfl hl.r_thirst ?_
      refine r_iload_n 1 dX2_drinks_62 rfl rfl ?_
      refine r_ialdN (p) dX2_drinks_63 hl.s4 rfl (by omega) (by decide) ?_
      refine r_eqi (show _ = (pv (spv r p 3 (nI 0)) p 4) from LG_r4 (by omega)) ?_
      refine r_iload_n 2 dX2_drinks_64 rfl rfl ?_
      refine r_iadd dX2_drinks_65 ?_
      refine r_mmin dX2_drinks_66 kX2_75 kM_smin kM_I kM_cmin (Nat.le_of_ble_eq_true rfl) ?_
      refine r_eqi (show _ = (heldV (pv (spv r p 3 0) p 4 - (pv r p 3 - drinkV k9)) 0 99) from e3) ?_
      refine r_goto 73 dX2_drinks_69 (by decide) ?_
      refine r_iastN (p) dX2_drinks_73 hl.s4 rfl (by omega) (by decide) ?_
      refine gG_h (LG_w4 (by omega)) ?_
      refine e_vret dX2_drinks_74 rfl ?_
      exact ⟨rfl, _, rfl⟩
  · skip
    have c9 : D ≤ x := c9
    have ee : pv r p 3 - drinkV k9 = nI (x - D) := by rw [hx, eD, nI_sub c9]
    have hc : ¬ pv r p 3 - drinkV k9 < 0 := by rw [ee]; exact nI_pos (by omega)
    rw [drR_2 hk9 h79 hc]
    have e1 : (if nI 0 < drinkV k9 - pv r p 3 then drinkV k9 - pv r p 3 else nI 0) = nI 0 := by rw [hx, eD]; exact mmaxN (by omega) (by omega) (by omega)
    have e2 : (if nI 0 < pv r p 3 - drinkV k9 then pv r p 3 - drinkV k9 else nI 0) = pv r p 3 - drinkV k9 := by rw [hx, eD, mmax0 (by omega) (by omega) c9, nI_sub c9]
    refine r_iconst (v := nI 0) dX2_drinks_0 rfl ?_
    refine r_aload_n 0 dX2_drinks_1 rfl rfl rfl ?_
    refine r_getr (k := 1) (b := (b + 1)) dX2_drinks_2 hl.s0 rfl (by decide) (Or.inl q220) (Or.inl rfl) rfl hl.r_person ?_
    refine r_iload_n 1 dX2_drinks_5 rfl rfl ?_
    refine r_aaldN (p) (b := a) dX2_drinks_6 hl.s1 (by decide) rfl (by omega) (by decide) ha (by have := pa.1; omega) ?_
    refine r_drinks_X2_132 rfl dX2_drinks_7 (pa.ext (LG_ext hb)) (Nat.le_of_ble_eq_true rfl) ?_
    refine r_aload_n 0 dX2_drinks_10 rfl rfl rfl ?_
    refine r_getr (k := 3) (b := (b + 3)) dX2_drinks_11 hl.s0 rfl (by decide) (Or.inl q224) (Or.inl rfl) rfl hl.r_water ?_
    refine r_iload_n 1 dX2_drinks_14 rfl rfl ?_
    refine r_ialdN (p) dX2_drinks_15 hl.s3 rfl (by omega) (by decide) ?_
    refine r_eqi (show _ = (pv r p 3) from LG_r3 (by omega)) ?_
    refine r_isub dX2_drinks_16 ?_
    refine r_mmax dX2_drinks_17 kX2_81 kM_smax kM_I kM_cmax (Nat.le_of_ble_eq_true rfl) ?_
    refine r_eqi (show _ = nI 0 from e1) ?_
    refine r_istore_n 2 dX2_drinks_20 rfl (by decide) rfl ?_
    refine gG_ls (ls' := [_, _, _]) rfl ?_
    refine r_aload_n 0 dX2_drinks_21 rfl rfl rfl ?_
    refine r_getr (k := 3) (b := (b + 3)) dX2_drinks_22 hl.s0 rfl (by decide) (Or.inl q224) (Or.inl rfl) rfl hl.r_water ?_
    refine r_iload_n 1 dX2_drinks_25 rfl rfl ?_
    refine r_iconst (v := nI 0) dX2_drinks_26 rfl ?_
    refine r_aload_n 0 dX2_drinks_27 rfl rfl rfl ?_
    refine r_getr (k := 3) (b := (b + 3)) dX2_drinks_28 hl.s0 rfl (by decide) (Or.inl q224) (Or.inl rfl) rfl hl.r_water ?_
    refine r_iload_n 1 dX2_drinks_31 rfl rfl ?_
    refine r_ialdN (p) dX2_drinks_32 hl.s3 rfl (by omega) (by decide) ?_
    refine r_eqi (show _ = (pv r p 3) from LG_r3 (by omega)) ?_
    refine r_aload_n 0 dX2_drinks_33 rfl rfl rfl ?_
    refine r_getr (k := 1) (b := (b + 1)) dX2_drinks_34 hl.s0 rfl (by decide) (Or.inl q220) (Or.inl rfl) rfl hl.r_person ?_
    refine r_iload_n 1 dX2_drinks_37 rfl rfl ?_
    refine r_aaldN (p) (b := a) dX2_drinks_38 hl.s1 (by decide) rfl (by omega) (by decide) ha (by have := pa.1; omega) ?_
    refine r_drinks_X2_132 rfl dX2_drinks_39 (pa.ext (LG_ext hb)) (Nat.le_of_ble_eq_true rfl) ?_
    refine r_isub dX2_drinks_42 ?_
    refine r_mmax dX2_drinks_43 kX2_81 kM_smax kM_I kM_cmax (Nat.le_of_ble_eq_true rfl) ?_
    refine r_eqi (show _ = (pv r p 3 - drinkV k9) from e2) ?_
    refine r_iastN (p) dX2_drinks_46 hl.s3 rfl (by omega) (by decide) ?_
    refine gG_h (LG_w3 (by omega)) ?_
    refine r_aload_n 0 dX2_drinks_47 rfl rfl rfl ?_
    refine r_getr (k := 4) (b := (b + 4)) dX2_drinks_48 hl.s0 rfl (by decide) (Or.inl q226) (Or.inl rfl) rfl hl.r_thirst ?_
    refine r_iload_n 1 dX2_drinks_51 rfl rfl ?_
    refine r_iload_n 2 dX2_drinks_52 rfl rfl ?_
    refine r_if_le 72 dX2_drinks_53 (by decide) (fun c_53 => ?_) (fun c_53 => ?_)
    · skip
      have n_53 : 0 = 0 := n_le0 (by omega) c_53
      refine r_iconst (v := nI 0) dX2_drinks_72 rfl ?_
      refine r_iastN (p) dX2_drinks_73 hl.s4 rfl (by omega) (by decide) ?_
      refine gG_h (LG_w4 (by omega)) ?_
      refine e_vret dX2_drinks_74 rfl ?_
      exact ⟨rfl, _, rfl⟩
    · skip
      have n_53 : 0 < 0 := n_le0n (by omega) c_53
      exact absurd n_53 (by decide)
theorem L_pass_L1 {d : Nat} {h : Hp} {b : Nat} (hl : LayL (hS h) (hR h) b) (hb : 21 ≤ b ∧ b + 10 < 78)  {r : Row} {t : Int32} (hn : r 2 = nI (np r)) (hn8 : np r ≤ 8) (lw : LW h b r) (Vr : RowV r) (K : RowK r) {Q : gQ} : ∀ (k i : Nat) (g : Row), i ≤ np r → np r + 1 ≤ i + k → (∀ (g9 : Row), gG (d + 407) (0) (0) m_X2_passes 21 [some (.ref b), some (.int (nI (np r)))] [] (LG h b (goAll r t (np r)) t g9) (Q)) → gG (d + 407) (0) (0) m_X2_passes 2 [some (.ref b), some (.int (nI i))] [] (LG h b (goAll r t (i)) t g) (Q) := by
  intro k
  induction k with
  | zero => exact fun i g h1 h2 => absurd h2 (by omega)
  | succ k ih =>
  intro i g hi hk kk
  have hRS : RS r (goAll r t i) := goAll_RS hn8 i (by omega)
  have hV := goAll_V (mn := t) Vr K hn8 i (by omega)
  have hn1 : goAll r t i 2 = nI (np (goAll r t i)) := by rw [hRS.npe]; exact hRS.two.trans hn
  refine r_iload_n 1 dX2_passes_2 rfl rfl ?_
  refine r_aload_n 0 dX2_passes_3 rfl rfl rfl ?_
  refine r_geti (k := 0) dX2_passes_4 hl.s0 rfl (by decide) (Or.inl q218) (Or.inl rfl) rfl ?_
  refine r_eqi (show _ = nI ((np r)) from ((LG_r0 (k := 0) (i := 2) rfl).trans (hRS.two.trans hn))) ?_
  refine r_icmp_ge 21 dX2_passes_7 (by decide) (fun c_7 => ?_) (fun c_7 => ?_)
  · skip
    have n_7 : (np r) ≤ i := n_ge (by omega) (by omega) c_7
    have hin : i = np r := by omega
    subst hin
    exact kk _
  · skip
    have n_7 : i < (np r) := n_gen (by omega) (by omega) c_7
    refine r_aload_n 0 dX2_passes_10 rfl rfl rfl ?_
    refine r_iload_n 1 dX2_passes_11 rfl rfl ?_
    refine r_callV_0l dX2_passes_12 kX2_135 (L_goesToIt (p := i) hl hb hn1 (by rw [hRS.npe]; exact hn8) (lw.rt (RT.of hRS)) hV (hRS.K K) (by rw [hRS.npe]; omega)) (gRecv.of hl.s0 rfl) rfl rfl (Nat.le_of_ble_eq_true rfl) (fun g_1 => ?_)
    refine r_iinc dX2_passes_15 rfl (by decide) rfl ?_
    refine gG_ls (ls' := [_, some (.int (nI ((i + 1))))]) (by rw [show (Int32.ofInt 1) = nI 1 from rfl, nI_add]; rfl) ?_
    refine r_goto 2 dX2_passes_18 (by decide) ?_
    exact ih (i + 1) _ (by omega) (by omega) kk
theorem L_pass_L2 {d : Nat} {h : Hp} {b : Nat} (hl : LayL (hS h) (hR h) b) (hb : 21 ≤ b ∧ b + 10 < 78)  {r : Row} {t : Int32} (hn : r 2 = nI (np r)) (hn8 : np r ≤ 8) (lw : LW h b r) (Vr : RowV r) (K : RowK r) {Q : gQ} : ∀ (k i : Nat) (g : Row), i ≤ np r → np r + 1 ≤ i + k → (∀ (g9 : Row), gG (d + 407) (0) (0) m_X2_passes 42 [some (.ref b), some (.int (nI (np r)))] [] (LG h b (drAll r (np r)) t g9) (Q)) → gG (d + 407) (0) (0) m_X2_passes 23 [some (.ref b), some (.int (nI i))] [] (LG h b (drAll r (i)) t g) (Q) := by
  intro k
  induction k with
  | zero => exact fun i g h1 h2 => absurd h2 (by omega)
  | succ k ih =>
  intro i g hi hk kk
  have hRS : RS r (drAll r i) := drAll_RS i (by omega)
  have hV := drAll_V Vr K i (by omega)
  have hn1 : drAll r i 2 = nI (np (drAll r i)) := by rw [hRS.npe]; exact hRS.two.trans hn
  refine r_iload_n 1 dX2_passes_23 rfl rfl ?_
  refine r_aload_n 0 dX2_passes_24 rfl rfl rfl ?_
  refine r_geti (k := 0) dX2_passes_25 hl.s0 rfl (by decide) (Or.inl q218) (Or.inl rfl) rfl ?_
  refine r_eqi (show _ = nI ((np r)) from ((LG_r0 (k := 0) (i := 2) rfl).trans (hRS.two.trans hn))) ?_
  refine r_icmp_ge 42 dX2_passes_28 (by decide) (fun c_28 => ?_) (fun c_28 => ?_)
  · skip
    have n_28 : (np r) ≤ i := n_ge (by omega) (by omega) c_28
    have hin : i = np r := by omega
    subst hin
    exact kk _
  · skip
    have n_28 : i < (np r) := n_gen (by omega) (by omega) c_28
    refine r_aload_n 0 dX2_passes_31 rfl rfl rfl ?_
    refine r_iload_n 1 dX2_passes_32 rfl rfl ?_
    refine r_callV_0l dX2_passes_33 kX2_138 (L_drinks (p := i) hl hb hn1 (by rw [hRS.npe]; exact hn8) (lw.rt (RT.of hRS)) hV (hRS.K K) (by rw [hRS.npe]; omega)) (gRecv.of hl.s0 rfl) rfl rfl (Nat.le_of_ble_eq_true rfl) (fun g_1 => ?_)
    refine r_iinc dX2_passes_36 rfl (by decide) rfl ?_
    refine gG_ls (ls' := [_, some (.int (nI ((i + 1))))]) (by rw [show (Int32.ofInt 1) = nI 1 from rfl, nI_add]; rfl) ?_
    refine r_goto 23 dX2_passes_39 (by decide) ?_
    exact ih (i + 1) _ (by omega) (by omega) kk
theorem L_passes {d : Nat} {h : Hp} {b : Nat} (hl : LayL (hS h) (hR h) b) (hb : 21 ≤ b ∧ b + 10 < 78) {g : Row} {r : Row} {t : Int32} (hn : r 2 = nI (np r)) (hn8 : np r ≤ 8) (lw : LW h b r) (Vr : RowV r) (K : RowK r) : gC (d + 407) (0) (0) m_X2_passes [.ref b] (LG h b r t g) (RL (none) h b (dayR r t) t) := by
  have hRS : RS r (goAll r t (np r)) := goAll_RS hn8 (np r) hn8
  have hV := goAll_V (mn := t) Vr K hn8 (np r) hn8
  refine gC.of (ls := [some (.ref b), none]) (by decide +kernel) rfl rfl rfl rfl (Nat.le_of_ble_eq_true rfl) ?_
  refine r_iconst (v := nI 0) dX2_passes_0 rfl ?_
  refine r_istore_n 1 dX2_passes_1 rfl (by decide) rfl ?_
  refine gG_ls (ls' := [_, _]) rfl ?_
  refine L_pass_L1 hl hb hn hn8 lw Vr K (np r + 1) 0 _ (by omega) (by omega) (fun g_8 => ?_)
  refine r_iconst (v := nI 0) dX2_passes_21 rfl ?_
  refine r_istore_n 1 dX2_passes_22 rfl (by decide) rfl ?_
  refine gG_ls (ls' := [_, _]) rfl ?_
  have h9 := L_pass_L2 hl hb (r := (goAll r t (np r))) (t := t) (d := d) (by rw [hRS.npe]; exact hRS.two.trans hn) (by rw [hRS.npe]; exact hn8) (lw.rt (RT.of hRS)) hV (hRS.K K) (Q := RL (none) h b (dayR r t) t)
  rw [hRS.npe] at h9
  refine h9 (np r + 1) 0 _ (by omega) (by omega) (fun g_9 => ?_)
  refine r_aload_n 0 dX2_passes_42 rfl rfl rfl ?_
  refine r_dup dX2_passes_43 rfl ?_
  refine r_geti (k := 6) dX2_passes_44 hl.s0 rfl (by decide) (Or.inl q230) (Or.inl rfl) rfl ?_
  refine r_eqi (show _ = ((drAll (goAll r t (np r)) (np r)) 0) from (LG_r0 (k := 6) (i := 0) rfl)) ?_
  refine r_iconst (v := nI 1) dX2_passes_47 rfl ?_
  refine r_iadd dX2_passes_48 ?_
  refine r_puti (k := 6) dX2_passes_49 hl.s0 rfl (by decide) (Or.inl q230) (Or.inl rfl) (Or.inl rfl) rfl rfl rfl ?_
  refine gG_h (LG_w0 (k := 6) (i := 0) rfl) ?_
  refine e_vret dX2_passes_52 rfl ?_
  exact ⟨rfl, _, rfl⟩
theorem L_goes_L {d : Nat} {h : Hp} {b : Nat} (hl : LayL (hS h) (hR h) b) (hb : 21 ≤ b ∧ b + 10 < 78)  {r : Row} {t : Int32} (hn : r 2 = nI (np r)) (hn8 : np r ≤ 8) (lw : LW h b r) (Vr : RowV r) (K : RowK r) {n : Nat} (hq : n < 2147483648) {Q : gQ} : ∀ (k i : Nat) (g : Row), i ≤ n → n + 1 ≤ i + k → (∀ (g9 : Row), gG (d + 408) (0) (0) m_X2_goes 17 [some (.ref b), some (.int (nI n)), some (.int (nI n))] [] (LG h b (passR r t (n)) t g9) (Q)) → gG (d + 408) (0) (0) m_X2_goes 2 [some (.ref b), some (.int (nI n)), some (.int (nI i))] [] (LG h b (passR r t (i)) t g) (Q) := by
  intro k
  induction k with
  | zero => exact fun i g h1 h2 => absurd h2 (by omega)
  | succ k ih =>
  intro i g hi hk kk
  have hRS : RS r (passR r t i) := passR_RS hn8 i
  have hV := passR_V (mn := t) Vr K hn8 i
  have hn1 : passR r t i 2 = nI (np (passR r t i)) := by rw [hRS.npe]; exact hRS.two.trans hn
  refine r_iload_n 2 dX2_goes_2 rfl rfl ?_
  refine r_iload_n 1 dX2_goes_3 rfl rfl ?_
  refine r_icmp_ge 17 dX2_goes_4 (by decide) (fun c_4 => ?_) (fun c_4 => ?_)
  · skip
    have n_4 : n ≤ i := n_ge (by omega) (by omega) c_4
    have hin : i = n := by omega
    subst hin
    exact kk _
  · skip
    have n_4 : i < n := n_gen (by omega) (by omega) c_4
    refine r_aload_n 0 dX2_goes_7 rfl rfl rfl ?_
    refine r_callV_0l dX2_goes_8 kX2_140 (L_passes hl hb hn1 (by rw [hRS.npe]; exact hn8) (lw.rt (RT.of hRS)) hV (hRS.K K)) (gRecv.of hl.s0 rfl) rfl rfl (Nat.le_of_ble_eq_true rfl) (fun g_1 => ?_)
    refine r_iinc dX2_goes_11 rfl (by decide) rfl ?_
    refine gG_ls (ls' := [_, _, some (.int (nI ((i + 1))))]) (by rw [show (Int32.ofInt 1) = nI 1 from rfl, nI_add]; rfl) ?_
    refine r_goto 2 dX2_goes_14 (by decide) ?_
    exact ih (i + 1) _ (by omega) (by omega) kk
theorem L_goes {d : Nat} {h : Hp} {b : Nat} (hl : LayL (hS h) (hR h) b) (hb : 21 ≤ b ∧ b + 10 < 78) {g : Row} {r : Row} {t : Int32} (hn : r 2 = nI (np r)) (hn8 : np r ≤ 8) (lw : LW h b r) (Vr : RowV r) (K : RowK r) {n : Nat} (hq : n < 2147483648) : gC (d + 408) (0) (0) m_X2_goes [.ref b, .int (nI n)] (LG h b r t g) (RL (some (.ref b)) h b (passR r t n) t) := by
  refine gC.of (ls := [some (.ref b), some (.int (nI n)), none]) (by decide +kernel) rfl rfl rfl rfl (Nat.le_of_ble_eq_true rfl) ?_
  refine r_iconst (v := nI 0) dX2_goes_0 rfl ?_
  refine r_istore_n 2 dX2_goes_1 rfl (by decide) rfl ?_
  refine gG_ls (ls' := [_, _, _]) rfl ?_
  refine L_goes_L hl hb hn hn8 lw Vr K hq (n + 1) 0 _ (by omega) (by omega) (fun g_8 => ?_)
  refine r_aload_n 0 dX2_goes_17 rfl rfl rfl ?_
  refine e_aret dX2_goes_18 rfl (Or.inl ⟨_, rfl⟩) rfl ?_
  exact ⟨rfl, _, rfl⟩
theorem L_draw {d : Nat} {h : Hp} {b : Nat} (hl : LayL (hS h) (hR h) b) (hb : 21 ≤ b ∧ b + 10 < 78)  {r g : Row} {t : Int32} : gC (d) (0) (0) m_X2_draw [.ref b] (LG h b r t g) (Ret (some (.int (dwV (zN (r 1))))) (LG h b (ru r 1 (zN (r 1))) t g)) := by
  refine gC.of (ls := [some (.ref b)]) (by decide +kernel) rfl rfl rfl rfl (Nat.le_of_ble_eq_true rfl) ?_
  refine r_aload_n 0 dX2_draw_0 rfl rfl rfl ?_
  refine r_aload_n 0 dX2_draw_1 rfl rfl rfl ?_
  refine r_geti (k := 9) dX2_draw_2 hl.s0 rfl (by decide) (Or.inl q236) (Or.inl rfl) rfl ?_
  refine r_eqi (show _ = (r 1) from (LG_r0 (k := 9) (i := 1) rfl)) ?_
  refine r_ldc (v := 1103515245) dX2_draw_5 q942 ?_
  refine r_imul dX2_draw_7 ?_
  refine r_sipush (v := nI 12345) dX2_draw_8 (by decide +kernel) ?_
  refine r_iadd dX2_draw_11 ?_
  refine r_puti (k := 9) dX2_draw_12 hl.s0 rfl (by decide) (Or.inl q236) (Or.inl rfl) (Or.inl rfl) rfl rfl rfl ?_
  refine gG_h (LG_w0 (k := 9) (i := 1) rfl) ?_
  refine r_aload_n 0 dX2_draw_15 rfl rfl rfl ?_
  refine r_geti (k := 9) dX2_draw_16 hl.s0 rfl (by decide) (Or.inl q236) (Or.inl rfl) rfl ?_
  refine r_eqi (show _ = (zN (r 1)) from (LG_r0 (k := 9) (i := 1) rfl)) ?_
  refine r_bipush (v := nI 8) dX2_draw_19 (by decide +kernel) ?_
  refine r_iushr dX2_draw_21 ?_
  refine e_iret dX2_draw_22 rfl ?_
  exact ⟨rfl, rfl⟩
theorem L_loose_L {d : Nat} {h : Hp} {b : Nat} (hl : LayL (hS h) (hR h) b) (hb : 21 ≤ b ∧ b + 10 < 78)  {r : Row} {t : Int32} (hn : r 2 = nI (np r)) (hn8 : np r ≤ 8) {Q : gQ} : ∀ (k i : Nat) (y : Option Value) (g : Row), i ≤ np r → np r + 1 ≤ i + k → (∀ (y : Option Value) (g9 : Row), gG (d + 1) (0) (0) m_X2_goesLoose 49 [some (.ref b), some (.int (nI (np r))), y] [] (LG h b (looR r (np r)) t g9) (Q)) → gG (d + 1) (0) (0) m_X2_goesLoose 2 [some (.ref b), some (.int (nI i)), y] [] (LG h b (looR r (i)) t g) (Q) := by
  intro k
  induction k with
  | zero => exact fun i y g h1 h2 => absurd h2 (by omega)
  | succ k ih =>
  intro i y g hi hk kk
  have hT : RT r (looR r i) := looR_T i (by omega)
  refine r_iload_n 1 dX2_goesLoose_2 rfl rfl ?_
  refine r_aload_n 0 dX2_goesLoose_3 rfl rfl rfl ?_
  refine r_geti (k := 0) dX2_goesLoose_4 hl.s0 rfl (by decide) (Or.inl q218) (Or.inl rfl) rfl ?_
  refine r_eqi (show _ = nI ((np r)) from ((LG_r0 (k := 0) (i := 2) rfl).trans (hT.two.trans hn))) ?_
  refine r_icmp_ge 49 dX2_goesLoose_7 (by decide) (fun c_7 => ?_) (fun c_7 => ?_)
  · skip
    have n_7 : (np r) ≤ i := n_ge (by omega) (by omega) c_7
    have hin : i = np r := by omega
    subst hin
    exact kk _ _
  · skip
    have n_7 : i < (np r) := n_gen (by omega) (by omega) c_7
    refine r_aload_n 0 dX2_goesLoose_10 rfl rfl rfl ?_
    refine r_callV_1 dX2_goesLoose_11 kX2_144 (L_draw hl hb) (gRecv.of hl.s0 rfl) rfl rfl (Nat.le_of_ble_eq_true rfl) ?_
    refine r_istore_n 2 dX2_goesLoose_14 rfl (by decide) rfl ?_
    refine gG_ls (ls' := [_, _, _]) rfl ?_
    refine r_aload_n 0 dX2_goesLoose_15 rfl rfl rfl ?_
    refine r_getr (k := 2) (b := (b + 2)) dX2_goesLoose_16 hl.s0 rfl (by decide) (Or.inl q222) (Or.inl rfl) rfl hl.r_traits ?_
    refine r_iload_n 1 dX2_goesLoose_19 rfl rfl ?_
    refine r_dup2 dX2_goesLoose_20 rfl rfl ?_
    refine r_ialdN (i) dX2_goesLoose_21 hl.s2 rfl (by omega) (by decide) ?_
    refine r_eqi (show _ = (pv (ru (looR r i) 1 (zN (looR r i 1))) i 2) from LG_r2 (by omega)) ?_
    refine r_iload_n 2 dX2_goesLoose_22 rfl rfl ?_
    refine r_bipush (v := nI 8) dX2_goesLoose_23 (by decide +kernel) ?_
    refine r_irem dX2_goesLoose_25 (by decide) ?_
    refine r_if_ne 40 dX2_goesLoose_26 (by decide) (fun c_26 => ?_) (fun c_26 => ?_)
    · skip
      refine r_iconst (v := nI 0) dX2_goesLoose_40 rfl ?_
      refine r_ixor dX2_goesLoose_41 ?_
      refine r_eqi (show _ = (looV (zN (looR r i 1)) (pv (ru (looR r i) 1 (zN (looR r i 1))) i 2)) from (Int32.xor_zero.trans (looV_f c_26).symm)) ?_
      refine r_iastN (i) dX2_goesLoose_42 hl.s2 rfl (by omega) (by decide) ?_
      refine gG_h (LG_w2 (by omega)) ?_
      refine r_iinc dX2_goesLoose_43 rfl (by decide) rfl ?_
      refine gG_ls (ls' := [_, some (.int (nI ((i + 1)))), _]) (by rw [show (Int32.ofInt 1) = nI 1 from rfl, nI_add]; rfl) ?_
      refine r_goto 2 dX2_goesLoose_46 (by decide) ?_
      exact ih (i + 1) _ _ (by omega) (by omega) kk
    · skip
      refine r_iconst (v := nI 1) dX2_goesLoose_29 rfl ?_
      refine r_iload_n 2 dX2_goesLoose_30 rfl rfl ?_
      refine r_bipush (v := nI 8) dX2_goesLoose_31 (by decide +kernel) ?_
      refine r_idiv dX2_goesLoose_33 (by decide) ?_
      refine r_iconst (v := nI 4) dX2_goesLoose_34 rfl ?_
      refine r_irem dX2_goesLoose_35 (by decide) ?_
      refine r_ishl dX2_goesLoose_36 ?_
      refine r_goto 41 dX2_goesLoose_37 (by decide) ?_
      refine r_ixor dX2_goesLoose_41 ?_
      refine r_eqi (show _ = (looV (zN (looR r i 1)) (pv (ru (looR r i) 1 (zN (looR r i 1))) i 2)) from (looV_t c_26).symm) ?_
      refine r_iastN (i) dX2_goesLoose_42 hl.s2 rfl (by omega) (by decide) ?_
      refine gG_h (LG_w2 (by omega)) ?_
      refine r_iinc dX2_goesLoose_43 rfl (by decide) rfl ?_
      refine gG_ls (ls' := [_, some (.int (nI ((i + 1)))), _]) (by rw [show (Int32.ofInt 1) = nI 1 from rfl, nI_add]; rfl) ?_
      refine r_goto 2 dX2_goesLoose_46 (by decide) ?_
      exact ih (i + 1) _ _ (by omega) (by omega) kk
theorem L_goesLoose {d : Nat} {h : Hp} {b : Nat} (hl : LayL (hS h) (hR h) b) (hb : 21 ≤ b ∧ b + 10 < 78) {g : Row} {r : Row} {t : Int32} (hn : r 2 = nI (np r)) (hn8 : np r ≤ 8) (lw : LW h b r) (Vr : RowV r) (K : RowK r) : gC (d + 408) (0) (0) m_X2_goesLoose [.ref b] (LG h b r t g) (RL (none) h b (dayR (looR r (np r)) t) t) := by
  have hT : RT r (looR r (np r)) := looR_T (np r) hn8
  have hV := looR_V Vr (np r) hn8
  refine gC.of (ls := [some (.ref b), none, none]) (by decide +kernel) rfl rfl rfl rfl (Nat.le_of_ble_eq_true rfl) ?_
  refine r_iconst (v := nI 0) dX2_goesLoose_0 rfl ?_
  refine r_istore_n 1 dX2_goesLoose_1 rfl (by decide) rfl ?_
  refine gG_ls (ls' := [_, _, _]) rfl ?_
  refine L_loose_L hl hb hn hn8 (np r + 1) 0 _ _ (by omega) (by omega) (fun y g_8 => ?_)
  refine r_aload_n 0 dX2_goesLoose_49 rfl rfl rfl ?_
  refine r_callV_0l dX2_goesLoose_50 kX2_140 (L_passes hl hb (by rw [hT.npe]; exact hT.two.trans hn) (by rw [hT.npe]; exact hn8) (lw.rt hT) hV (hT.K K)) (gRecv.of hl.s0 rfl) rfl rfl (Nat.le_of_ble_eq_true rfl) (fun g_1 => ?_)
  refine e_vret dX2_goesLoose_53 rfl ?_
  exact ⟨rfl, _, rfl⟩
theorem L_sumOf_L {d : Nat} {h : Hp} {A M9 n : Nat} {f : Nat → Int32} (hs : hS h A = .inr (0, M9)) (hnM : n ≤ M9) (hM : M9 ≤ 1000) (hf : ∀ k, k < n → hI h A k = f k) {Q : gQ} : ∀ (k i : Nat), i ≤ n → n + 1 ≤ i + k → (gG (d) (0) (0) m_X2_sumOf 21 [some (.ref A), some (.int (nI n)), some (.int (sumG f n)), some (.int (nI n))] [] (h) (Q)) → gG (d) (0) (0) m_X2_sumOf 4 [some (.ref A), some (.int (nI n)), some (.int (sumG f i)), some (.int (nI i))] [] (h) (Q) := by
  intro k
  induction k with
  | zero => exact fun i h1 h2 => absurd h2 (by omega)
  | succ k ih =>
  intro i hi hk kk
  refine r_iload_n 3 dX2_sumOf_4 rfl rfl ?_
  refine r_iload_n 1 dX2_sumOf_5 rfl rfl ?_
  refine r_icmp_ge 21 dX2_sumOf_6 (by decide) (fun c_6 => ?_) (fun c_6 => ?_)
  · skip
    have n_6 : n ≤ i := n_ge (by omega) (by omega) c_6
    have hin : i = n := by omega
    subst hin
    exact kk
  · skip
    have n_6 : i < n := n_gen (by omega) (by omega) c_6
    refine r_iload_n 2 dX2_sumOf_9 rfl rfl ?_
    refine r_aload_n 0 dX2_sumOf_10 rfl rfl rfl ?_
    refine r_iload_n 3 dX2_sumOf_11 rfl rfl ?_
    refine r_ialdN (i) dX2_sumOf_12 hs rfl (by omega) (by omega) ?_
    refine r_eqi (show _ = (f i) from hf i (by omega)) ?_
    refine r_iadd dX2_sumOf_13 ?_
    refine r_istore_n 2 dX2_sumOf_14 rfl (by decide) rfl ?_
    refine gG_ls (ls' := [_, _, _, _]) rfl ?_
    refine r_iinc dX2_sumOf_15 rfl (by decide) rfl ?_
    refine gG_ls (ls' := [_, _, _, some (.int (nI ((i + 1))))]) (by rw [show (Int32.ofInt 1) = nI 1 from rfl, nI_add]; rfl) ?_
    refine r_goto 4 dX2_sumOf_18 (by decide) ?_
    exact ih (i + 1) (by omega) (by omega) kk
theorem L_sumOf {d : Nat} {h : Hp} {A M9 n : Nat} {f : Nat → Int32} (hs : hS h A = .inr (0, M9)) (hnM : n ≤ M9) (hM : M9 ≤ 1000) (hf : ∀ k, k < n → hI h A k = f k) : gC (d) (0) (0) m_X2_sumOf [.ref A, .int (nI n)] (h) (Ret (some (.int (sumG f n))) h) := by
  refine gC.of (ls := [some (.ref A), some (.int (nI n)), none, none]) (by decide +kernel) rfl rfl rfl rfl (Nat.le_of_ble_eq_true rfl) ?_
  refine r_iconst (v := nI 0) dX2_sumOf_0 rfl ?_
  refine r_istore_n 2 dX2_sumOf_1 rfl (by decide) rfl ?_
  refine gG_ls (ls' := [_, _, _, _]) rfl ?_
  refine r_iconst (v := nI 0) dX2_sumOf_2 rfl ?_
  refine r_istore_n 3 dX2_sumOf_3 rfl (by decide) rfl ?_
  refine gG_ls (ls' := [_, _, _, _]) rfl ?_
  refine L_sumOf_L hs hnM hM hf (n + 1) 0 (by omega) (by omega) ?_
  refine r_iload_n 2 dX2_sumOf_21 rfl rfl ?_
  refine e_iret dX2_sumOf_22 rfl ?_
  exact ⟨rfl, rfl⟩
theorem L_allWater {d : Nat} {h : Hp} {b : Nat} (hl : LayL (hS h) (hR h) b) (hb : 21 ≤ b ∧ b + 10 < 78) {g : Row} {r : Row} {t : Int32} (hn : r 2 = nI (np r)) (hn8 : np r ≤ 8) : gC (d + 1) (0) (0) m_X2_allWater [.ref b] (LG h b r t g) (Ret (some (.int (sumW r 3 (np r)))) (LG h b r t g)) := by
  refine gC.of (ls := [some (.ref b)]) (by decide +kernel) rfl rfl rfl rfl (Nat.le_of_ble_eq_true rfl) ?_
  refine r_aload_n 0 dX2_allWater_0 rfl rfl rfl ?_
  refine r_getr (k := 3) (b := (b + 3)) dX2_allWater_1 hl.s0 rfl (by decide) (Or.inl q224) (Or.inl rfl) rfl hl.r_water ?_
  refine r_aload_n 0 dX2_allWater_4 rfl rfl rfl ?_
  refine r_geti (k := 0) dX2_allWater_5 hl.s0 rfl (by decide) (Or.inl q218) (Or.inl rfl) rfl ?_
  refine r_eqi (show _ = nI ((np r)) from ((LG_r0 (k := 0) (i := 2) rfl).trans hn)) ?_
  refine r_callS_1 dX2_allWater_8 kX2_157 (L_sumOf (f := fun k => pv r k 3) hl.s3 hn8 (by decide) (fun k hk => LG_r3 (by omega)))  rfl rfl (Nat.le_of_ble_eq_true rfl) ?_
  refine e_iret dX2_allWater_11 rfl ?_
  exact ⟨by rw [sumW_G], rfl⟩
theorem L_allOwed {d : Nat} {h : Hp} {b : Nat} (hl : LayL (hS h) (hR h) b) (hb : 21 ≤ b ∧ b + 10 < 78)  {r g : Row} {t : Int32} : gC (d + 1) (0) (0) m_X2_allOwed [.ref b] (LG h b r t g) (Ret (some (.int (sumD r 64))) (LG h b r t g)) := by
  refine gC.of (ls := [some (.ref b)]) (by decide +kernel) rfl rfl rfl rfl (Nat.le_of_ble_eq_true rfl) ?_
  refine r_aload_n 0 dX2_allOwed_0 rfl rfl rfl ?_
  refine r_getr (k := 5) (b := (b + 5)) dX2_allOwed_1 hl.s0 rfl (by decide) (Or.inl q228) (Or.inl rfl) rfl hl.r_owed ?_
  refine r_bipush (v := nI 64) dX2_allOwed_4 (by decide +kernel) ?_
  refine r_callS_1 dX2_allOwed_6 kX2_157 (L_sumOf (f := fun k => r (47 + k)) hl.s5 (by decide) (by decide) (fun k hk => LG_r5' (by omega)))  rfl rfl (Nat.le_of_ble_eq_true rfl) ?_
  refine e_iret dX2_allOwed_9 rfl ?_
  exact ⟨by rw [sumD_G], rfl⟩
