theorem L_two_in {d : Nat} {h : Hp} {b : Nat} (hl : LayL (hS h) (hR h) b) (hb : 21 ≤ b ∧ b + 10 < 78) {r : Row} {t : Int32} {n : Nat} (hn : r 2 = nI n) (hn8 : n ≤ 8) (D : RowD r) {a : Nat} (ha : a < n) (OUT : (∀ (y2 y3 : Option Value) (g : Row), gG (d + 2) (0) (0) m_X2_strikesTwo 2 [some (.ref b), some (.int (nI (a + 1))), y2, y3] [] (LG h b r t g) (FS h b t r n (fndF (twP r n) (n * n - n * (a + 1)) (n * (a + 1)))))) : ∀ (k e : Nat) (y : Option Value) (g : Row), e + k = n → a < e → gG (d + 2) (0) (0) m_X2_strikesTwo 14 [some (.ref b), some (.int (nI a)), some (.int (nI e)), y] [] (LG h b r t g) (FS h b t r n (fndF (twP r n) (n * n - (n * a + e)) (n * a + e))) := by
  intro k
  induction k with
  | zero =>
    intro e y g he hae
    refine r_iload_n 2 dX2_strikesTwo_14 rfl rfl ?_
    refine r_aload_n 0 dX2_strikesTwo_15 rfl rfl rfl ?_
    refine r_geti (k := 0) dX2_strikesTwo_16 hl.s0 rfl (by decide) (Or.inl q218) (Or.inl rfl) rfl ?_
    refine r_eqi (show _ = nI (n) from ((LG_r0 (k := 0) (i := 2) rfl).trans hn)) ?_
    refine r_icmp_ge 86 dX2_strikesTwo_19 (by decide) (fun c_19 => ?_) (fun c_19 => ?_)
    · skip
      have n_19 : n ≤ e := n_ge (by omega) (by omega) c_19
      refine r_iinc dX2_strikesTwo_86 rfl (by decide) rfl ?_
      refine gG_ls (ls' := [_, some (.int (nI ((a + 1)))), _, _]) (by rw [show (Int32.ofInt 1) = nI 1 from rfl, nI_add]; rfl) ?_
      refine r_goto 2 dX2_strikesTwo_89 (by decide) ?_
      have h9 := OUT (some (.int (nI e))) y g
      rw [show n * (a + 1) = n * a + e from by rw [Nat.mul_succ]; omega] at h9
      exact h9
    · skip
      have n_19 : e < n := n_gen (by omega) (by omega) c_19
      exact absurd n_19 (by omega)
  | succ k ih =>
  intro e y g he hae
  have hen : e < n := by omega
  have hlt := cd_lt ha hen
  obtain ⟨i, hi, hi9⟩ := pos_nI D (show a < 8 by omega) (show e < 8 by omega)
  obtain ⟨j, hj, hj9⟩ := pos_nI D (show e < 8 by omega) (show a < 8 by omega)
  have e1 : (if dv r e a < dv r a e then dv r e a else dv r a e) = nI (min i j) := by rw [hi, hj, Nat.min_comm]; exact minI_n (by omega) (by omega)
  have hmin : minI (dv r a e) (dv r e a) = nI (min i j) := by rw [hi, hj]; exact minI_n (by omega) (by omega)
  rw [show n * n - (n * a + e) = (n * n - (n * a + (e + 1))) + 1 by omega]
  refine r_iload_n 2 dX2_strikesTwo_14 rfl rfl ?_
  refine r_aload_n 0 dX2_strikesTwo_15 rfl rfl rfl ?_
  refine r_geti (k := 0) dX2_strikesTwo_16 hl.s0 rfl (by decide) (Or.inl q218) (Or.inl rfl) rfl ?_
  refine r_eqi (show _ = nI (n) from ((LG_r0 (k := 0) (i := 2) rfl).trans hn)) ?_
  refine r_icmp_ge 86 dX2_strikesTwo_19 (by decide) (fun c_19 => ?_) (fun c_19 => ?_)
  · skip
    have n_19 : n ≤ e := n_ge (by omega) (by omega) c_19
    exact absurd n_19 (by omega)
  · skip
    have n_19 : e < n := n_gen (by omega) (by omega) c_19
    refine r_aload_n 0 dX2_strikesTwo_22 rfl rfl rfl ?_
    refine r_getr (k := 5) (b := (b + 5)) dX2_strikesTwo_23 hl.s0 rfl (by decide) (Or.inl q228) (Or.inl rfl) rfl hl.r_owed ?_
    refine r_iload_n 1 dX2_strikesTwo_26 rfl rfl ?_
    refine r_iload_n 2 dX2_strikesTwo_27 rfl rfl ?_
    refine r_callS_1 dX2_strikesTwo_28 kX2_107 (L_place (i := a) (j := e))  rfl rfl (Nat.le_of_ble_eq_true rfl) ?_
    refine r_ialdN ((8 * a + e)) dX2_strikesTwo_31 hl.s5 rfl (by omega) (by decide) ?_
    refine r_eqi (show _ = (dv r a e) from LG_r5 (by omega) (by omega)) ?_
    refine r_aload_n 0 dX2_strikesTwo_32 rfl rfl rfl ?_
    refine r_getr (k := 5) (b := (b + 5)) dX2_strikesTwo_33 hl.s0 rfl (by decide) (Or.inl q228) (Or.inl rfl) rfl hl.r_owed ?_
    refine r_iload_n 2 dX2_strikesTwo_36 rfl rfl ?_
    refine r_iload_n 1 dX2_strikesTwo_37 rfl rfl ?_
    refine r_callS_1 dX2_strikesTwo_38 kX2_107 (L_place (i := e) (j := a))  rfl rfl (Nat.le_of_ble_eq_true rfl) ?_
    refine r_ialdN ((8 * e + a)) dX2_strikesTwo_41 hl.s5 rfl (by omega) (by decide) ?_
    refine r_eqi (show _ = (dv r e a) from LG_r5 (by omega) (by omega)) ?_
    refine r_mmin dX2_strikesTwo_42 kX2_75 kM_smin kM_I kM_cmin (Nat.le_of_ble_eq_true rfl) ?_
    refine r_eqi (show _ = nI ((min i j)) from e1) ?_
    refine r_istore_n 3 dX2_strikesTwo_45 rfl (by decide) rfl ?_
    refine gG_ls (ls' := [_, _, _, _]) rfl ?_
    refine r_iload_n 3 dX2_strikesTwo_46 rfl rfl ?_
    refine r_if_le 80 dX2_strikesTwo_47 (by decide) (fun c_47 => ?_) (fun c_47 => ?_)
    · skip
      have n_47 : (min i j) = 0 := n_le0 (by omega) c_47
      rw [fndF_f (tw_no hen hae hi hj hi9 hj9 n_47)]
      refine r_iinc dX2_strikesTwo_80 rfl (by decide) rfl ?_
      refine gG_ls (ls' := [_, _, some (.int (nI ((e + 1)))), _]) (by rw [show (Int32.ofInt 1) = nI 1 from rfl, nI_add]; rfl) ?_
      refine r_goto 14 dX2_strikesTwo_83 (by decide) ?_
      exact ih (e + 1) _ _ (by omega) (by omega)
    · skip
      have n_47 : 0 < (min i j) := n_le0n (by omega) c_47
      rw [fndF_t (tw_yes hen hae hi hj hi9 hj9 (by omega))]
      refine r_aload_n 0 dX2_strikesTwo_50 rfl rfl rfl ?_
      refine r_getr (k := 5) (b := (b + 5)) dX2_strikesTwo_51 hl.s0 rfl (by decide) (Or.inl q228) (Or.inl rfl) rfl hl.r_owed ?_
      refine r_iload_n 1 dX2_strikesTwo_54 rfl rfl ?_
      refine r_iload_n 2 dX2_strikesTwo_55 rfl rfl ?_
      refine r_callS_1 dX2_strikesTwo_56 kX2_107 (L_place (i := a) (j := e))  rfl rfl (Nat.le_of_ble_eq_true rfl) ?_
      refine r_dup2 dX2_strikesTwo_59 rfl rfl ?_
      refine r_ialdN ((8 * a + e)) dX2_strikesTwo_60 hl.s5 rfl (by omega) (by decide) ?_
      refine r_eqi (show _ = (dv r a e) from LG_r5 (by omega) (by omega)) ?_
      refine r_iload_n 3 dX2_strikesTwo_61 rfl rfl ?_
      refine r_isub dX2_strikesTwo_62 ?_
      refine r_iastN ((8 * a + e)) dX2_strikesTwo_63 hl.s5 rfl (by omega) (by decide) ?_
      refine gG_h (LG_w5 (by omega) (by omega)) ?_
      refine r_aload_n 0 dX2_strikesTwo_64 rfl rfl rfl ?_
      refine r_getr (k := 5) (b := (b + 5)) dX2_strikesTwo_65 hl.s0 rfl (by decide) (Or.inl q228) (Or.inl rfl) rfl hl.r_owed ?_
      refine r_iload_n 2 dX2_strikesTwo_68 rfl rfl ?_
      refine r_iload_n 1 dX2_strikesTwo_69 rfl rfl ?_
      refine r_callS_1 dX2_strikesTwo_70 kX2_107 (L_place (i := e) (j := a))  rfl rfl (Nat.le_of_ble_eq_true rfl) ?_
      refine r_dup2 dX2_strikesTwo_73 rfl rfl ?_
      refine r_ialdN ((8 * e + a)) dX2_strikesTwo_74 hl.s5 rfl (by omega) (by decide) ?_
      refine r_eqi (show _ = (dv (sdv r a e (dv r a e - nI (min i j))) e a) from LG_r5 (by omega) (by omega)) ?_
      refine r_iload_n 3 dX2_strikesTwo_75 rfl rfl ?_
      refine r_isub dX2_strikesTwo_76 ?_
      refine r_iastN ((8 * e + a)) dX2_strikesTwo_77 hl.s5 rfl (by omega) (by decide) ?_
      refine gG_h (LG_w5 (by omega) (by omega)) ?_
      refine r_iconst (v := nI 1) dX2_strikesTwo_78 rfl ?_
      refine e_zret dX2_strikesTwo_79 rfl (by decide) ?_
      refine Or.inl ⟨n * a + e, g, rfl, hlt, rfl, ?_⟩
      rw [cd_div hen, cd_mod hen]
      unfold stk2
      rw [hmin]
      rfl
theorem L_two_L {d : Nat} {h : Hp} {b : Nat} (hl : LayL (hS h) (hR h) b) (hb : 21 ≤ b ∧ b + 10 < 78) {r : Row} {t : Int32} {n : Nat} (hn : r 2 = nI n) (hn8 : n ≤ 8) (D : RowD r) : ∀ (k a : Nat) (y2 y3 : Option Value) (g : Row), a + k = n → gG (d + 2) (0) (0) m_X2_strikesTwo 2 [some (.ref b), some (.int (nI a)), y2, y3] [] (LG h b r t g) (FS h b t r n (fndF (twP r n) (n * n - n * a) (n * a))) := by
  intro k
  induction k with
  | zero =>
    intro a y2 y3 g ha
    refine r_iload_n 1 dX2_strikesTwo_2 rfl rfl ?_
    refine r_aload_n 0 dX2_strikesTwo_3 rfl rfl rfl ?_
    refine r_geti (k := 0) dX2_strikesTwo_4 hl.s0 rfl (by decide) (Or.inl q218) (Or.inl rfl) rfl ?_
    refine r_eqi (show _ = nI (n) from ((LG_r0 (k := 0) (i := 2) rfl).trans hn)) ?_
    refine r_icmp_ge 92 dX2_strikesTwo_7 (by decide) (fun c_7 => ?_) (fun c_7 => ?_)
    · skip
      have n_7 : n ≤ a := n_ge (by omega) (by omega) c_7
      refine r_iconst (v := nI 0) dX2_strikesTwo_92 rfl ?_
      refine e_zret dX2_strikesTwo_93 rfl (by decide) ?_
      rw [show a = n by omega, Nat.sub_self]
      exact Or.inr ⟨g, rfl, rfl, rfl⟩
    · skip
      have n_7 : a < n := n_gen (by omega) (by omega) c_7
      exact absurd n_7 (by omega)
  | succ k ih =>
  intro a y2 y3 g ha
  refine r_iload_n 1 dX2_strikesTwo_2 rfl rfl ?_
  refine r_aload_n 0 dX2_strikesTwo_3 rfl rfl rfl ?_
  refine r_geti (k := 0) dX2_strikesTwo_4 hl.s0 rfl (by decide) (Or.inl q218) (Or.inl rfl) rfl ?_
  refine r_eqi (show _ = nI (n) from ((LG_r0 (k := 0) (i := 2) rfl).trans hn)) ?_
  refine r_icmp_ge 92 dX2_strikesTwo_7 (by decide) (fun c_7 => ?_) (fun c_7 => ?_)
  · skip
    have n_7 : n ≤ a := n_ge (by omega) (by omega) c_7
    exact absurd n_7 (by omega)
  · skip
    have n_7 : a < n := n_gen (by omega) (by omega) c_7
    refine r_iload_n 1 dX2_strikesTwo_10 rfl rfl ?_
    refine r_iconst (v := nI 1) dX2_strikesTwo_11 rfl ?_
    refine r_iadd dX2_strikesTwo_12 ?_
    refine r_eqi (show _ = nI (a + 1) from by simp only [pk_mul, nI_add]) ?_
    refine r_istore_n 2 dX2_strikesTwo_13 rfl (by decide) rfl ?_
    refine gG_ls (ls' := [_, _, _, _]) rfl ?_
    have han : a < n := by omega
    have hs : n * (a + 1) = n * a + n := Nat.mul_succ n a
    have hs2 : n * (a + 1) ≤ n * n := Nat.mul_le_mul_left n han
    rw [fndF_skip (a + 1) (by omega) (tw_lo han), Nat.sub_sub]
    exact L_two_in hl hb hn hn8 D han (fun y2 y3 g => ih (a + 1) y2 y3 g (by omega)) (n - (a + 1)) (a + 1) _ _ (by omega) (by omega)
theorem L_two {d : Nat} {h : Hp} {b : Nat} (hl : LayL (hS h) (hR h) b) (hb : 21 ≤ b ∧ b + 10 < 78) {g : Row} {r : Row} {t : Int32} {n : Nat} (hn : r 2 = nI n) (hn8 : n ≤ 8) (D : RowD r) : gC (d + 2) (0) (0) m_X2_strikesTwo [.ref b] (LG h b r t g) (FS h b t r n (fndF (twP r n) (n * n) 0)) := by
  refine gC.of (ls := [some (.ref b), none, none, none]) (by decide +kernel) rfl rfl rfl rfl (Nat.le_of_ble_eq_true rfl) ?_
  refine r_iconst (v := nI 0) dX2_strikesTwo_0 rfl ?_
  refine r_istore_n 1 dX2_strikesTwo_1 rfl (by decide) rfl ?_
  refine gG_ls (ls' := [_, _, _, _]) rfl ?_
  have h9 := L_two_L (t := t) (d := d) hl hb hn hn8 D n 0 none none g (by omega)
  rw [Nat.mul_zero, Nat.sub_zero] at h9
  exact h9
theorem L_three1 {d : Nat} {h : Hp} {b : Nat} (hl : LayL (hS h) (hR h) b) (hb : 21 ≤ b ∧ b + 10 < 78) {g r : Row} {t : Int32} {a e f : Nat} (D : RowD r) (ha : a < 8) (he : e < 8) (hf : f < 8) (n1 : a ≠ e) (n3 : a ≠ f) : gC (d + 2) (0) (0) m_X2_strikesThreeOf [.ref b, .int (nI a), .int (nI e), .int (nI f)] (LG h b r t g) (Ret (some (.int (b2 (T3 r a e f)))) (LG h b (if (T3 r a e f) = true then stk3 r a e f else r) t g)) := by
  obtain ⟨i, hi, hi9⟩ := pos_nI D ha he
  obtain ⟨j, hj, hj9⟩ := pos_nI D he hf
  obtain ⟨l, hl1, hl9⟩ := pos_nI D hf ha
  have e1 : (if dv r f a < dv r e f then dv r f a else dv r e f) = nI (min l j) := by rw [hl1, hj]; exact minI_n (by omega) (by omega)
  have e2 : (if nI (min l j) < dv r a e then nI (min l j) else dv r a e) = nI (min (min l j) i) := by rw [hi]; exact minI_n (by omega) (by omega)
  have e3 : lst3 r a e f = nI (min (min l j) i) := by unfold lst3; rw [hi, hj, hl1, minI_n (by omega) (by omega), minI_n (by omega) (by omega)]; congr 1; omega
  refine gC.of (ls := [some (.ref b), some (.int (nI a)), some (.int (nI e)), some (.int (nI f)), none]) (by decide +kernel) rfl rfl rfl rfl (Nat.le_of_ble_eq_true rfl) ?_
  refine r_aload_n 0 dX2_strikesThreeOf_0 rfl rfl rfl ?_
  refine r_getr (k := 5) (b := (b + 5)) dX2_strikesThreeOf_1 hl.s0 rfl (by decide) (Or.inl q228) (Or.inl rfl) rfl hl.r_owed ?_
  refine r_iload_n 1 dX2_strikesThreeOf_4 rfl rfl ?_
  refine r_iload_n 2 dX2_strikesThreeOf_5 rfl rfl ?_
  refine r_callS_1 dX2_strikesThreeOf_6 kX2_107 (L_place (i := a) (j := e))  rfl rfl (Nat.le_of_ble_eq_true rfl) ?_
  refine r_ialdN ((8 * a + e)) dX2_strikesThreeOf_9 hl.s5 rfl (by omega) (by decide) ?_
  refine r_eqi (show _ = (dv r a e) from LG_r5 (by omega) (by omega)) ?_
  refine r_aload_n 0 dX2_strikesThreeOf_10 rfl rfl rfl ?_
  refine r_getr (k := 5) (b := (b + 5)) dX2_strikesThreeOf_11 hl.s0 rfl (by decide) (Or.inl q228) (Or.inl rfl) rfl hl.r_owed ?_
  refine r_iload_n 2 dX2_strikesThreeOf_14 rfl rfl ?_
  refine r_iload_n 3 dX2_strikesThreeOf_15 rfl rfl ?_
  refine r_callS_1 dX2_strikesThreeOf_16 kX2_107 (L_place (i := e) (j := f))  rfl rfl (Nat.le_of_ble_eq_true rfl) ?_
  refine r_ialdN ((8 * e + f)) dX2_strikesThreeOf_19 hl.s5 rfl (by omega) (by decide) ?_
  refine r_eqi (show _ = (dv r e f) from LG_r5 (by omega) (by omega)) ?_
  refine r_aload_n 0 dX2_strikesThreeOf_20 rfl rfl rfl ?_
  refine r_getr (k := 5) (b := (b + 5)) dX2_strikesThreeOf_21 hl.s0 rfl (by decide) (Or.inl q228) (Or.inl rfl) rfl hl.r_owed ?_
  refine r_iload_n 3 dX2_strikesThreeOf_24 rfl rfl ?_
  refine r_iload_n 1 dX2_strikesThreeOf_25 rfl rfl ?_
  refine r_callS_1 dX2_strikesThreeOf_26 kX2_107 (L_place (i := f) (j := a))  rfl rfl (Nat.le_of_ble_eq_true rfl) ?_
  refine r_ialdN ((8 * f + a)) dX2_strikesThreeOf_29 hl.s5 rfl (by omega) (by decide) ?_
  refine r_eqi (show _ = (dv r f a) from LG_r5 (by omega) (by omega)) ?_
  refine r_mmin dX2_strikesThreeOf_30 kX2_75 kM_smin kM_I kM_cmin (Nat.le_of_ble_eq_true rfl) ?_
  refine r_eqi (show _ = nI ((min l j)) from e1) ?_
  refine r_mmin dX2_strikesThreeOf_33 kX2_75 kM_smin kM_I kM_cmin (Nat.le_of_ble_eq_true rfl) ?_
  refine r_eqi (show _ = nI ((min (min l j) i)) from e2) ?_
  refine r_istore dX2_strikesThreeOf_36 (by decide) rfl ?_
  refine gG_ls (ls' := [_, _, _, _, _]) rfl ?_
  refine r_iload_n 2 dX2_strikesThreeOf_38 rfl rfl ?_
  refine r_iload_n 3 dX2_strikesThreeOf_39 rfl rfl ?_
  refine r_icmp_eq 95 dX2_strikesThreeOf_40 (by decide) (fun c_40 => ?_) (fun c_40 => ?_)
  · skip
    have n_40 : e = f := n_eq (by omega) (by omega) c_40
    have hT : T3 r a e f = false := by subst n_40; unfold T3; rw [oweB_f1 (r := r) rfl, Bool.false_and, Bool.and_false]
    rw [hT]
    refine r_iconst (v := nI 0) dX2_strikesThreeOf_95 rfl ?_
    refine e_zret dX2_strikesThreeOf_96 rfl (by decide) ?_
    exact ⟨rfl, rfl⟩
  · skip
    have n_40 : ¬ e = f := n_eqn (by omega) (by omega) c_40
    refine r_iload dX2_strikesThreeOf_43 rfl ?_
    refine r_if_le 95 dX2_strikesThreeOf_45 (by decide) (fun c_45 => ?_) (fun c_45 => ?_)
    · skip
      have n_45 : (min (min l j) i) = 0 := n_le0 (by omega) c_45
      have hT : T3 r a e f = false := (T3_n hi hj hl1 hi9 hj9 hl9 n1 n_40 (Ne.symm n3)).trans (decide_eq_false (by omega))
      rw [hT]
      refine r_iconst (v := nI 0) dX2_strikesThreeOf_95 rfl ?_
      refine e_zret dX2_strikesThreeOf_96 rfl (by decide) ?_
      exact ⟨rfl, rfl⟩
    · skip
      have n_45 : 0 < (min (min l j) i) := n_le0n (by omega) c_45
      have hT : T3 r a e f = true := (T3_n hi hj hl1 hi9 hj9 hl9 n1 n_40 (Ne.symm n3)).trans (decide_eq_true (by omega))
      rw [hT, ifR_t rfl, stk3_r ha he hf n1 n_40 (Ne.symm n3) e3]
      refine r_aload_n 0 dX2_strikesThreeOf_48 rfl rfl rfl ?_
      refine r_getr (k := 5) (b := (b + 5)) dX2_strikesThreeOf_49 hl.s0 rfl (by decide) (Or.inl q228) (Or.inl rfl) rfl hl.r_owed ?_
      refine r_iload_n 1 dX2_strikesThreeOf_52 rfl rfl ?_
      refine r_iload_n 2 dX2_strikesThreeOf_53 rfl rfl ?_
      refine r_callS_1 dX2_strikesThreeOf_54 kX2_107 (L_place (i := a) (j := e))  rfl rfl (Nat.le_of_ble_eq_true rfl) ?_
      refine r_dup2 dX2_strikesThreeOf_57 rfl rfl ?_
      refine r_ialdN ((8 * a + e)) dX2_strikesThreeOf_58 hl.s5 rfl (by omega) (by decide) ?_
      refine r_eqi (show _ = (dv r a e) from LG_r5 (by omega) (by omega)) ?_
      refine r_iload dX2_strikesThreeOf_59 rfl ?_
      refine r_isub dX2_strikesThreeOf_61 ?_
      refine r_iastN ((8 * a + e)) dX2_strikesThreeOf_62 hl.s5 rfl (by omega) (by decide) ?_
      refine gG_h (LG_w5 (by omega) (by omega)) ?_
      refine r_aload_n 0 dX2_strikesThreeOf_63 rfl rfl rfl ?_
      refine r_getr (k := 5) (b := (b + 5)) dX2_strikesThreeOf_64 hl.s0 rfl (by decide) (Or.inl q228) (Or.inl rfl) rfl hl.r_owed ?_
      refine r_iload_n 2 dX2_strikesThreeOf_67 rfl rfl ?_
      refine r_iload_n 3 dX2_strikesThreeOf_68 rfl rfl ?_
      refine r_callS_1 dX2_strikesThreeOf_69 kX2_107 (L_place (i := e) (j := f))  rfl rfl (Nat.le_of_ble_eq_true rfl) ?_
      refine r_dup2 dX2_strikesThreeOf_72 rfl rfl ?_
      refine r_ialdN ((8 * e + f)) dX2_strikesThreeOf_73 hl.s5 rfl (by omega) (by decide) ?_
      refine r_eqi (show _ = (dv (sdv r a e (dv r a e - nI (min (min l j) i))) e f) from LG_r5 (by omega) (by omega)) ?_
      refine r_iload dX2_strikesThreeOf_74 rfl ?_
      refine r_isub dX2_strikesThreeOf_76 ?_
      refine r_iastN ((8 * e + f)) dX2_strikesThreeOf_77 hl.s5 rfl (by omega) (by decide) ?_
      refine gG_h (LG_w5 (by omega) (by omega)) ?_
      refine r_aload_n 0 dX2_strikesThreeOf_78 rfl rfl rfl ?_
      refine r_getr (k := 5) (b := (b + 5)) dX2_strikesThreeOf_79 hl.s0 rfl (by decide) (Or.inl q228) (Or.inl rfl) rfl hl.r_owed ?_
      refine r_iload_n 3 dX2_strikesThreeOf_82 rfl rfl ?_
      refine r_iload_n 1 dX2_strikesThreeOf_83 rfl rfl ?_
      refine r_callS_1 dX2_strikesThreeOf_84 kX2_107 (L_place (i := f) (j := a))  rfl rfl (Nat.le_of_ble_eq_true rfl) ?_
      refine r_dup2 dX2_strikesThreeOf_87 rfl rfl ?_
      refine r_ialdN ((8 * f + a)) dX2_strikesThreeOf_88 hl.s5 rfl (by omega) (by decide) ?_
      refine r_eqi (show _ = (dv (sdv (sdv r a e (dv r a e - nI (min (min l j) i))) e f (dv (sdv r a e (dv r a e - nI (min (min l j) i))) e f - nI (min (min l j) i))) f a) from LG_r5 (by omega) (by omega)) ?_
      refine r_iload dX2_strikesThreeOf_89 rfl ?_
      refine r_isub dX2_strikesThreeOf_91 ?_
      refine r_iastN ((8 * f + a)) dX2_strikesThreeOf_92 hl.s5 rfl (by omega) (by decide) ?_
      refine gG_h (LG_w5 (by omega) (by omega)) ?_
      refine r_iconst (v := nI 1) dX2_strikesThreeOf_93 rfl ?_
      refine e_zret dX2_strikesThreeOf_94 rfl (by decide) ?_
      exact ⟨rfl, rfl⟩
theorem L_three_in {d : Nat} {h : Hp} {b : Nat} (hl : LayL (hS h) (hR h) b) (hb : 21 ≤ b ∧ b + 10 < 78) {r : Row} {t : Int32} {n : Nat} (hn : r 2 = nI n) (hn8 : n ≤ 8) (D : RowD r) {a e : Nat} (ha : a < n) (hen : e < n) (hae : a < e) (OUT : ∀ (y3 : Option Value) (g : Row), gG (d + 4) (0) (0) m_X2_strikesThree 14 [some (.ref b), some (.int (nI a)), some (.int (nI (e + 1))), y3] [] (LG h b r t g) (FS3 h b t r n (fndF (thP r n) (n * n * n - (n * (n * a + (e + 1)))) (n * (n * a + (e + 1)))))) : ∀ (k f : Nat) (g : Row), f + k = n → a < f → gG (d + 4) (0) (0) m_X2_strikesThree 26 [some (.ref b), some (.int (nI a)), some (.int (nI e)), some (.int (nI f))] [] (LG h b r t g) (FS3 h b t r n (fndF (thP r n) (n * n * n - (n * (n * a + e) + f)) (n * (n * a + e) + f))) := by
  intro k
  induction k with
  | zero =>
    intro f g hf haf
    refine r_iload_n 3 dX2_strikesThree_26 rfl rfl ?_
    refine r_aload_n 0 dX2_strikesThree_27 rfl rfl rfl ?_
    refine r_geti (k := 0) dX2_strikesThree_28 hl.s0 rfl (by decide) (Or.inl q218) (Or.inl rfl) rfl ?_
    refine r_eqi (show _ = nI (n) from ((LG_r0 (k := 0) (i := 2) rfl).trans hn)) ?_
    refine r_icmp_ge 52 dX2_strikesThree_31 (by decide) (fun c_31 => ?_) (fun c_31 => ?_)
    · skip
      have n_31 : n ≤ f := n_ge (by omega) (by omega) c_31
      refine r_iinc dX2_strikesThree_52 rfl (by decide) rfl ?_
      refine gG_ls (ls' := [_, _, some (.int (nI ((e + 1)))), _]) (by rw [show (Int32.ofInt 1) = nI 1 from rfl, nI_add]; rfl) ?_
      refine r_goto 14 dX2_strikesThree_55 (by decide) ?_
      have h9 := OUT (some (.int (nI f))) g
      rw [show n * (n * a + (e + 1)) = n * (n * a + e) + f from by rw [← Nat.add_assoc, Nat.mul_succ]; omega] at h9
      exact h9
    · skip
      have n_31 : f < n := n_gen (by omega) (by omega) c_31
      exact absurd n_31 (by omega)
  | succ k ih =>
  intro f g hf haf
  have hfn : f < n := by omega
  have hlt := c3_lt ha hen hfn
  rw [show n * n * n - (n * (n * a + e) + f) = (n * n * n - (n * (n * a + e) + (f + 1))) + 1 by omega]
  refine r_iload_n 3 dX2_strikesThree_26 rfl rfl ?_
  refine r_aload_n 0 dX2_strikesThree_27 rfl rfl rfl ?_
  refine r_geti (k := 0) dX2_strikesThree_28 hl.s0 rfl (by decide) (Or.inl q218) (Or.inl rfl) rfl ?_
  refine r_eqi (show _ = nI (n) from ((LG_r0 (k := 0) (i := 2) rfl).trans hn)) ?_
  refine r_icmp_ge 52 dX2_strikesThree_31 (by decide) (fun c_31 => ?_) (fun c_31 => ?_)
  · skip
    have n_31 : n ≤ f := n_ge (by omega) (by omega) c_31
    exact absurd n_31 (by omega)
  · skip
    have n_31 : f < n := n_gen (by omega) (by omega) c_31
    refine r_aload_n 0 dX2_strikesThree_34 rfl rfl rfl ?_
    refine r_iload_n 1 dX2_strikesThree_35 rfl rfl ?_
    refine r_iload_n 2 dX2_strikesThree_36 rfl rfl ?_
    refine r_iload_n 3 dX2_strikesThree_37 rfl rfl ?_
    refine r_callV_1 dX2_strikesThree_38 kX2_147 (L_three1 (a := a) (e := e) (f := f) hl hb D (by omega) (by omega) (by omega) (by omega) (by omega)) (gRecv.of hl.s0 rfl) rfl rfl (Nat.le_of_ble_eq_true rfl) ?_
    refine r_if_eq 46 dX2_strikesThree_41 (by decide) (fun c_41 => ?_) (fun c_41 => ?_)
    · skip
      have n_41 : (T3 r a e f) = false := b2_f c_41
      rw [fndF_f (show thP r n (n * (n * a + e) + f) = false from by rw [th_at hen hfn, n_41, Bool.and_false, Bool.and_false])]
      refine gG_h (show _ = LG h b r t g from by rw [ifR_f n_41]) ?_
      refine r_iinc dX2_strikesThree_46 rfl (by decide) rfl ?_
      refine gG_ls (ls' := [_, _, _, some (.int (nI ((f + 1))))]) (by rw [show (Int32.ofInt 1) = nI 1 from rfl, nI_add]; rfl) ?_
      refine r_goto 26 dX2_strikesThree_49 (by decide) ?_
      exact ih (f + 1) _ (by omega) (by omega)
    · skip
      have n_41 : (T3 r a e f) = true := b2_t c_41
      rw [fndF_t (show thP r n (n * (n * a + e) + f) = true from by rw [th_at hen hfn, n_41, decide_eq_true hae, decide_eq_true haf]; rfl)]
      refine gG_h (show _ = LG h b (stk3 r a e f) t g from by rw [ifR_t n_41]) ?_
      refine r_iconst (v := nI 1) dX2_strikesThree_44 rfl ?_
      refine e_zret dX2_strikesThree_45 rfl (by decide) ?_
      refine Or.inl ⟨n * (n * a + e) + f, g, rfl, hlt, rfl, ?_⟩
      rw [c3_div hen hfn, c3_mid hen hfn, cd_mod hfn]
theorem L_three_mid {d : Nat} {h : Hp} {b : Nat} (hl : LayL (hS h) (hR h) b) (hb : 21 ≤ b ∧ b + 10 < 78) {r : Row} {t : Int32} {n : Nat} (hn : r 2 = nI n) (hn8 : n ≤ 8) (D : RowD r) {a : Nat} (ha : a < n) (OUT2 : ∀ (y2 y3 : Option Value) (g : Row), gG (d + 4) (0) (0) m_X2_strikesThree 2 [some (.ref b), some (.int (nI (a + 1))), y2, y3] [] (LG h b r t g) (FS3 h b t r n (fndF (thP r n) (n * n * n - (n * (n * (a + 1)))) (n * (n * (a + 1)))))) : ∀ (k e : Nat) (y3 : Option Value) (g : Row), e + k = n → a < e → gG (d + 4) (0) (0) m_X2_strikesThree 14 [some (.ref b), some (.int (nI a)), some (.int (nI e)), y3] [] (LG h b r t g) (FS3 h b t r n (fndF (thP r n) (n * n * n - (n * (n * a + e))) (n * (n * a + e)))) := by
  intro k
  induction k with
  | zero =>
    intro e y3 g he hae
    refine r_iload_n 2 dX2_strikesThree_14 rfl rfl ?_
    refine r_aload_n 0 dX2_strikesThree_15 rfl rfl rfl ?_
    refine r_geti (k := 0) dX2_strikesThree_16 hl.s0 rfl (by decide) (Or.inl q218) (Or.inl rfl) rfl ?_
    refine r_eqi (show _ = nI (n) from ((LG_r0 (k := 0) (i := 2) rfl).trans hn)) ?_
    refine r_icmp_ge 58 dX2_strikesThree_19 (by decide) (fun c_19 => ?_) (fun c_19 => ?_)
    · skip
      have n_19 : n ≤ e := n_ge (by omega) (by omega) c_19
      refine r_iinc dX2_strikesThree_58 rfl (by decide) rfl ?_
      refine gG_ls (ls' := [_, some (.int (nI ((a + 1)))), _, _]) (by rw [show (Int32.ofInt 1) = nI 1 from rfl, nI_add]; rfl) ?_
      refine r_goto 2 dX2_strikesThree_61 (by decide) ?_
      have h9 := OUT2 (some (.int (nI e))) y3 g
      rw [show n * (n * (a + 1)) = n * (n * a + e) from by rw [Nat.mul_succ n a, show e = n by omega]] at h9
      exact h9
    · skip
      have n_19 : e < n := n_gen (by omega) (by omega) c_19
      exact absurd n_19 (by omega)
  | succ k ih =>
  intro e y3 g he hae
  refine r_iload_n 2 dX2_strikesThree_14 rfl rfl ?_
  refine r_aload_n 0 dX2_strikesThree_15 rfl rfl rfl ?_
  refine r_geti (k := 0) dX2_strikesThree_16 hl.s0 rfl (by decide) (Or.inl q218) (Or.inl rfl) rfl ?_
  refine r_eqi (show _ = nI (n) from ((LG_r0 (k := 0) (i := 2) rfl).trans hn)) ?_
  refine r_icmp_ge 58 dX2_strikesThree_19 (by decide) (fun c_19 => ?_) (fun c_19 => ?_)
  · skip
    have n_19 : n ≤ e := n_ge (by omega) (by omega) c_19
    exact absurd n_19 (by omega)
  · skip
    have n_19 : e < n := n_gen (by omega) (by omega) c_19
    refine r_iload_n 1 dX2_strikesThree_22 rfl rfl ?_
    refine r_iconst (v := nI 1) dX2_strikesThree_23 rfl ?_
    refine r_iadd dX2_strikesThree_24 ?_
    refine r_eqi (show _ = nI (a + 1) from by simp only [pk_mul, nI_add]) ?_
    refine r_istore_n 3 dX2_strikesThree_25 rfl (by decide) rfl ?_
    refine gG_ls (ls' := [_, _, _, _]) rfl ?_
    have hen : e < n := by omega
    have h3 := c3_lt ha hen (show n - 1 < n by omega)
    rw [fndF_skip (a + 1) (by omega) (th_lo ha hen), Nat.sub_sub]
    exact L_three_in hl hb hn hn8 D ha hen hae (fun y3 g => ih (e + 1) y3 g (by omega) (by omega)) (n - (a + 1)) (a + 1) _ (by omega) (by omega)
theorem L_three_L {d : Nat} {h : Hp} {b : Nat} (hl : LayL (hS h) (hR h) b) (hb : 21 ≤ b ∧ b + 10 < 78) {r : Row} {t : Int32} {n : Nat} (hn : r 2 = nI n) (hn8 : n ≤ 8) (D : RowD r) : ∀ (k a : Nat) (y2 y3 : Option Value) (g : Row), a + k = n → gG (d + 4) (0) (0) m_X2_strikesThree 2 [some (.ref b), some (.int (nI a)), y2, y3] [] (LG h b r t g) (FS3 h b t r n (fndF (thP r n) (n * n * n - (n * (n * a))) (n * (n * a)))) := by
  intro k
  induction k with
  | zero =>
    intro a y2 y3 g ha
    refine r_iload_n 1 dX2_strikesThree_2 rfl rfl ?_
    refine r_aload_n 0 dX2_strikesThree_3 rfl rfl rfl ?_
    refine r_geti (k := 0) dX2_strikesThree_4 hl.s0 rfl (by decide) (Or.inl q218) (Or.inl rfl) rfl ?_
    refine r_eqi (show _ = nI (n) from ((LG_r0 (k := 0) (i := 2) rfl).trans hn)) ?_
    refine r_icmp_ge 64 dX2_strikesThree_7 (by decide) (fun c_7 => ?_) (fun c_7 => ?_)
    · skip
      have n_7 : n ≤ a := n_ge (by omega) (by omega) c_7
      refine r_iconst (v := nI 0) dX2_strikesThree_64 rfl ?_
      refine e_zret dX2_strikesThree_65 rfl (by decide) ?_
      rw [show a = n by omega, ← Nat.mul_assoc, Nat.sub_self]
      exact Or.inr ⟨g, rfl, rfl, rfl⟩
    · skip
      have n_7 : a < n := n_gen (by omega) (by omega) c_7
      exact absurd n_7 (by omega)
  | succ k ih =>
  intro a y2 y3 g ha
  refine r_iload_n 1 dX2_strikesThree_2 rfl rfl ?_
  refine r_aload_n 0 dX2_strikesThree_3 rfl rfl rfl ?_
  refine r_geti (k := 0) dX2_strikesThree_4 hl.s0 rfl (by decide) (Or.inl q218) (Or.inl rfl) rfl ?_
  refine r_eqi (show _ = nI (n) from ((LG_r0 (k := 0) (i := 2) rfl).trans hn)) ?_
  refine r_icmp_ge 64 dX2_strikesThree_7 (by decide) (fun c_7 => ?_) (fun c_7 => ?_)
  · skip
    have n_7 : n ≤ a := n_ge (by omega) (by omega) c_7
    exact absurd n_7 (by omega)
  · skip
    have n_7 : a < n := n_gen (by omega) (by omega) c_7
    refine r_iload_n 1 dX2_strikesThree_10 rfl rfl ?_
    refine r_iconst (v := nI 1) dX2_strikesThree_11 rfl ?_
    refine r_iadd dX2_strikesThree_12 ?_
    refine r_eqi (show _ = nI (a + 1) from by simp only [pk_mul, nI_add]) ?_
    refine r_istore_n 2 dX2_strikesThree_13 rfl (by decide) rfl ?_
    refine gG_ls (ls' := [_, _, _, _]) rfl ?_
    have han : a < n := by omega
    have hs : n * (n * a + (a + 1)) = n * (n * a) + n * (a + 1) := Nat.mul_add n _ _
    have h3 : n * (n * a + (a + 1)) ≤ n * n * n := by rw [Nat.mul_assoc]; exact Nat.mul_le_mul_left n (by have h5 := cd_lt han (show n - 1 < n by omega); omega)
    rw [fndF_skip (n * (a + 1)) (by omega) (th_lo2 han), Nat.sub_sub, ← hs]
    exact L_three_mid hl hb hn hn8 D han (fun y2 y3 g => ih (a + 1) y2 y3 g (by omega)) (n - (a + 1)) (a + 1) _ _ (by omega) (by omega)
theorem L_three {d : Nat} {h : Hp} {b : Nat} (hl : LayL (hS h) (hR h) b) (hb : 21 ≤ b ∧ b + 10 < 78) {g : Row} {r : Row} {t : Int32} {n : Nat} (hn : r 2 = nI n) (hn8 : n ≤ 8) (D : RowD r) : gC (d + 4) (0) (0) m_X2_strikesThree [.ref b] (LG h b r t g) (FS3 h b t r n (fndF (thP r n) (n * n * n) 0)) := by
  refine gC.of (ls := [some (.ref b), none, none, none]) (by decide +kernel) rfl rfl rfl rfl (Nat.le_of_ble_eq_true rfl) ?_
  refine r_iconst (v := nI 0) dX2_strikesThree_0 rfl ?_
  refine r_istore_n 1 dX2_strikesThree_1 rfl (by decide) rfl ?_
  refine gG_ls (ls' := [_, _, _, _]) rfl ?_
  have h9 := L_three_L (t := t) (d := d) hl hb hn hn8 D n 0 none none g (by omega)
  rw [Nat.mul_zero, Nat.mul_zero, Nat.sub_zero] at h9
  exact h9
theorem L_strikes_L {d : Nat} {h : Hp} {b : Nat} (hl : LayL (hS h) (hR h) b) (hb : 21 ≤ b ∧ b + 10 < 78) {t : Int32} {n : Nat} (hn8 : n ≤ 8) {Q : gQ} : ∀ (k : Nat) (r : Row) (m : Nat) (g : Row), msF r 64 < k → RowD r → r 2 = nI n → (∀ g9 : Row, gG (d + 5) (0) (0) m_X2_strikes 22 [some (.ref b), some (.int (nI ((stF n k r m).2)))] [] (LG h b (stF n k r m).1 t g9) (Q)) → gG (d + 5) (0) (0) m_X2_strikes 2 [some (.ref b), some (.int (nI m))] [] (LG h b r t g) (Q) := by
  intro k
  induction k with
  | zero => exact fun r m g h1 => absurd h1 (by omega)
  | succ k ih =>
  intro r m g hk D hn kk
  refine r_aload_n 0 dX2_strikes_2 rfl rfl rfl ?_
  refine r_callFS dX2_strikes_3 kX2_150 (L_two hl hb hn hn8 D) (gRecv.of hl.s0 rfl) rfl rfl (Nat.le_of_ble_eq_true rfl) (fun c g1 hq1 hc1 => ?_) (fun g1 hq1 => ?_)
  · skip
    refine r_if_ne 16 dX2_strikes_6 (by decide) (fun c_6 => ?_) (fun c_6 => ?_)
    · skip
      have n_6 : ¬ 1 = 0 := n_ne0 (by omega) c_6
      refine r_iinc dX2_strikes_16 rfl (by decide) rfl ?_
      refine gG_ls (ls' := [_, some (.int (nI ((m + 1))))]) (by rw [show (Int32.ofInt 1) = nI 1 from rfl, nI_add]; rfl) ?_
      refine r_goto 2 dX2_strikes_19 (by decide) ?_
      obtain ⟨D1, m1, f1⟩ := tw_ok D hn8 hq1
      rw [stF_2 hq1] at kk
      exact ih _ (m + 1) _ (by omega) D1 ((f1 2 (by omega)).trans hn) kk
    · skip
      have n_6 : 1 = 0 := n_eq0 (by omega) c_6
      exact absurd n_6 (by decide)
  · skip
    refine r_if_ne 16 dX2_strikes_6 (by decide) (fun c_6 => ?_) (fun c_6 => ?_)
    · skip
      have n_6 : ¬ 0 = 0 := n_ne0 (by omega) c_6
      exact absurd n_6 (by decide)
    · skip
      have n_6 : 0 = 0 := n_eq0 (by omega) c_6
      refine r_aload_n 0 dX2_strikes_9 rfl rfl rfl ?_
      refine r_callFS3 dX2_strikes_10 kX2_154 (L_three hl hb hn hn8 D) (gRecv.of hl.s0 rfl) rfl rfl (Nat.le_of_ble_eq_true rfl) (fun c g2 hq2 hc2 => ?_) (fun g2 hq2 => ?_)
      · skip
        refine r_if_eq 22 dX2_strikes_13 (by decide) (fun c_13 => ?_) (fun c_13 => ?_)
        · skip
          have n_13 : 1 = 0 := n_eq0 (by omega) c_13
          exact absurd n_13 (by decide)
        · skip
          have n_13 : ¬ 1 = 0 := n_ne0 (by omega) c_13
          refine r_iinc dX2_strikes_16 rfl (by decide) rfl ?_
          refine gG_ls (ls' := [_, some (.int (nI ((m + 1))))]) (by rw [show (Int32.ofInt 1) = nI 1 from rfl, nI_add]; rfl) ?_
          refine r_goto 2 dX2_strikes_19 (by decide) ?_
          obtain ⟨D1, m1, f1⟩ := th_ok D hn8 hq2
          rw [stF_3 hq1 hq2] at kk
          exact ih _ (m + 1) _ (by omega) D1 ((f1 2 (by omega)).trans hn) kk
      · skip
        refine r_if_eq 22 dX2_strikes_13 (by decide) (fun c_13 => ?_) (fun c_13 => ?_)
        · skip
          have n_13 : 0 = 0 := n_eq0 (by omega) c_13
          rw [stF_n hq1 hq2] at kk
          exact kk _
        · skip
          have n_13 : ¬ 0 = 0 := n_ne0 (by omega) c_13
          exact absurd n_13 (by decide)
theorem L_strikes {d : Nat} {h : Hp} {b : Nat} (hl : LayL (hS h) (hR h) b) (hb : 21 ≤ b ∧ b + 10 < 78) {g : Row} {r : Row} {t : Int32} {n : Nat} (hn : r 2 = nI n) (hn8 : n ≤ 8) (D : RowD r) : gC (d + 5) (0) (0) m_X2_strikes [.ref b] (LG h b r t g) (RL (some (.int (nI (stF n STK r 0).2))) h b ((stF n STK r 0).1) t) := by
  refine gC.of (ls := [some (.ref b), none]) (by decide +kernel) rfl rfl rfl rfl (Nat.le_of_ble_eq_true rfl) ?_
  refine r_iconst (v := nI 0) dX2_strikes_0 rfl ?_
  refine r_istore_n 1 dX2_strikes_1 rfl (by decide) rfl ?_
  refine gG_ls (ls' := [_, _]) rfl ?_
  have hms := msF_le D 64 (by omega)
  refine L_strikes_L hl hb hn8 STK r 0 _ (by unfold STK; omega) D hn (fun g_9 => ?_)
  refine r_iload_n 1 dX2_strikes_22 rfl rfl ?_
  refine e_iret dX2_strikes_23 rfl ?_
  exact ⟨rfl, _, rfl⟩
theorem L_become {d : Nat} {h : Hp} {b c : Nat} (hl : LayL (hS h) (hR h) b) (hk : LayL (hS h) (hR h) c) (hb : 21 ≤ b ∧ b + 10 < 78) (hc : 21 ≤ c ∧ c + 10 < 78) (hbc : c + 10 < b ∨ b + 10 < c) {r : Row} (hold : HoldL h c r) (lw : LW h c r) : gC (d + 1) (0) (0) m_X2_become [.ref b, .ref c] (h) (Ret (some (.ref b)) (LH (LC h b c) b r (-1))) := by
  refine gC.of (ls := [some (.ref b), some (.ref c)]) (by decide +kernel) rfl rfl rfl rfl (Nat.le_of_ble_eq_true rfl) ?_
  refine gG_h (LZ_0 (b := b) (r := r) (t := (-1))).symm ?_
  refine r_aload_n 0 dX2_become_0 rfl rfl rfl ?_
  refine r_aload_n 1 dX2_become_1 rfl rfl rfl ?_
  refine r_geti (k := 0) dX2_become_2 hk.s0 rfl (by decide) (Or.inl q218) (Or.inl rfl) rfl ?_
  refine r_eqi (show _ = (r 2) from LZ_src (by decide) (by omega) (hold 0 0 2 rfl)) ?_
  refine r_puti (k := 0) dX2_become_5 hl.s0 rfl (by decide) (Or.inl q218) (Or.inl rfl) (Or.inl rfl) rfl rfl rfl ?_
  refine gG_h (LZ_f (k := 0) (i := 2) rfl (by decide)) ?_
  refine r_aload_n 1 dX2_become_8 rfl rfl rfl ?_
  refine r_getr (k := 1) (b := (c + 1)) dX2_become_9 hk.s0 rfl (by decide) (Or.inl q220) (Or.inl rfl) rfl hk.r_person ?_
  refine r_iconst (v := nI 0) dX2_become_12 rfl ?_
  refine r_aload_n 0 dX2_become_13 rfl rfl rfl ?_
  refine r_getr (k := 1) (b := (b + 1)) dX2_become_14 hl.s0 rfl (by decide) (Or.inl q220) (Or.inl rfl) rfl hl.r_person ?_
  refine r_iconst (v := nI 0) dX2_become_17 rfl ?_
  refine r_bipush (v := nI 8) dX2_become_18 (by decide +kernel) ?_
  refine r_copyR0 (n := 8) dX2_become_20 kX2_60 hk.s1 hl.s1 (Or.inl ⟨rfl, rfl⟩) (by decide) (by decide) (by decide) (fun i hi y hy => LP_cls lw.1 i hi y hy) (Nat.le_of_ble_eq_true rfl) ?_
  have hl1 : LayL (hS h) (hR (cR h (c + 1) 0 (b + 1) 0 8)) b := hl.rr (cR_n (by omega)) (cR_n (by omega))
  have hk1 : LayL (hS h) (hR (cR h (c + 1) 0 (b + 1) 0 8)) c := hk.rr (cR_n (by omega)) (cR_n (by omega))
  refine gG_h (show _ = LZ (cR h (c + 1) 0 (b + 1) 0 8) b r (-1) [(0, 0)] from rfl) ?_
  refine r_aload_n 1 dX2_become_23 rfl rfl rfl ?_
  refine r_getr (k := 2) (b := (c + 2)) dX2_become_24 hk1.s0 rfl (by decide) (Or.inl q222) (Or.inl rfl) rfl hk1.r_traits ?_
  refine r_iconst (v := nI 0) dX2_become_27 rfl ?_
  refine r_aload_n 0 dX2_become_28 rfl rfl rfl ?_
  refine r_getr (k := 2) (b := (b + 2)) dX2_become_29 hl1.s0 rfl (by decide) (Or.inl q222) (Or.inl rfl) rfl hl1.r_traits ?_
  refine r_iconst (v := nI 0) dX2_become_32 rfl ?_
  refine r_bipush (v := nI 8) dX2_become_33 (by decide +kernel) ?_
  refine r_copyI0 (n := 8) dX2_become_35 kX2_60 hk1.s2 hl1.s2 (by decide) (by decide) (by decide) (by decide) (fun _ _ => rfl) (Nat.le_of_ble_eq_true rfl) ?_
  refine gG_h (LZ_a (o := 2) (n := 8) (by decide) (by omega) (by decide) (fun k hk => ⟨_, ix_2 hk, hold 2 k _ (ix_2 hk)⟩) (fun k hk => ix_none (by omega) hk)) ?_
  refine r_aload_n 1 dX2_become_38 rfl rfl rfl ?_
  refine r_getr (k := 3) (b := (c + 3)) dX2_become_39 hk1.s0 rfl (by decide) (Or.inl q224) (Or.inl rfl) rfl hk1.r_water ?_
  refine r_iconst (v := nI 0) dX2_become_42 rfl ?_
  refine r_aload_n 0 dX2_become_43 rfl rfl rfl ?_
  refine r_getr (k := 3) (b := (b + 3)) dX2_become_44 hl1.s0 rfl (by decide) (Or.inl q224) (Or.inl rfl) rfl hl1.r_water ?_
  refine r_iconst (v := nI 0) dX2_become_47 rfl ?_
  refine r_bipush (v := nI 8) dX2_become_48 (by decide +kernel) ?_
  refine r_copyI0 (n := 8) dX2_become_50 kX2_60 hk1.s3 hl1.s3 (by decide) (by decide) (by decide) (by decide) (fun _ _ => rfl) (Nat.le_of_ble_eq_true rfl) ?_
  refine gG_h (LZ_a (o := 3) (n := 8) (by decide) (by omega) (by decide) (fun k hk => ⟨_, ix_3 hk, hold 3 k _ (ix_3 hk)⟩) (fun k hk => ix_none (by omega) hk)) ?_
  refine r_aload_n 1 dX2_become_53 rfl rfl rfl ?_
  refine r_getr (k := 4) (b := (c + 4)) dX2_become_54 hk1.s0 rfl (by decide) (Or.inl q226) (Or.inl rfl) rfl hk1.r_thirst ?_
  refine r_iconst (v := nI 0) dX2_become_57 rfl ?_
  refine r_aload_n 0 dX2_become_58 rfl rfl rfl ?_
  refine r_getr (k := 4) (b := (b + 4)) dX2_become_59 hl1.s0 rfl (by decide) (Or.inl q226) (Or.inl rfl) rfl hl1.r_thirst ?_
  refine r_iconst (v := nI 0) dX2_become_62 rfl ?_
  refine r_bipush (v := nI 8) dX2_become_63 (by decide +kernel) ?_
  refine r_copyI0 (n := 8) dX2_become_65 kX2_60 hk1.s4 hl1.s4 (by decide) (by decide) (by decide) (by decide) (fun _ _ => rfl) (Nat.le_of_ble_eq_true rfl) ?_
  refine gG_h (LZ_a (o := 4) (n := 8) (by decide) (by omega) (by decide) (fun k hk => ⟨_, ix_4 hk, hold 4 k _ (ix_4 hk)⟩) (fun k hk => ix_none (by omega) hk)) ?_
  refine r_aload_n 1 dX2_become_68 rfl rfl rfl ?_
  refine r_getr (k := 5) (b := (c + 5)) dX2_become_69 hk1.s0 rfl (by decide) (Or.inl q228) (Or.inl rfl) rfl hk1.r_owed ?_
  refine r_iconst (v := nI 0) dX2_become_72 rfl ?_
  refine r_aload_n 0 dX2_become_73 rfl rfl rfl ?_
  refine r_getr (k := 5) (b := (b + 5)) dX2_become_74 hl1.s0 rfl (by decide) (Or.inl q228) (Or.inl rfl) rfl hl1.r_owed ?_
  refine r_iconst (v := nI 0) dX2_become_77 rfl ?_
  refine r_bipush (v := nI 64) dX2_become_78 (by decide +kernel) ?_
  refine r_copyI0 (n := 64) dX2_become_80 kX2_60 hk1.s5 hl1.s5 (by decide) (by decide) (by decide) (by decide) (fun _ _ => rfl) (Nat.le_of_ble_eq_true rfl) ?_
  refine gG_h (LZ_a (o := 5) (n := 64) (by decide) (by omega) (by decide) (fun k hk => ⟨_, ix_5 hk, hold 5 k _ (ix_5 hk)⟩) (fun k hk => ix_none (by omega) hk)) ?_
  refine r_aload_n 0 dX2_become_83 rfl rfl rfl ?_
  refine r_aload_n 1 dX2_become_84 rfl rfl rfl ?_
  refine r_geti (k := 6) dX2_become_85 hk1.s0 rfl (by decide) (Or.inl q230) (Or.inl rfl) rfl ?_
  refine r_eqi (show _ = (r 0) from LZ_src (by decide) (by omega) (hold 0 6 0 rfl)) ?_
  refine r_puti (k := 6) dX2_become_88 hl1.s0 rfl (by decide) (Or.inl q230) (Or.inl rfl) (Or.inl rfl) rfl rfl rfl ?_
  refine gG_h (LZ_f (k := 6) (i := 0) rfl (by decide)) ?_
  refine r_aload_n 0 dX2_become_91 rfl rfl rfl ?_
  refine r_iconst (v := (-1)) dX2_become_92 (by decide +kernel) ?_
  refine r_puti (k := 7) dX2_become_93 hl1.s0 rfl (by decide) (Or.inl q232) (Or.inl rfl) (Or.inl rfl) rfl rfl rfl ?_
  refine gG_h LZ_t ?_
  refine r_aload_n 1 dX2_become_96 rfl rfl rfl ?_
  refine r_getr (k := 8) (b := (c + 6)) dX2_become_97 hk1.s0 rfl (by decide) (Or.inl q234) (Or.inl rfl) rfl hk1.r_text ?_
  refine r_iconst (v := nI 0) dX2_become_100 rfl ?_
  refine r_aload_n 0 dX2_become_101 rfl rfl rfl ?_
  refine r_getr (k := 8) (b := (b + 6)) dX2_become_102 hl1.s0 rfl (by decide) (Or.inl q234) (Or.inl rfl) rfl hl1.r_text ?_
  refine r_iconst (v := nI 0) dX2_become_105 rfl ?_
  refine r_iconst (v := nI 2) dX2_become_106 rfl ?_
  refine r_copyR0 (n := 2) dX2_become_107 kX2_60 hk1.s6 hl1.s6 (Or.inr (Or.inl ⟨rfl, rfl⟩)) (by decide) (by decide) (by decide) (fun i hi y hy => LT_cls lw.2 i hi y (by rw [← hy]; exact (congrFun (cR_n (by omega)) i).symm)) (Nat.le_of_ble_eq_true rfl) ?_
  have hl2 : LayL (hS h) (hR (LC h b c)) b := hl1.rr (cR_n (by omega)) (cR_n (by omega))
  have hk2 : LayL (hS h) (hR (LC h b c)) c := hk1.rr (cR_n (by omega)) (cR_n (by omega))
  refine gG_h (show _ = LZ (LC h b c) b r (-1) [(0, 7), (0, 6), (5, 0), (4, 0), (3, 0), (2, 0), (0, 0)] from rfl) ?_
  refine r_aload_n 0 dX2_become_110 rfl rfl rfl ?_
  refine r_aload_n 1 dX2_become_111 rfl rfl rfl ?_
  refine r_geti (k := 9) dX2_become_112 hk2.s0 rfl (by decide) (Or.inl q236) (Or.inl rfl) rfl ?_
  refine r_eqi (show _ = (r 1) from LZ_src (by decide) (by omega) (hold 0 9 1 rfl)) ?_
  refine r_puti (k := 9) dX2_become_115 hl2.s0 rfl (by decide) (Or.inl q236) (Or.inl rfl) (Or.inl rfl) rfl rfl rfl ?_
  refine gG_h (LZ_f (k := 9) (i := 1) rfl (by decide)) ?_
  refine r_aload_n 1 dX2_become_118 rfl rfl rfl ?_
  refine r_getr (k := 10) (b := (c + 7)) dX2_become_119 hk2.s0 rfl (by decide) (Or.inl q238) (Or.inl rfl) rfl hk2.r_tape ?_
  refine r_iconst (v := nI 0) dX2_become_122 rfl ?_
  refine r_aload_n 0 dX2_become_123 rfl rfl rfl ?_
  refine r_getr (k := 10) (b := (b + 7)) dX2_become_124 hl2.s0 rfl (by decide) (Or.inl q238) (Or.inl rfl) rfl hl2.r_tape ?_
  refine r_iconst (v := nI 0) dX2_become_127 rfl ?_
  refine r_bipush (v := nI 50) dX2_become_128 (by decide +kernel) ?_
  refine r_copyI0 (n := 50) dX2_become_130 kX2_60 hk2.s7 hl2.s7 (by decide) (by decide) (by decide) (by decide) (fun i hi => by rw [show hI (LZ (LC h b c) b r (-1) _) (c + 7) i = hI h (c + 7) i from congrFun (lhs_far (by decide) (by omega)) i, hold 7 i _ (ix_7 hi)]; exact fits_b _) (Nat.le_of_ble_eq_true rfl) ?_
  refine gG_h (LZ_a (o := 7) (n := 50) (by decide) (by omega) (by decide) (fun k hk => ⟨_, ix_7 hk, hold 7 k _ (ix_7 hk)⟩) (fun k hk => ix_none (by omega) hk)) ?_
  refine r_aload_n 0 dX2_become_133 rfl rfl rfl ?_
  refine r_aload_n 1 dX2_become_134 rfl rfl rfl ?_
  refine r_geti (k := 11) dX2_become_135 hk2.s0 rfl (by decide) (Or.inl q240) (Or.inl rfl) rfl ?_
  refine r_eqi (show _ = (r 3) from LZ_src (by decide) (by omega) (hold 0 11 3 rfl)) ?_
  refine r_puti (k := 11) dX2_become_138 hl2.s0 rfl (by decide) (Or.inl q240) (Or.inl rfl) (Or.inl rfl) rfl rfl rfl ?_
  refine gG_h (LZ_f (k := 11) (i := 3) rfl (by decide)) ?_
  refine r_aload_n 1 dX2_become_141 rfl rfl rfl ?_
  refine r_getr (k := 12) (b := (c + 8)) dX2_become_142 hk2.s0 rfl (by decide) (Or.inl q242) (Or.inl rfl) rfl hk2.r_waiting ?_
  refine r_iconst (v := nI 0) dX2_become_145 rfl ?_
  refine r_aload_n 0 dX2_become_146 rfl rfl rfl ?_
  refine r_getr (k := 12) (b := (b + 8)) dX2_become_147 hl2.s0 rfl (by decide) (Or.inl q242) (Or.inl rfl) rfl hl2.r_waiting ?_
  refine r_iconst (v := nI 0) dX2_become_150 rfl ?_
  refine r_bipush (v := nI 20) dX2_become_151 (by decide +kernel) ?_
  refine r_copyI0 (n := 20) dX2_become_153 kX2_60 hk2.s8 hl2.s8 (by decide) (by decide) (by decide) (by decide) (fun _ _ => rfl) (Nat.le_of_ble_eq_true rfl) ?_
  refine gG_h (LZ_a (o := 8) (n := 20) (by decide) (by omega) (by decide) (fun k hk => ⟨_, ix_8 hk, hold 8 k _ (ix_8 hk)⟩) (fun k hk => ix_none (by omega) hk)) ?_
  refine r_aload_n 0 dX2_become_156 rfl rfl rfl ?_
  refine r_aload_n 1 dX2_become_157 rfl rfl rfl ?_
  refine r_geti (k := 13) dX2_become_158 hk2.s0 rfl (by decide) (Or.inl q244) (Or.inl rfl) rfl ?_
  refine r_eqi (show _ = (r 4) from LZ_src (by decide) (by omega) (hold 0 13 4 rfl)) ?_
  refine r_puti (k := 13) dX2_become_161 hl2.s0 rfl (by decide) (Or.inl q244) (Or.inl rfl) (Or.inl rfl) rfl rfl rfl ?_
  refine gG_h (LZ_f (k := 13) (i := 4) rfl (by decide)) ?_
  refine r_aload_n 0 dX2_become_164 rfl rfl rfl ?_
  refine e_aret dX2_become_165 rfl (Or.inl ⟨_, rfl⟩) rfl ?_
  exact ⟨rfl, LZ_all⟩
