theorem M_owe1 {d : Nat} {h : Hp} {r o : Row} (hm : LayM (hS h) (hR h)) {a b : Nat} (ha : a < 8) (hb : b < 8) : gC (d + 1) (0) (0) m_X6_owe1 [.ref 66, .int (nI a), .int (nI b)] (MH h r o) (Ret (some (.int (b2 (oweB r a b)))) (MH h r o)) := by
  refine gC.of (ls := [some (.ref 66), some (.int (nI a)), some (.int (nI b))]) (by decide +kernel) rfl rfl rfl rfl (Nat.le_of_ble_eq_true rfl) ?_
  refine r_iload_n 1 dX6_owe1_0 rfl rfl ?_
  refine r_iload_n 2 dX6_owe1_1 rfl rfl ?_
  refine r_icmp_eq 18 dX6_owe1_2 (by decide) (fun c_2 => ?_) (fun c_2 => ?_)
  · skip
    have n_2 : a = b := n_eq (by omega) (by omega) c_2
    refine r_iconst (v := nI 0) dX6_owe1_18 rfl ?_
    refine e_zret dX6_owe1_19 rfl (by decide) ?_
    exact ⟨by rw [oweB_f1 n_2]; rfl, rfl⟩
  · skip
    have n_2 : ¬ a = b := n_eqn (by omega) (by omega) c_2
    refine r_aload_n 0 dX6_owe1_5 rfl rfl rfl ?_
    refine r_iload_n 1 dX6_owe1_6 rfl rfl ?_
    refine r_iload_n 2 dX6_owe1_7 rfl rfl ?_
    refine r_callV_1 dX6_owe1_8 kX6_86 (M_debt (p := a) (w := b) hm (by omega)) (gRecv.of hm.s66 rfl) rfl rfl (Nat.le_of_ble_eq_true rfl) ?_
    refine r_if_le 18 dX6_owe1_11 (by decide) (fun c_11 => ?_) (fun c_11 => ?_)
    · skip
      refine r_iconst (v := nI 0) dX6_owe1_18 rfl ?_
      refine e_zret dX6_owe1_19 rfl (by decide) ?_
      exact ⟨by rw [oweB_f2 c_11]; rfl, rfl⟩
    · skip
      refine r_iconst (v := nI 1) dX6_owe1_14 rfl ?_
      refine r_goto 19 dX6_owe1_15 (by decide) ?_
      refine e_zret dX6_owe1_19 rfl (by decide) ?_
      exact ⟨by rw [oweB_t n_2 (i_nle c_11)]; rfl, rfl⟩
theorem M_findTwo_L {d : Nat} {h : Hp} (hm : LayM (hS h) (hR h)) {r : Row} {n : Nat} (hn : r 2 = nI n) (hn8 : n ≤ 8) : ∀ (k c : Nat) (o : Row), c + k = n * n → gG (d + 2) (0) (0) m_X6_findTwo 2 [some (.ref 66), some (.int (nI c))] [] (MH h r o) (FT h r n o (fndF (twP r n) k c)) := by
  have hs8 := sq8 hn8
  intro k
  induction k with
  | zero =>
    intro c o hc
    refine r_iload_n 1 dX6_findTwo_2 rfl rfl ?_
    refine r_aload_n 0 dX6_findTwo_3 rfl rfl rfl ?_
    refine r_getr (k := 0) (b := 67) dX6_findTwo_4 hm.s66 rfl (by decide) (Or.inl q1416) (Or.inl rfl) rfl hm.r_row ?_
    refine r_iconst (v := nI 2) dX6_findTwo_7 rfl ?_
    refine r_ialdN (2) dX6_findTwo_8 hm.s67 rfl (by omega) (by decide) ?_
    refine r_eqi (show _ = nI (n) from hn) ?_
    refine r_aload_n 0 dX6_findTwo_9 rfl rfl rfl ?_
    refine r_getr (k := 0) (b := 67) dX6_findTwo_10 hm.s66 rfl (by decide) (Or.inl q1416) (Or.inl rfl) rfl hm.r_row ?_
    refine r_iconst (v := nI 2) dX6_findTwo_13 rfl ?_
    refine r_ialdN (2) dX6_findTwo_14 hm.s67 rfl (by omega) (by decide) ?_
    refine r_eqi (show _ = nI (n) from hn) ?_
    refine r_imul dX6_findTwo_15 ?_
    refine r_icmp_ge 97 dX6_findTwo_16 (by decide) (fun c_16 => ?_) (fun c_16 => ?_)
    · skip
      have n_16 : (n * n) ≤ c := n_ge (by omega) (by omega) (by simp only [pk_mul, nI_add] at c_16; exact c_16)
      refine r_iconst (v := nI 0) dX6_findTwo_97 rfl ?_
      refine e_zret dX6_findTwo_98 rfl (by decide) ?_
      exact ⟨_, Jo.r, rfl, Or.inr ⟨rfl, rfl⟩⟩
    · skip
      have n_16 : c < (n * n) := n_gen (by omega) (by omega) (by simp only [pk_mul, nI_add] at c_16; exact c_16)
      exact absurd n_16 (by omega)
  | succ k ih =>
  intro c o hc
  obtain ⟨h0, hA, hB⟩ := tw_bd (n := n) (c := c) (by omega)
  refine r_iload_n 1 dX6_findTwo_2 rfl rfl ?_
  refine r_aload_n 0 dX6_findTwo_3 rfl rfl rfl ?_
  refine r_getr (k := 0) (b := 67) dX6_findTwo_4 hm.s66 rfl (by decide) (Or.inl q1416) (Or.inl rfl) rfl hm.r_row ?_
  refine r_iconst (v := nI 2) dX6_findTwo_7 rfl ?_
  refine r_ialdN (2) dX6_findTwo_8 hm.s67 rfl (by omega) (by decide) ?_
  refine r_eqi (show _ = nI (n) from hn) ?_
  refine r_aload_n 0 dX6_findTwo_9 rfl rfl rfl ?_
  refine r_getr (k := 0) (b := 67) dX6_findTwo_10 hm.s66 rfl (by decide) (Or.inl q1416) (Or.inl rfl) rfl hm.r_row ?_
  refine r_iconst (v := nI 2) dX6_findTwo_13 rfl ?_
  refine r_ialdN (2) dX6_findTwo_14 hm.s67 rfl (by omega) (by decide) ?_
  refine r_eqi (show _ = nI (n) from hn) ?_
  refine r_imul dX6_findTwo_15 ?_
  refine r_icmp_ge 97 dX6_findTwo_16 (by decide) (fun c_16 => ?_) (fun c_16 => ?_)
  · skip
    have n_16 : (n * n) ≤ c := n_ge (by omega) (by omega) (by simp only [pk_mul, nI_add] at c_16; exact c_16)
    exact absurd n_16 (by omega)
  · skip
    have n_16 : c < (n * n) := n_gen (by omega) (by omega) (by simp only [pk_mul, nI_add] at c_16; exact c_16)
    refine r_aload_n 0 dX6_findTwo_19 rfl rfl rfl ?_
    refine r_iload_n 1 dX6_findTwo_20 rfl rfl ?_
    refine r_aload_n 0 dX6_findTwo_21 rfl rfl rfl ?_
    refine r_getr (k := 0) (b := 67) dX6_findTwo_22 hm.s66 rfl (by decide) (Or.inl q1416) (Or.inl rfl) rfl hm.r_row ?_
    refine r_iconst (v := nI 2) dX6_findTwo_25 rfl ?_
    refine r_ialdN (2) dX6_findTwo_26 hm.s67 rfl (by omega) (by decide) ?_
    refine r_eqi (show _ = nI (n) from hn) ?_
    refine r_idiv dX6_findTwo_27 (nI_ne0 (by omega) (by omega)) ?_
    refine r_eqi (show _ = nI ((c / n)) from nI_div (by omega) (by omega)) ?_
    refine r_puti (k := 16) dX6_findTwo_28 hm.s66 rfl (by decide) (Or.inl q1432) (Or.inl rfl) (Or.inl rfl) rfl rfl rfl ?_
    refine gG_h (MH_66 _ _ _ _ _) ?_
    refine r_aload_n 0 dX6_findTwo_31 rfl rfl rfl ?_
    refine r_iload_n 1 dX6_findTwo_32 rfl rfl ?_
    refine r_aload_n 0 dX6_findTwo_33 rfl rfl rfl ?_
    refine r_getr (k := 0) (b := 67) dX6_findTwo_34 hm.s66 rfl (by decide) (Or.inl q1416) (Or.inl rfl) rfl hm.r_row ?_
    refine r_iconst (v := nI 2) dX6_findTwo_37 rfl ?_
    refine r_ialdN (2) dX6_findTwo_38 hm.s67 rfl (by omega) (by decide) ?_
    refine r_eqi (show _ = nI (n) from hn) ?_
    refine r_irem dX6_findTwo_39 (nI_ne0 (by omega) (by omega)) ?_
    refine r_eqi (show _ = nI ((c % n)) from nI_rem (by omega) (by omega)) ?_
    refine r_puti (k := 17) dX6_findTwo_40 hm.s66 rfl (by decide) (Or.inl q1433) (Or.inl rfl) (Or.inl rfl) rfl rfl rfl ?_
    refine gG_h (MH_66 _ _ _ _ _) ?_
    refine r_aload_n 0 dX6_findTwo_43 rfl rfl rfl ?_
    refine r_iconst (v := (-1)) dX6_findTwo_44 (by decide +kernel) ?_
    refine r_puti (k := 18) dX6_findTwo_45 hm.s66 rfl (by decide) (Or.inl q1434) (Or.inl rfl) (Or.inl rfl) rfl rfl rfl ?_
    refine gG_h (MH_66 _ _ _ _ _) ?_
    refine r_aload_n 0 dX6_findTwo_48 rfl rfl rfl ?_
    refine r_geti (k := 17) dX6_findTwo_49 hm.s66 rfl (by decide) (Or.inl q1433) (Or.inl rfl) rfl ?_
    refine r_eqi (show _ = nI ((c % n)) from rfl) ?_
    refine r_aload_n 0 dX6_findTwo_52 rfl rfl rfl ?_
    refine r_geti (k := 16) dX6_findTwo_53 hm.s66 rfl (by decide) (Or.inl q1432) (Or.inl rfl) rfl ?_
    refine r_eqi (show _ = nI ((c / n)) from rfl) ?_
    refine r_icmp_le 91 dX6_findTwo_56 (by decide) (fun c_56 => ?_) (fun c_56 => ?_)
    · skip
      have n_56 : (c % n) ≤ (c / n) := n_le (by omega) (by omega) c_56
      refine r_iinc dX6_findTwo_91 rfl (by decide) rfl ?_
      refine gG_ls (ls' := [_, some (.int (nI ((c + 1))))]) (by rw [show (Int32.ofInt 1) = nI 1 from rfl, nI_add]; rfl) ?_
      refine r_goto 2 dX6_findTwo_94 (by decide) ?_
      rw [fndF_f (an_f1 (decide_eq_false (Nat.not_lt.mpr n_56)))]
      exact gG_mono (fun out h9 q => FT.t ((((Jo.r).t (Jo.u (by decide))).t (Jo.u (by decide))).t (Jo.u (by decide))) q) (ih (c + 1) _ (by omega))
    · skip
      have n_56 : (c / n) < (c % n) := n_len (by omega) (by omega) c_56
      refine r_aload_n 0 dX6_findTwo_59 rfl rfl rfl ?_
      refine r_aload_n 0 dX6_findTwo_60 rfl rfl rfl ?_
      refine r_geti (k := 16) dX6_findTwo_61 hm.s66 rfl (by decide) (Or.inl q1432) (Or.inl rfl) rfl ?_
      refine r_eqi (show _ = nI ((c / n)) from rfl) ?_
      refine r_aload_n 0 dX6_findTwo_64 rfl rfl rfl ?_
      refine r_geti (k := 17) dX6_findTwo_65 hm.s66 rfl (by decide) (Or.inl q1433) (Or.inl rfl) rfl ?_
      refine r_eqi (show _ = nI ((c % n)) from rfl) ?_
      refine r_callV_1 dX6_findTwo_68 kX6_202 (M_owe1 (a := (c / n)) (b := (c % n)) hm (by omega) (by omega)) (gRecv.of hm.s66 rfl) rfl rfl (Nat.le_of_ble_eq_true rfl) ?_
      refine r_if_eq 91 dX6_findTwo_71 (by decide) (fun c_71 => ?_) (fun c_71 => ?_)
      · skip
        have n_71 : (oweB r (c / n) (c % n)) = false := b2_f c_71
        refine r_iinc dX6_findTwo_91 rfl (by decide) rfl ?_
        refine gG_ls (ls' := [_, some (.int (nI ((c + 1))))]) (by rw [show (Int32.ofInt 1) = nI 1 from rfl, nI_add]; rfl) ?_
        refine r_goto 2 dX6_findTwo_94 (by decide) ?_
        rw [fndF_f (an_f2 (an_f1 n_71))]
        exact gG_mono (fun out h9 q => FT.t ((((Jo.r).t (Jo.u (by decide))).t (Jo.u (by decide))).t (Jo.u (by decide))) q) (ih (c + 1) _ (by omega))
      · skip
        have n_71 : (oweB r (c / n) (c % n)) = true := b2_t c_71
        refine r_aload_n 0 dX6_findTwo_74 rfl rfl rfl ?_
        refine r_aload_n 0 dX6_findTwo_75 rfl rfl rfl ?_
        refine r_geti (k := 17) dX6_findTwo_76 hm.s66 rfl (by decide) (Or.inl q1433) (Or.inl rfl) rfl ?_
        refine r_eqi (show _ = nI ((c % n)) from rfl) ?_
        refine r_aload_n 0 dX6_findTwo_79 rfl rfl rfl ?_
        refine r_geti (k := 16) dX6_findTwo_80 hm.s66 rfl (by decide) (Or.inl q1432) (Or.inl rfl) rfl ?_
        refine r_eqi (show _ = nI ((c / n)) from rfl) ?_
        refine r_callV_1 dX6_findTwo_83 kX6_202 (M_owe1 (a := (c % n)) (b := (c / n)) hm (by omega) (by omega)) (gRecv.of hm.s66 rfl) rfl rfl (Nat.le_of_ble_eq_true rfl) ?_
        refine r_if_eq 91 dX6_findTwo_86 (by decide) (fun c_86 => ?_) (fun c_86 => ?_)
        · skip
          have n_86 : (oweB r (c % n) (c / n)) = false := b2_f c_86
          refine r_iinc dX6_findTwo_91 rfl (by decide) rfl ?_
          refine gG_ls (ls' := [_, some (.int (nI ((c + 1))))]) (by rw [show (Int32.ofInt 1) = nI 1 from rfl, nI_add]; rfl) ?_
          refine r_goto 2 dX6_findTwo_94 (by decide) ?_
          rw [fndF_f (an_f2 (an_f2 n_86))]
          exact gG_mono (fun out h9 q => FT.t ((((Jo.r).t (Jo.u (by decide))).t (Jo.u (by decide))).t (Jo.u (by decide))) q) (ih (c + 1) _ (by omega))
        · skip
          have n_86 : (oweB r (c % n) (c / n)) = true := b2_t c_86
          refine r_iconst (v := nI 1) dX6_findTwo_89 rfl ?_
          refine e_zret dX6_findTwo_90 rfl (by decide) ?_
          rw [fndF_t (an_t (decide_eq_true n_56) (an_t n_71 n_86))]
          exact ⟨_, (((Jo.r).t (Jo.u (by decide))).t (Jo.u (by decide))).t (Jo.u (by decide)), rfl, Or.inl ⟨c, rfl, by omega, rfl, rfl, rfl, rfl⟩⟩
theorem M_findTwo {d : Nat} {h : Hp} (hm : LayM (hS h) (hR h)) {r o : Row} {n : Nat} (hn : r 2 = nI n) (hn8 : n ≤ 8) : gC (d + 2) (0) (0) m_X6_findTwo [.ref 66] (MH h r o) (FT h r n o (fndF (twP r n) (n * n) 0)) := by
  refine gC.of (ls := [some (.ref 66), none]) (by decide +kernel) rfl rfl rfl rfl (Nat.le_of_ble_eq_true rfl) ?_
  refine r_iconst (v := nI 0) dX6_findTwo_0 rfl ?_
  refine r_istore_n 1 dX6_findTwo_1 rfl (by decide) rfl ?_
  refine gG_ls (ls' := [_, _]) rfl ?_
  exact M_findTwo_L hm hn hn8 (n * n) 0 o (by omega)
theorem M_findThree_L {d : Nat} {h : Hp} (hm : LayM (hS h) (hR h)) {r : Row} {n : Nat} (hn : r 2 = nI n) (hn8 : n ≤ 8) : ∀ (k c : Nat) (o : Row), c + k = n * n * n → gG (d + 2) (0) (0) m_X6_findThree 9 [some (.ref 66), some (.int (nI n)), some (.int (nI c))] [] (MH h r o) (FT3 h r n o (fndF (thP r n) k c)) := by
  have hs8 := sq8 hn8
  have hc8 := cb8 hn8
  intro k
  induction k with
  | zero =>
    intro c o hc
    refine r_iload_n 2 dX6_findThree_9 rfl rfl ?_
    refine r_iload_n 1 dX6_findThree_10 rfl rfl ?_
    refine r_iload_n 1 dX6_findThree_11 rfl rfl ?_
    refine r_imul dX6_findThree_12 ?_
    refine r_eqi (show _ = nI (n * n) from by simp only [pk_mul, nI_add]) ?_
    refine r_iload_n 1 dX6_findThree_13 rfl rfl ?_
    refine r_imul dX6_findThree_14 ?_
    refine r_icmp_ge 118 dX6_findThree_15 (by decide) (fun c_15 => ?_) (fun c_15 => ?_)
    · skip
      have n_15 : ((n * n) * n) ≤ c := n_ge (by omega) (by omega) (by simp only [pk_mul, nI_add] at c_15; exact c_15)
      refine r_iconst (v := nI 0) dX6_findThree_118 rfl ?_
      refine e_zret dX6_findThree_119 rfl (by decide) ?_
      exact ⟨_, Jo.r, rfl, Or.inr ⟨rfl, rfl⟩⟩
    · skip
      have n_15 : c < ((n * n) * n) := n_gen (by omega) (by omega) (by simp only [pk_mul, nI_add] at c_15; exact c_15)
      exact absurd n_15 (by omega)
  | succ k ih =>
  intro c o hc
  obtain ⟨h0, h00, hA, hB, hC⟩ := th_bd (n := n) (c := c) (by omega)
  refine r_iload_n 2 dX6_findThree_9 rfl rfl ?_
  refine r_iload_n 1 dX6_findThree_10 rfl rfl ?_
  refine r_iload_n 1 dX6_findThree_11 rfl rfl ?_
  refine r_imul dX6_findThree_12 ?_
  refine r_eqi (show _ = nI (n * n) from by simp only [pk_mul, nI_add]) ?_
  refine r_iload_n 1 dX6_findThree_13 rfl rfl ?_
  refine r_imul dX6_findThree_14 ?_
  refine r_icmp_ge 118 dX6_findThree_15 (by decide) (fun c_15 => ?_) (fun c_15 => ?_)
  · skip
    have n_15 : ((n * n) * n) ≤ c := n_ge (by omega) (by omega) (by simp only [pk_mul, nI_add] at c_15; exact c_15)
    exact absurd n_15 (by omega)
  · skip
    have n_15 : c < ((n * n) * n) := n_gen (by omega) (by omega) (by simp only [pk_mul, nI_add] at c_15; exact c_15)
    refine r_aload_n 0 dX6_findThree_18 rfl rfl rfl ?_
    refine r_iload_n 2 dX6_findThree_19 rfl rfl ?_
    refine r_iload_n 1 dX6_findThree_20 rfl rfl ?_
    refine r_iload_n 1 dX6_findThree_21 rfl rfl ?_
    refine r_imul dX6_findThree_22 ?_
    refine r_eqi (show _ = nI (n * n) from by simp only [pk_mul, nI_add]) ?_
    refine r_idiv dX6_findThree_23 (nI_ne0 (by omega) (by omega)) ?_
    refine r_eqi (show _ = nI ((c / (n * n))) from nI_div (by omega) (by omega)) ?_
    refine r_puti (k := 16) dX6_findThree_24 hm.s66 rfl (by decide) (Or.inl q1432) (Or.inl rfl) (Or.inl rfl) rfl rfl rfl ?_
    refine gG_h (MH_66 _ _ _ _ _) ?_
    refine r_aload_n 0 dX6_findThree_27 rfl rfl rfl ?_
    refine r_iload_n 2 dX6_findThree_28 rfl rfl ?_
    refine r_iload_n 1 dX6_findThree_29 rfl rfl ?_
    refine r_idiv dX6_findThree_30 (nI_ne0 (by omega) (by omega)) ?_
    refine r_eqi (show _ = nI ((c / n)) from nI_div (by omega) (by omega)) ?_
    refine r_iload_n 1 dX6_findThree_31 rfl rfl ?_
    refine r_irem dX6_findThree_32 (nI_ne0 (by omega) (by omega)) ?_
    refine r_eqi (show _ = nI ((c / n % n)) from nI_rem (by have := Nat.div_le_self c n; omega) (by omega)) ?_
    refine r_puti (k := 17) dX6_findThree_33 hm.s66 rfl (by decide) (Or.inl q1433) (Or.inl rfl) (Or.inl rfl) rfl rfl rfl ?_
    refine gG_h (MH_66 _ _ _ _ _) ?_
    refine r_aload_n 0 dX6_findThree_36 rfl rfl rfl ?_
    refine r_iload_n 2 dX6_findThree_37 rfl rfl ?_
    refine r_iload_n 1 dX6_findThree_38 rfl rfl ?_
    refine r_irem dX6_findThree_39 (nI_ne0 (by omega) (by omega)) ?_
    refine r_eqi (show _ = nI ((c % n)) from nI_rem (by omega) (by omega)) ?_
    refine r_puti (k := 18) dX6_findThree_40 hm.s66 rfl (by decide) (Or.inl q1434) (Or.inl rfl) (Or.inl rfl) rfl rfl rfl ?_
    refine gG_h (MH_66 _ _ _ _ _) ?_
    refine r_aload_n 0 dX6_findThree_43 rfl rfl rfl ?_
    refine r_geti (k := 17) dX6_findThree_44 hm.s66 rfl (by decide) (Or.inl q1433) (Or.inl rfl) rfl ?_
    refine r_eqi (show _ = nI ((c / n % n)) from rfl) ?_
    refine r_aload_n 0 dX6_findThree_47 rfl rfl rfl ?_
    refine r_geti (k := 16) dX6_findThree_48 hm.s66 rfl (by decide) (Or.inl q1432) (Or.inl rfl) rfl ?_
    refine r_eqi (show _ = nI ((c / (n * n))) from rfl) ?_
    refine r_icmp_le 112 dX6_findThree_51 (by decide) (fun c_51 => ?_) (fun c_51 => ?_)
    · skip
      have n_51 : (c / n % n) ≤ (c / (n * n)) := n_le (by omega) (by omega) c_51
      refine r_iinc dX6_findThree_112 rfl (by decide) rfl ?_
      refine gG_ls (ls' := [_, _, some (.int (nI ((c + 1))))]) (by rw [show (Int32.ofInt 1) = nI 1 from rfl, nI_add]; rfl) ?_
      refine r_goto 9 dX6_findThree_115 (by decide) ?_
      rw [fndF_f (an_f1 (decide_eq_false (Nat.not_lt.mpr n_51)))]
      exact gG_mono (fun out h9 q => FT3.t ((((Jo.r).t (Jo.u (by decide))).t (Jo.u (by decide))).t (Jo.u (by decide))) q) (ih (c + 1) _ (by omega))
    · skip
      have n_51 : (c / (n * n)) < (c / n % n) := n_len (by omega) (by omega) c_51
      refine r_aload_n 0 dX6_findThree_54 rfl rfl rfl ?_
      refine r_geti (k := 18) dX6_findThree_55 hm.s66 rfl (by decide) (Or.inl q1434) (Or.inl rfl) rfl ?_
      refine r_eqi (show _ = nI ((c % n)) from rfl) ?_
      refine r_aload_n 0 dX6_findThree_58 rfl rfl rfl ?_
      refine r_geti (k := 16) dX6_findThree_59 hm.s66 rfl (by decide) (Or.inl q1432) (Or.inl rfl) rfl ?_
      refine r_eqi (show _ = nI ((c / (n * n))) from rfl) ?_
      refine r_icmp_le 112 dX6_findThree_62 (by decide) (fun c_62 => ?_) (fun c_62 => ?_)
      · skip
        have n_62 : (c % n) ≤ (c / (n * n)) := n_le (by omega) (by omega) c_62
        refine r_iinc dX6_findThree_112 rfl (by decide) rfl ?_
        refine gG_ls (ls' := [_, _, some (.int (nI ((c + 1))))]) (by rw [show (Int32.ofInt 1) = nI 1 from rfl, nI_add]; rfl) ?_
        refine r_goto 9 dX6_findThree_115 (by decide) ?_
        rw [fndF_f (an_f2 (an_f1 (decide_eq_false (Nat.not_lt.mpr n_62))))]
        exact gG_mono (fun out h9 q => FT3.t ((((Jo.r).t (Jo.u (by decide))).t (Jo.u (by decide))).t (Jo.u (by decide))) q) (ih (c + 1) _ (by omega))
      · skip
        have n_62 : (c / (n * n)) < (c % n) := n_len (by omega) (by omega) c_62
        refine r_aload_n 0 dX6_findThree_65 rfl rfl rfl ?_
        refine r_aload_n 0 dX6_findThree_66 rfl rfl rfl ?_
        refine r_geti (k := 16) dX6_findThree_67 hm.s66 rfl (by decide) (Or.inl q1432) (Or.inl rfl) rfl ?_
        refine r_eqi (show _ = nI ((c / (n * n))) from rfl) ?_
        refine r_aload_n 0 dX6_findThree_70 rfl rfl rfl ?_
        refine r_geti (k := 17) dX6_findThree_71 hm.s66 rfl (by decide) (Or.inl q1433) (Or.inl rfl) rfl ?_
        refine r_eqi (show _ = nI ((c / n % n)) from rfl) ?_
        refine r_callV_1 dX6_findThree_74 kX6_202 (M_owe1 (a := (c / (n * n))) (b := (c / n % n)) hm (by omega) (by omega)) (gRecv.of hm.s66 rfl) rfl rfl (Nat.le_of_ble_eq_true rfl) ?_
        refine r_if_eq 112 dX6_findThree_77 (by decide) (fun c_77 => ?_) (fun c_77 => ?_)
        · skip
          have n_77 : (oweB r (c / (n * n)) (c / n % n)) = false := b2_f c_77
          refine r_iinc dX6_findThree_112 rfl (by decide) rfl ?_
          refine gG_ls (ls' := [_, _, some (.int (nI ((c + 1))))]) (by rw [show (Int32.ofInt 1) = nI 1 from rfl, nI_add]; rfl) ?_
          refine r_goto 9 dX6_findThree_115 (by decide) ?_
          rw [fndF_f (an_f2 (an_f2 (an_f1 n_77)))]
          exact gG_mono (fun out h9 q => FT3.t ((((Jo.r).t (Jo.u (by decide))).t (Jo.u (by decide))).t (Jo.u (by decide))) q) (ih (c + 1) _ (by omega))
        · skip
          have n_77 : (oweB r (c / (n * n)) (c / n % n)) = true := b2_t c_77
          refine r_aload_n 0 dX6_findThree_80 rfl rfl rfl ?_
          refine r_aload_n 0 dX6_findThree_81 rfl rfl rfl ?_
          refine r_geti (k := 17) dX6_findThree_82 hm.s66 rfl (by decide) (Or.inl q1433) (Or.inl rfl) rfl ?_
          refine r_eqi (show _ = nI ((c / n % n)) from rfl) ?_
          refine r_aload_n 0 dX6_findThree_85 rfl rfl rfl ?_
          refine r_geti (k := 18) dX6_findThree_86 hm.s66 rfl (by decide) (Or.inl q1434) (Or.inl rfl) rfl ?_
          refine r_eqi (show _ = nI ((c % n)) from rfl) ?_
          refine r_callV_1 dX6_findThree_89 kX6_202 (M_owe1 (a := (c / n % n)) (b := (c % n)) hm (by omega) (by omega)) (gRecv.of hm.s66 rfl) rfl rfl (Nat.le_of_ble_eq_true rfl) ?_
          refine r_if_eq 112 dX6_findThree_92 (by decide) (fun c_92 => ?_) (fun c_92 => ?_)
          · skip
            have n_92 : (oweB r (c / n % n) (c % n)) = false := b2_f c_92
            refine r_iinc dX6_findThree_112 rfl (by decide) rfl ?_
            refine gG_ls (ls' := [_, _, some (.int (nI ((c + 1))))]) (by rw [show (Int32.ofInt 1) = nI 1 from rfl, nI_add]; rfl) ?_
            refine r_goto 9 dX6_findThree_115 (by decide) ?_
            rw [fndF_f (an_f2 (an_f2 (an_f2 (an_f1 n_92))))]
            exact gG_mono (fun out h9 q => FT3.t ((((Jo.r).t (Jo.u (by decide))).t (Jo.u (by decide))).t (Jo.u (by decide))) q) (ih (c + 1) _ (by omega))
          · skip
            have n_92 : (oweB r (c / n % n) (c % n)) = true := b2_t c_92
            refine r_aload_n 0 dX6_findThree_95 rfl rfl rfl ?_
            refine r_aload_n 0 dX6_findThree_96 rfl rfl rfl ?_
            refine r_geti (k := 18) dX6_findThree_97 hm.s66 rfl (by decide) (Or.inl q1434) (Or.inl rfl) rfl ?_
            refine r_eqi (show _ = nI ((c % n)) from rfl) ?_
            refine r_aload_n 0 dX6_findThree_100 rfl rfl rfl ?_
            refine r_geti (k := 16) dX6_findThree_101 hm.s66 rfl (by decide) (Or.inl q1432) (Or.inl rfl) rfl ?_
            refine r_eqi (show _ = nI ((c / (n * n))) from rfl) ?_
            refine r_callV_1 dX6_findThree_104 kX6_202 (M_owe1 (a := (c % n)) (b := (c / (n * n))) hm (by omega) (by omega)) (gRecv.of hm.s66 rfl) rfl rfl (Nat.le_of_ble_eq_true rfl) ?_
            refine r_if_eq 112 dX6_findThree_107 (by decide) (fun c_107 => ?_) (fun c_107 => ?_)
            · skip
              have n_107 : (oweB r (c % n) (c / (n * n))) = false := b2_f c_107
              refine r_iinc dX6_findThree_112 rfl (by decide) rfl ?_
              refine gG_ls (ls' := [_, _, some (.int (nI ((c + 1))))]) (by rw [show (Int32.ofInt 1) = nI 1 from rfl, nI_add]; rfl) ?_
              refine r_goto 9 dX6_findThree_115 (by decide) ?_
              rw [fndF_f (an_f2 (an_f2 (an_f2 (an_f2 n_107))))]
              exact gG_mono (fun out h9 q => FT3.t ((((Jo.r).t (Jo.u (by decide))).t (Jo.u (by decide))).t (Jo.u (by decide))) q) (ih (c + 1) _ (by omega))
            · skip
              have n_107 : (oweB r (c % n) (c / (n * n))) = true := b2_t c_107
              refine r_iconst (v := nI 1) dX6_findThree_110 rfl ?_
              refine e_zret dX6_findThree_111 rfl (by decide) ?_
              rw [fndF_t (an_t (decide_eq_true n_51) (an_t (decide_eq_true n_62) (an_t n_77 (an_t n_92 n_107))))]
              exact ⟨_, (((Jo.r).t (Jo.u (by decide))).t (Jo.u (by decide))).t (Jo.u (by decide)), rfl, Or.inl ⟨c, rfl, by omega, rfl, rfl, rfl, rfl⟩⟩
theorem M_findThree {d : Nat} {h : Hp} (hm : LayM (hS h) (hR h)) {r o : Row} {n : Nat} (hn : r 2 = nI n) (hn8 : n ≤ 8) : gC (d + 2) (0) (0) m_X6_findThree [.ref 66] (MH h r o) (FT3 h r n o (fndF (thP r n) (n * n * n) 0)) := by
  refine gC.of (ls := [some (.ref 66), none, none]) (by decide +kernel) rfl rfl rfl rfl (Nat.le_of_ble_eq_true rfl) ?_
  refine r_aload_n 0 dX6_findThree_0 rfl rfl rfl ?_
  refine r_getr (k := 0) (b := 67) dX6_findThree_1 hm.s66 rfl (by decide) (Or.inl q1416) (Or.inl rfl) rfl hm.r_row ?_
  refine r_iconst (v := nI 2) dX6_findThree_4 rfl ?_
  refine r_ialdN (2) dX6_findThree_5 hm.s67 rfl (by omega) (by decide) ?_
  refine r_eqi (show _ = nI (n) from hn) ?_
  refine r_istore_n 1 dX6_findThree_6 rfl (by decide) rfl ?_
  refine gG_ls (ls' := [_, _, _]) rfl ?_
  refine r_iconst (v := nI 0) dX6_findThree_7 rfl ?_
  refine r_istore_n 2 dX6_findThree_8 rfl (by decide) rfl ?_
  refine gG_ls (ls' := [_, _, _]) rfl ?_
  exact M_findThree_L hm hn hn8 (n * n * n) 0 o (by omega)
theorem M_lessBy {d : Nat} {h : Hp} {r o : Row} (hm : LayM (hS h) (hR h)) {a b : Nat} {v : Int32} (ha : a < 8) (hb : b < 8) : gC (d) (0) (0) m_X6_lessBy [.ref 66, .int (nI a), .int (nI b), .int v] (MH h r o) (Ret none (MH h (lessR r a b v) o)) := by
  refine gC.of (ls := [some (.ref 66), some (.int (nI a)), some (.int (nI b)), some (.int v)]) (by decide +kernel) rfl rfl rfl rfl (Nat.le_of_ble_eq_true rfl) ?_
  refine r_aload_n 0 dX6_lessBy_0 rfl rfl rfl ?_
  refine r_getr (k := 0) (b := 67) dX6_lessBy_1 hm.s66 rfl (by decide) (Or.inl q1416) (Or.inl rfl) rfl hm.r_row ?_
  refine r_bipush (v := nI 47) dX6_lessBy_4 (by decide +kernel) ?_
  refine r_bipush (v := nI 8) dX6_lessBy_6 (by decide +kernel) ?_
  refine r_iload_n 1 dX6_lessBy_8 rfl rfl ?_
  refine r_imul dX6_lessBy_9 ?_
  refine r_iadd dX6_lessBy_10 ?_
  refine r_eqi (show _ = nI (47 + (8 * a)) from by simp only [pk_mul, nI_add]) ?_
  refine r_iload_n 2 dX6_lessBy_11 rfl rfl ?_
  refine r_iadd dX6_lessBy_12 ?_
  refine r_eqi (show _ = nI ((47 + (8 * a)) + b) from by simp only [pk_mul, nI_add]) ?_
  refine r_dup2 dX6_lessBy_13 rfl rfl ?_
  refine r_ialdN (((47 + (8 * a)) + b)) dX6_lessBy_14 hm.s67 rfl (by omega) (by decide) ?_
  refine r_iload_n 3 dX6_lessBy_15 rfl rfl ?_
  refine r_isub dX6_lessBy_16 ?_
  refine r_iastN (((47 + (8 * a)) + b)) dX6_lessBy_17 hm.s67 rfl (by omega) (by decide) ?_
  refine gG_h (MH_67 _ _ _ _ _) ?_
  refine e_vret dX6_lessBy_18 rfl ?_
  exact ⟨rfl, rfl⟩
theorem M_strikes_L {d : Nat} {h : Hp} (hm : LayM (hS h) (hR h)) {n : Nat} (hn8 : n ≤ 8) {Q : gQ} : ∀ (k : Nat) (r o : Row) (m : Nat) (y1 y2 : Option Value), msF r 64 < k → RowD r → r 2 = nI n → (∀ (o9 : Row) (y8 y9 : Option Value), Jo o o9 → gG (d + 3) (0) (0) m_X6_strikes 166 [some (.ref 66), some (.int (nI ((stF n k r m).2))), y8, y9] [] (MH h (stF n k r m).1 o9) (Q)) → gG (d + 3) (0) (0) m_X6_strikes 2 [some (.ref 66), some (.int (nI m)), y1, y2] [] (MH h r o) (Q) := by
  intro k
  induction k with
  | zero => exact fun r o m y1 y2 h1 => absurd h1 (by omega)
  | succ k ih =>
  intro r o m y1 y2 hk D hn kk
  refine r_aload_n 0 dX6_strikes_2 rfl rfl rfl ?_
  refine r_callFT dX6_strikes_3 kX6_205 (M_findTwo hm hn hn8) (gRecv.of hm.s66 rfl) rfl rfl (Nat.le_of_ble_eq_true rfl) (fun o_1 c j_1 hq1 hc1 h16 h17 h18 => ?_) (fun o_1 j_1 hq1 => ?_)
  · skip
    obtain ⟨h0, hA, hB⟩ := tw_bd hc1
    refine r_if_ne 16 dX6_strikes_6 (by decide) (fun c_6 => ?_) (fun c_6 => ?_)
    · skip
      have n_6 : ¬ 1 = 0 := n_ne0 (by omega) c_6
      refine r_aload_n 0 dX6_strikes_16 rfl rfl rfl ?_
      refine r_geti (k := 18) dX6_strikes_17 hm.s66 rfl (by decide) (Or.inl q1434) (Or.inl rfl) rfl ?_
      refine r_eqi (show _ = (-1) from h18) ?_
      refine r_if_ge 30 dX6_strikes_20 (by decide) (fun c_20 => ?_) (fun c_20 => ?_)
      · skip
        exact absurd c_20 (by decide)
      · skip
        refine r_aload_n 0 dX6_strikes_23 rfl rfl rfl ?_
        refine r_geti (k := 16) dX6_strikes_24 hm.s66 rfl (by decide) (Or.inl q1432) (Or.inl rfl) rfl ?_
        refine r_eqi (show _ = nI ((c / n)) from h16) ?_
        refine r_goto 34 dX6_strikes_27 (by decide) ?_
        refine r_istore_n 2 dX6_strikes_34 rfl (by decide) rfl ?_
        refine gG_ls (ls' := [_, _, _, _]) rfl ?_
        refine r_aload_n 0 dX6_strikes_35 rfl rfl rfl ?_
        refine r_aload_n 0 dX6_strikes_36 rfl rfl rfl ?_
        refine r_geti (k := 16) dX6_strikes_37 hm.s66 rfl (by decide) (Or.inl q1432) (Or.inl rfl) rfl ?_
        refine r_eqi (show _ = nI ((c / n)) from h16) ?_
        refine r_aload_n 0 dX6_strikes_40 rfl rfl rfl ?_
        refine r_geti (k := 17) dX6_strikes_41 hm.s66 rfl (by decide) (Or.inl q1433) (Or.inl rfl) rfl ?_
        refine r_eqi (show _ = nI ((c % n)) from h17) ?_
        refine r_callV_1 dX6_strikes_44 kX6_86 (M_debt (p := (c / n)) (w := (c % n)) hm (by omega)) (gRecv.of hm.s66 rfl) rfl rfl (Nat.le_of_ble_eq_true rfl) ?_
        refine r_aload_n 0 dX6_strikes_47 rfl rfl rfl ?_
        refine r_aload_n 0 dX6_strikes_48 rfl rfl rfl ?_
        refine r_geti (k := 17) dX6_strikes_49 hm.s66 rfl (by decide) (Or.inl q1433) (Or.inl rfl) rfl ?_
        refine r_eqi (show _ = nI ((c % n)) from h17) ?_
        refine r_iload_n 2 dX6_strikes_52 rfl rfl ?_
        refine r_callV_1 dX6_strikes_53 kX6_86 (M_debt (p := (c % n)) (w := (c / n)) hm (by omega)) (gRecv.of hm.s66 rfl) rfl rfl (Nat.le_of_ble_eq_true rfl) ?_
        refine r_icmp_ge 74 dX6_strikes_56 (by decide) (fun c_56 => ?_) (fun c_56 => ?_)
        · skip
          refine r_aload_n 0 dX6_strikes_74 rfl rfl rfl ?_
          refine r_aload_n 0 dX6_strikes_75 rfl rfl rfl ?_
          refine r_geti (k := 17) dX6_strikes_76 hm.s66 rfl (by decide) (Or.inl q1433) (Or.inl rfl) rfl ?_
          refine r_eqi (show _ = nI ((c % n)) from h17) ?_
          refine r_iload_n 2 dX6_strikes_79 rfl rfl ?_
          refine r_callV_1 dX6_strikes_80 kX6_86 (M_debt (p := (c % n)) (w := (c / n)) hm (by omega)) (gRecv.of hm.s66 rfl) rfl rfl (Nat.le_of_ble_eq_true rfl) ?_
          refine r_istore_n 3 dX6_strikes_83 rfl (by decide) rfl ?_
          refine gG_ls (ls' := [_, _, _, _]) rfl ?_
          refine r_aload_n 0 dX6_strikes_84 rfl rfl rfl ?_
          refine r_geti (k := 18) dX6_strikes_85 hm.s66 rfl (by decide) (Or.inl q1434) (Or.inl rfl) rfl ?_
          refine r_eqi (show _ = (-1) from h18) ?_
          refine r_if_lt 137 dX6_strikes_88 (by decide) (fun c_88 => ?_) (fun c_88 => ?_)
          · skip
            refine r_aload_n 0 dX6_strikes_137 rfl rfl rfl ?_
            refine r_aload_n 0 dX6_strikes_138 rfl rfl rfl ?_
            refine r_geti (k := 16) dX6_strikes_139 hm.s66 rfl (by decide) (Or.inl q1432) (Or.inl rfl) rfl ?_
            refine r_eqi (show _ = nI ((c / n)) from h16) ?_
            refine r_aload_n 0 dX6_strikes_142 rfl rfl rfl ?_
            refine r_geti (k := 17) dX6_strikes_143 hm.s66 rfl (by decide) (Or.inl q1433) (Or.inl rfl) rfl ?_
            refine r_eqi (show _ = nI ((c % n)) from h17) ?_
            refine r_iload_n 3 dX6_strikes_146 rfl rfl ?_
            refine r_callV_0 dX6_strikes_147 kX6_212 (M_lessBy (a := (c / n)) (b := (c % n)) hm (by omega) (by omega)) (gRecv.of hm.s66 rfl) rfl rfl (Nat.le_of_ble_eq_true rfl) ?_
            refine r_aload_n 0 dX6_strikes_150 rfl rfl rfl ?_
            refine r_aload_n 0 dX6_strikes_151 rfl rfl rfl ?_
            refine r_geti (k := 17) dX6_strikes_152 hm.s66 rfl (by decide) (Or.inl q1433) (Or.inl rfl) rfl ?_
            refine r_eqi (show _ = nI ((c % n)) from h17) ?_
            refine r_iload_n 2 dX6_strikes_155 rfl rfl ?_
            refine r_iload_n 3 dX6_strikes_156 rfl rfl ?_
            refine r_callV_0 dX6_strikes_157 kX6_212 (M_lessBy (a := (c % n)) (b := (c / n)) hm (by omega) (by omega)) (gRecv.of hm.s66 rfl) rfl rfl (Nat.le_of_ble_eq_true rfl) ?_
            refine r_iinc dX6_strikes_160 rfl (by decide) rfl ?_
            refine gG_ls (ls' := [_, some (.int (nI ((m + 1)))), _, _]) (by rw [show (Int32.ofInt 1) = nI 1 from rfl, nI_add]; rfl) ?_
            refine r_goto 2 dX6_strikes_163 (by decide) ?_
            obtain ⟨D1, m1, f1⟩ := tw_ok D hn8 hq1
            rw [stF_2 hq1] at kk
            refine gG_h (show _ = MH h (stk2 r (c / n) (c % n)) _ from by unfold stk2; (first | rw [minI_f (i_le_nlt c_56)] | rw [minI_t (i_nle c_56)]) <;> rfl) ?_
            exact ih _ _ (m + 1) _ _ (by omega) D1 ((f1 2 (by omega)).trans hn) (fun o9 y8 y9 j9 => kk o9 y8 y9 ((j_1).t j9))
          · skip
            exact absurd (by decide) c_88
        · skip
          refine r_aload_n 0 dX6_strikes_59 rfl rfl rfl ?_
          refine r_aload_n 0 dX6_strikes_60 rfl rfl rfl ?_
          refine r_geti (k := 16) dX6_strikes_61 hm.s66 rfl (by decide) (Or.inl q1432) (Or.inl rfl) rfl ?_
          refine r_eqi (show _ = nI ((c / n)) from h16) ?_
          refine r_aload_n 0 dX6_strikes_64 rfl rfl rfl ?_
          refine r_geti (k := 17) dX6_strikes_65 hm.s66 rfl (by decide) (Or.inl q1433) (Or.inl rfl) rfl ?_
          refine r_eqi (show _ = nI ((c % n)) from h17) ?_
          refine r_callV_1 dX6_strikes_68 kX6_86 (M_debt (p := (c / n)) (w := (c % n)) hm (by omega)) (gRecv.of hm.s66 rfl) rfl rfl (Nat.le_of_ble_eq_true rfl) ?_
          refine r_goto 83 dX6_strikes_71 (by decide) ?_
          refine r_istore_n 3 dX6_strikes_83 rfl (by decide) rfl ?_
          refine gG_ls (ls' := [_, _, _, _]) rfl ?_
          refine r_aload_n 0 dX6_strikes_84 rfl rfl rfl ?_
          refine r_geti (k := 18) dX6_strikes_85 hm.s66 rfl (by decide) (Or.inl q1434) (Or.inl rfl) rfl ?_
          refine r_eqi (show _ = (-1) from h18) ?_
          refine r_if_lt 137 dX6_strikes_88 (by decide) (fun c_88 => ?_) (fun c_88 => ?_)
          · skip
            refine r_aload_n 0 dX6_strikes_137 rfl rfl rfl ?_
            refine r_aload_n 0 dX6_strikes_138 rfl rfl rfl ?_
            refine r_geti (k := 16) dX6_strikes_139 hm.s66 rfl (by decide) (Or.inl q1432) (Or.inl rfl) rfl ?_
            refine r_eqi (show _ = nI ((c / n)) from h16) ?_
            refine r_aload_n 0 dX6_strikes_142 rfl rfl rfl ?_
            refine r_geti (k := 17) dX6_strikes_143 hm.s66 rfl (by decide) (Or.inl q1433) (Or.inl rfl) rfl ?_
            refine r_eqi (show _ = nI ((c % n)) from h17) ?_
            refine r_iload_n 3 dX6_strikes_146 rfl rfl ?_
            refine r_callV_0 dX6_strikes_147 kX6_212 (M_lessBy (a := (c / n)) (b := (c % n)) hm (by omega) (by omega)) (gRecv.of hm.s66 rfl) rfl rfl (Nat.le_of_ble_eq_true rfl) ?_
            refine r_aload_n 0 dX6_strikes_150 rfl rfl rfl ?_
            refine r_aload_n 0 dX6_strikes_151 rfl rfl rfl ?_
            refine r_geti (k := 17) dX6_strikes_152 hm.s66 rfl (by decide) (Or.inl q1433) (Or.inl rfl) rfl ?_
            refine r_eqi (show _ = nI ((c % n)) from h17) ?_
            refine r_iload_n 2 dX6_strikes_155 rfl rfl ?_
            refine r_iload_n 3 dX6_strikes_156 rfl rfl ?_
            refine r_callV_0 dX6_strikes_157 kX6_212 (M_lessBy (a := (c % n)) (b := (c / n)) hm (by omega) (by omega)) (gRecv.of hm.s66 rfl) rfl rfl (Nat.le_of_ble_eq_true rfl) ?_
            refine r_iinc dX6_strikes_160 rfl (by decide) rfl ?_
            refine gG_ls (ls' := [_, some (.int (nI ((m + 1)))), _, _]) (by rw [show (Int32.ofInt 1) = nI 1 from rfl, nI_add]; rfl) ?_
            refine r_goto 2 dX6_strikes_163 (by decide) ?_
            obtain ⟨D1, m1, f1⟩ := tw_ok D hn8 hq1
            rw [stF_2 hq1] at kk
            refine gG_h (show _ = MH h (stk2 r (c / n) (c % n)) _ from by unfold stk2; (first | rw [minI_f (i_le_nlt c_56)] | rw [minI_t (i_nle c_56)]) <;> rfl) ?_
            exact ih _ _ (m + 1) _ _ (by omega) D1 ((f1 2 (by omega)).trans hn) (fun o9 y8 y9 j9 => kk o9 y8 y9 ((j_1).t j9))
          · skip
            exact absurd (by decide) c_88
    · skip
      have n_6 : 1 = 0 := n_eq0 (by omega) c_6
      exact absurd n_6 (by decide)
  · skip
    refine r_if_ne 16 dX6_strikes_6 (by decide) (fun c_6 => ?_) (fun c_6 => ?_)
    · skip
      have n_6 : ¬ 0 = 0 := n_ne0 (by omega) c_6
      exact absurd n_6 (by decide)
    · skip
      have n_6 : 0 = 0 := n_eq0 (by omega) c_6
      refine r_aload_n 0 dX6_strikes_9 rfl rfl rfl ?_
      refine r_callFT3 dX6_strikes_10 kX6_209 (M_findThree hm hn hn8) (gRecv.of hm.s66 rfl) rfl rfl (Nat.le_of_ble_eq_true rfl) (fun o_2 c j_2 hq2 hc2 h16 h17 h18 => ?_) (fun o_2 j_2 hq2 => ?_)
      · skip
        obtain ⟨h0, h00, hA, hB, hC⟩ := th_bd hc2
        refine r_if_eq 166 dX6_strikes_13 (by decide) (fun c_13 => ?_) (fun c_13 => ?_)
        · skip
          have n_13 : 1 = 0 := n_eq0 (by omega) c_13
          exact absurd n_13 (by decide)
        · skip
          have n_13 : ¬ 1 = 0 := n_ne0 (by omega) c_13
          refine r_aload_n 0 dX6_strikes_16 rfl rfl rfl ?_
          refine r_geti (k := 18) dX6_strikes_17 hm.s66 rfl (by decide) (Or.inl q1434) (Or.inl rfl) rfl ?_
          refine r_eqi (show _ = nI ((c % n)) from h18) ?_
          refine r_if_ge 30 dX6_strikes_20 (by decide) (fun c_20 => ?_) (fun c_20 => ?_)
          · skip
            have n_20 : True := n_ge0 (by omega) c_20
            refine r_aload_n 0 dX6_strikes_30 rfl rfl rfl ?_
            refine r_geti (k := 18) dX6_strikes_31 hm.s66 rfl (by decide) (Or.inl q1434) (Or.inl rfl) rfl ?_
            refine r_eqi (show _ = nI ((c % n)) from h18) ?_
            refine r_istore_n 2 dX6_strikes_34 rfl (by decide) rfl ?_
            refine gG_ls (ls' := [_, _, _, _]) rfl ?_
            refine r_aload_n 0 dX6_strikes_35 rfl rfl rfl ?_
            refine r_aload_n 0 dX6_strikes_36 rfl rfl rfl ?_
            refine r_geti (k := 16) dX6_strikes_37 hm.s66 rfl (by decide) (Or.inl q1432) (Or.inl rfl) rfl ?_
            refine r_eqi (show _ = nI ((c / (n * n))) from h16) ?_
            refine r_aload_n 0 dX6_strikes_40 rfl rfl rfl ?_
            refine r_geti (k := 17) dX6_strikes_41 hm.s66 rfl (by decide) (Or.inl q1433) (Or.inl rfl) rfl ?_
            refine r_eqi (show _ = nI ((c / n % n)) from h17) ?_
            refine r_callV_1 dX6_strikes_44 kX6_86 (M_debt (p := (c / (n * n))) (w := (c / n % n)) hm (by omega)) (gRecv.of hm.s66 rfl) rfl rfl (Nat.le_of_ble_eq_true rfl) ?_
            refine r_aload_n 0 dX6_strikes_47 rfl rfl rfl ?_
            refine r_aload_n 0 dX6_strikes_48 rfl rfl rfl ?_
            refine r_geti (k := 17) dX6_strikes_49 hm.s66 rfl (by decide) (Or.inl q1433) (Or.inl rfl) rfl ?_
            refine r_eqi (show _ = nI ((c / n % n)) from h17) ?_
            refine r_iload_n 2 dX6_strikes_52 rfl rfl ?_
            refine r_callV_1 dX6_strikes_53 kX6_86 (M_debt (p := (c / n % n)) (w := (c % n)) hm (by omega)) (gRecv.of hm.s66 rfl) rfl rfl (Nat.le_of_ble_eq_true rfl) ?_
            refine r_icmp_ge 74 dX6_strikes_56 (by decide) (fun c_56 => ?_) (fun c_56 => ?_)
            · skip
              refine r_aload_n 0 dX6_strikes_74 rfl rfl rfl ?_
              refine r_aload_n 0 dX6_strikes_75 rfl rfl rfl ?_
              refine r_geti (k := 17) dX6_strikes_76 hm.s66 rfl (by decide) (Or.inl q1433) (Or.inl rfl) rfl ?_
              refine r_eqi (show _ = nI ((c / n % n)) from h17) ?_
              refine r_iload_n 2 dX6_strikes_79 rfl rfl ?_
              refine r_callV_1 dX6_strikes_80 kX6_86 (M_debt (p := (c / n % n)) (w := (c % n)) hm (by omega)) (gRecv.of hm.s66 rfl) rfl rfl (Nat.le_of_ble_eq_true rfl) ?_
              refine r_istore_n 3 dX6_strikes_83 rfl (by decide) rfl ?_
              refine gG_ls (ls' := [_, _, _, _]) rfl ?_
              refine r_aload_n 0 dX6_strikes_84 rfl rfl rfl ?_
              refine r_geti (k := 18) dX6_strikes_85 hm.s66 rfl (by decide) (Or.inl q1434) (Or.inl rfl) rfl ?_
              refine r_eqi (show _ = nI ((c % n)) from h18) ?_
              refine r_if_lt 137 dX6_strikes_88 (by decide) (fun c_88 => ?_) (fun c_88 => ?_)
              · skip
                have n_88 : False := n_lt0 (by omega) c_88
                exact n_88.elim
              · skip
                have n_88 : True := n_lt0n (by omega) c_88
                refine r_aload_n 0 dX6_strikes_91 rfl rfl rfl ?_
                refine r_aload_n 0 dX6_strikes_92 rfl rfl rfl ?_
                refine r_geti (k := 18) dX6_strikes_93 hm.s66 rfl (by decide) (Or.inl q1434) (Or.inl rfl) rfl ?_
                refine r_eqi (show _ = nI ((c % n)) from h18) ?_
                refine r_aload_n 0 dX6_strikes_96 rfl rfl rfl ?_
                refine r_geti (k := 16) dX6_strikes_97 hm.s66 rfl (by decide) (Or.inl q1432) (Or.inl rfl) rfl ?_
                refine r_eqi (show _ = nI ((c / (n * n))) from h16) ?_
                refine r_callV_1 dX6_strikes_100 kX6_86 (M_debt (p := (c % n)) (w := (c / (n * n))) hm (by omega)) (gRecv.of hm.s66 rfl) rfl rfl (Nat.le_of_ble_eq_true rfl) ?_
                refine r_iload_n 3 dX6_strikes_103 rfl rfl ?_
                refine r_icmp_ge 122 dX6_strikes_104 (by decide) (fun c_104 => ?_) (fun c_104 => ?_)
                · skip
                  refine r_iload_n 3 dX6_strikes_122 rfl rfl ?_
                  refine r_istore_n 3 dX6_strikes_123 rfl (by decide) rfl ?_
                  refine gG_ls (ls' := [_, _, _, _]) rfl ?_
                  refine r_aload_n 0 dX6_strikes_124 rfl rfl rfl ?_
                  refine r_aload_n 0 dX6_strikes_125 rfl rfl rfl ?_
                  refine r_geti (k := 18) dX6_strikes_126 hm.s66 rfl (by decide) (Or.inl q1434) (Or.inl rfl) rfl ?_
                  refine r_eqi (show _ = nI ((c % n)) from h18) ?_
                  refine r_aload_n 0 dX6_strikes_129 rfl rfl rfl ?_
                  refine r_geti (k := 16) dX6_strikes_130 hm.s66 rfl (by decide) (Or.inl q1432) (Or.inl rfl) rfl ?_
                  refine r_eqi (show _ = nI ((c / (n * n))) from h16) ?_
                  refine r_iload_n 3 dX6_strikes_133 rfl rfl ?_
                  refine r_callV_0 dX6_strikes_134 kX6_212 (M_lessBy (a := (c % n)) (b := (c / (n * n))) hm (by omega) (by omega)) (gRecv.of hm.s66 rfl) rfl rfl (Nat.le_of_ble_eq_true rfl) ?_
                  refine r_aload_n 0 dX6_strikes_137 rfl rfl rfl ?_
                  refine r_aload_n 0 dX6_strikes_138 rfl rfl rfl ?_
                  refine r_geti (k := 16) dX6_strikes_139 hm.s66 rfl (by decide) (Or.inl q1432) (Or.inl rfl) rfl ?_
                  refine r_eqi (show _ = nI ((c / (n * n))) from h16) ?_
                  refine r_aload_n 0 dX6_strikes_142 rfl rfl rfl ?_
                  refine r_geti (k := 17) dX6_strikes_143 hm.s66 rfl (by decide) (Or.inl q1433) (Or.inl rfl) rfl ?_
                  refine r_eqi (show _ = nI ((c / n % n)) from h17) ?_
                  refine r_iload_n 3 dX6_strikes_146 rfl rfl ?_
                  refine r_callV_0 dX6_strikes_147 kX6_212 (M_lessBy (a := (c / (n * n))) (b := (c / n % n)) hm (by omega) (by omega)) (gRecv.of hm.s66 rfl) rfl rfl (Nat.le_of_ble_eq_true rfl) ?_
                  refine r_aload_n 0 dX6_strikes_150 rfl rfl rfl ?_
                  refine r_aload_n 0 dX6_strikes_151 rfl rfl rfl ?_
                  refine r_geti (k := 17) dX6_strikes_152 hm.s66 rfl (by decide) (Or.inl q1433) (Or.inl rfl) rfl ?_
                  refine r_eqi (show _ = nI ((c / n % n)) from h17) ?_
                  refine r_iload_n 2 dX6_strikes_155 rfl rfl ?_
                  refine r_iload_n 3 dX6_strikes_156 rfl rfl ?_
                  refine r_callV_0 dX6_strikes_157 kX6_212 (M_lessBy (a := (c / n % n)) (b := (c % n)) hm (by omega) (by omega)) (gRecv.of hm.s66 rfl) rfl rfl (Nat.le_of_ble_eq_true rfl) ?_
                  refine r_iinc dX6_strikes_160 rfl (by decide) rfl ?_
                  refine gG_ls (ls' := [_, some (.int (nI ((m + 1)))), _, _]) (by rw [show (Int32.ofInt 1) = nI 1 from rfl, nI_add]; rfl) ?_
                  refine r_goto 2 dX6_strikes_163 (by decide) ?_
                  obtain ⟨D1, m1, f1⟩ := th_ok D hn8 hq2
                  rw [stF_3 hq1 hq2] at kk
                  refine gG_h (show _ = MH h (stk3 r (c / (n * n)) (c / n % n) (c % n)) _ from by unfold stk3 lst3; (first | rw [minI_f (i_le_nlt c_56)] | rw [minI_t (i_nle c_56)]); (first | rw [minI_f (i_le_nlt c_104)] | rw [minI_t (i_nle c_104)]) <;> rfl) ?_
                  exact ih _ _ (m + 1) _ _ (by omega) D1 ((f1 2 (by omega)).trans hn) (fun o9 y8 y9 j9 => kk o9 y8 y9 (((j_1).t j_2).t j9))
                · skip
                  refine r_aload_n 0 dX6_strikes_107 rfl rfl rfl ?_
                  refine r_aload_n 0 dX6_strikes_108 rfl rfl rfl ?_
                  refine r_geti (k := 18) dX6_strikes_109 hm.s66 rfl (by decide) (Or.inl q1434) (Or.inl rfl) rfl ?_
                  refine r_eqi (show _ = nI ((c % n)) from h18) ?_
                  refine r_aload_n 0 dX6_strikes_112 rfl rfl rfl ?_
                  refine r_geti (k := 16) dX6_strikes_113 hm.s66 rfl (by decide) (Or.inl q1432) (Or.inl rfl) rfl ?_
                  refine r_eqi (show _ = nI ((c / (n * n))) from h16) ?_
                  refine r_callV_1 dX6_strikes_116 kX6_86 (M_debt (p := (c % n)) (w := (c / (n * n))) hm (by omega)) (gRecv.of hm.s66 rfl) rfl rfl (Nat.le_of_ble_eq_true rfl) ?_
                  refine r_goto 123 dX6_strikes_119 (by decide) ?_
                  refine r_istore_n 3 dX6_strikes_123 rfl (by decide) rfl ?_
                  refine gG_ls (ls' := [_, _, _, _]) rfl ?_
                  refine r_aload_n 0 dX6_strikes_124 rfl rfl rfl ?_
                  refine r_aload_n 0 dX6_strikes_125 rfl rfl rfl ?_
                  refine r_geti (k := 18) dX6_strikes_126 hm.s66 rfl (by decide) (Or.inl q1434) (Or.inl rfl) rfl ?_
                  refine r_eqi (show _ = nI ((c % n)) from h18) ?_
                  refine r_aload_n 0 dX6_strikes_129 rfl rfl rfl ?_
                  refine r_geti (k := 16) dX6_strikes_130 hm.s66 rfl (by decide) (Or.inl q1432) (Or.inl rfl) rfl ?_
                  refine r_eqi (show _ = nI ((c / (n * n))) from h16) ?_
                  refine r_iload_n 3 dX6_strikes_133 rfl rfl ?_
                  refine r_callV_0 dX6_strikes_134 kX6_212 (M_lessBy (a := (c % n)) (b := (c / (n * n))) hm (by omega) (by omega)) (gRecv.of hm.s66 rfl) rfl rfl (Nat.le_of_ble_eq_true rfl) ?_
                  refine r_aload_n 0 dX6_strikes_137 rfl rfl rfl ?_
                  refine r_aload_n 0 dX6_strikes_138 rfl rfl rfl ?_
                  refine r_geti (k := 16) dX6_strikes_139 hm.s66 rfl (by decide) (Or.inl q1432) (Or.inl rfl) rfl ?_
                  refine r_eqi (show _ = nI ((c / (n * n))) from h16) ?_
                  refine r_aload_n 0 dX6_strikes_142 rfl rfl rfl ?_
                  refine r_geti (k := 17) dX6_strikes_143 hm.s66 rfl (by decide) (Or.inl q1433) (Or.inl rfl) rfl ?_
                  refine r_eqi (show _ = nI ((c / n % n)) from h17) ?_
                  refine r_iload_n 3 dX6_strikes_146 rfl rfl ?_
                  refine r_callV_0 dX6_strikes_147 kX6_212 (M_lessBy (a := (c / (n * n))) (b := (c / n % n)) hm (by omega) (by omega)) (gRecv.of hm.s66 rfl) rfl rfl (Nat.le_of_ble_eq_true rfl) ?_
                  refine r_aload_n 0 dX6_strikes_150 rfl rfl rfl ?_
                  refine r_aload_n 0 dX6_strikes_151 rfl rfl rfl ?_
                  refine r_geti (k := 17) dX6_strikes_152 hm.s66 rfl (by decide) (Or.inl q1433) (Or.inl rfl) rfl ?_
                  refine r_eqi (show _ = nI ((c / n % n)) from h17) ?_
                  refine r_iload_n 2 dX6_strikes_155 rfl rfl ?_
                  refine r_iload_n 3 dX6_strikes_156 rfl rfl ?_
                  refine r_callV_0 dX6_strikes_157 kX6_212 (M_lessBy (a := (c / n % n)) (b := (c % n)) hm (by omega) (by omega)) (gRecv.of hm.s66 rfl) rfl rfl (Nat.le_of_ble_eq_true rfl) ?_
                  refine r_iinc dX6_strikes_160 rfl (by decide) rfl ?_
                  refine gG_ls (ls' := [_, some (.int (nI ((m + 1)))), _, _]) (by rw [show (Int32.ofInt 1) = nI 1 from rfl, nI_add]; rfl) ?_
                  refine r_goto 2 dX6_strikes_163 (by decide) ?_
                  obtain ⟨D1, m1, f1⟩ := th_ok D hn8 hq2
                  rw [stF_3 hq1 hq2] at kk
                  refine gG_h (show _ = MH h (stk3 r (c / (n * n)) (c / n % n) (c % n)) _ from by unfold stk3 lst3; (first | rw [minI_f (i_le_nlt c_56)] | rw [minI_t (i_nle c_56)]); (first | rw [minI_f (i_le_nlt c_104)] | rw [minI_t (i_nle c_104)]) <;> rfl) ?_
                  exact ih _ _ (m + 1) _ _ (by omega) D1 ((f1 2 (by omega)).trans hn) (fun o9 y8 y9 j9 => kk o9 y8 y9 (((j_1).t j_2).t j9))
            · skip
              refine r_aload_n 0 dX6_strikes_59 rfl rfl rfl ?_
              refine r_aload_n 0 dX6_strikes_60 rfl rfl rfl ?_
              refine r_geti (k := 16) dX6_strikes_61 hm.s66 rfl (by decide) (Or.inl q1432) (Or.inl rfl) rfl ?_
              refine r_eqi (show _ = nI ((c / (n * n))) from h16) ?_
              refine r_aload_n 0 dX6_strikes_64 rfl rfl rfl ?_
              refine r_geti (k := 17) dX6_strikes_65 hm.s66 rfl (by decide) (Or.inl q1433) (Or.inl rfl) rfl ?_
              refine r_eqi (show _ = nI ((c / n % n)) from h17) ?_
              refine r_callV_1 dX6_strikes_68 kX6_86 (M_debt (p := (c / (n * n))) (w := (c / n % n)) hm (by omega)) (gRecv.of hm.s66 rfl) rfl rfl (Nat.le_of_ble_eq_true rfl) ?_
              refine r_goto 83 dX6_strikes_71 (by decide) ?_
              refine r_istore_n 3 dX6_strikes_83 rfl (by decide) rfl ?_
              refine gG_ls (ls' := [_, _, _, _]) rfl ?_
              refine r_aload_n 0 dX6_strikes_84 rfl rfl rfl ?_
              refine r_geti (k := 18) dX6_strikes_85 hm.s66 rfl (by decide) (Or.inl q1434) (Or.inl rfl) rfl ?_
              refine r_eqi (show _ = nI ((c % n)) from h18) ?_
              refine r_if_lt 137 dX6_strikes_88 (by decide) (fun c_88 => ?_) (fun c_88 => ?_)
              · skip
                have n_88 : False := n_lt0 (by omega) c_88
                exact n_88.elim
              · skip
                have n_88 : True := n_lt0n (by omega) c_88
                refine r_aload_n 0 dX6_strikes_91 rfl rfl rfl ?_
                refine r_aload_n 0 dX6_strikes_92 rfl rfl rfl ?_
                refine r_geti (k := 18) dX6_strikes_93 hm.s66 rfl (by decide) (Or.inl q1434) (Or.inl rfl) rfl ?_
                refine r_eqi (show _ = nI ((c % n)) from h18) ?_
                refine r_aload_n 0 dX6_strikes_96 rfl rfl rfl ?_
                refine r_geti (k := 16) dX6_strikes_97 hm.s66 rfl (by decide) (Or.inl q1432) (Or.inl rfl) rfl ?_
                refine r_eqi (show _ = nI ((c / (n * n))) from h16) ?_
                refine r_callV_1 dX6_strikes_100 kX6_86 (M_debt (p := (c % n)) (w := (c / (n * n))) hm (by omega)) (gRecv.of hm.s66 rfl) rfl rfl (Nat.le_of_ble_eq_true rfl) ?_
                refine r_iload_n 3 dX6_strikes_103 rfl rfl ?_
                refine r_icmp_ge 122 dX6_strikes_104 (by decide) (fun c_104 => ?_) (fun c_104 => ?_)
                · skip
                  refine r_iload_n 3 dX6_strikes_122 rfl rfl ?_
                  refine r_istore_n 3 dX6_strikes_123 rfl (by decide) rfl ?_
                  refine gG_ls (ls' := [_, _, _, _]) rfl ?_
                  refine r_aload_n 0 dX6_strikes_124 rfl rfl rfl ?_
                  refine r_aload_n 0 dX6_strikes_125 rfl rfl rfl ?_
                  refine r_geti (k := 18) dX6_strikes_126 hm.s66 rfl (by decide) (Or.inl q1434) (Or.inl rfl) rfl ?_
                  refine r_eqi (show _ = nI ((c % n)) from h18) ?_
                  refine r_aload_n 0 dX6_strikes_129 rfl rfl rfl ?_
                  refine r_geti (k := 16) dX6_strikes_130 hm.s66 rfl (by decide) (Or.inl q1432) (Or.inl rfl) rfl ?_
                  refine r_eqi (show _ = nI ((c / (n * n))) from h16) ?_
                  refine r_iload_n 3 dX6_strikes_133 rfl rfl ?_
                  refine r_callV_0 dX6_strikes_134 kX6_212 (M_lessBy (a := (c % n)) (b := (c / (n * n))) hm (by omega) (by omega)) (gRecv.of hm.s66 rfl) rfl rfl (Nat.le_of_ble_eq_true rfl) ?_
                  refine r_aload_n 0 dX6_strikes_137 rfl rfl rfl ?_
                  refine r_aload_n 0 dX6_strikes_138 rfl rfl rfl ?_
                  refine r_geti (k := 16) dX6_strikes_139 hm.s66 rfl (by decide) (Or.inl q1432) (Or.inl rfl) rfl ?_
                  refine r_eqi (show _ = nI ((c / (n * n))) from h16) ?_
                  refine r_aload_n 0 dX6_strikes_142 rfl rfl rfl ?_
                  refine r_geti (k := 17) dX6_strikes_143 hm.s66 rfl (by decide) (Or.inl q1433) (Or.inl rfl) rfl ?_
                  refine r_eqi (show _ = nI ((c / n % n)) from h17) ?_
                  refine r_iload_n 3 dX6_strikes_146 rfl rfl ?_
                  refine r_callV_0 dX6_strikes_147 kX6_212 (M_lessBy (a := (c / (n * n))) (b := (c / n % n)) hm (by omega) (by omega)) (gRecv.of hm.s66 rfl) rfl rfl (Nat.le_of_ble_eq_true rfl) ?_
                  refine r_aload_n 0 dX6_strikes_150 rfl rfl rfl ?_
                  refine r_aload_n 0 dX6_strikes_151 rfl rfl rfl ?_
                  refine r_geti (k := 17) dX6_strikes_152 hm.s66 rfl (by decide) (Or.inl q1433) (Or.inl rfl) rfl ?_
                  refine r_eqi (show _ = nI ((c / n % n)) from h17) ?_
                  refine r_iload_n 2 dX6_strikes_155 rfl rfl ?_
                  refine r_iload_n 3 dX6_strikes_156 rfl rfl ?_
                  refine r_callV_0 dX6_strikes_157 kX6_212 (M_lessBy (a := (c / n % n)) (b := (c % n)) hm (by omega) (by omega)) (gRecv.of hm.s66 rfl) rfl rfl (Nat.le_of_ble_eq_true rfl) ?_
                  refine r_iinc dX6_strikes_160 rfl (by decide) rfl ?_
                  refine gG_ls (ls' := [_, some (.int (nI ((m + 1)))), _, _]) (by rw [show (Int32.ofInt 1) = nI 1 from rfl, nI_add]; rfl) ?_
                  refine r_goto 2 dX6_strikes_163 (by decide) ?_
                  obtain ⟨D1, m1, f1⟩ := th_ok D hn8 hq2
                  rw [stF_3 hq1 hq2] at kk
                  refine gG_h (show _ = MH h (stk3 r (c / (n * n)) (c / n % n) (c % n)) _ from by unfold stk3 lst3; (first | rw [minI_f (i_le_nlt c_56)] | rw [minI_t (i_nle c_56)]); (first | rw [minI_f (i_le_nlt c_104)] | rw [minI_t (i_nle c_104)]) <;> rfl) ?_
                  exact ih _ _ (m + 1) _ _ (by omega) D1 ((f1 2 (by omega)).trans hn) (fun o9 y8 y9 j9 => kk o9 y8 y9 (((j_1).t j_2).t j9))
                · skip
                  refine r_aload_n 0 dX6_strikes_107 rfl rfl rfl ?_
                  refine r_aload_n 0 dX6_strikes_108 rfl rfl rfl ?_
                  refine r_geti (k := 18) dX6_strikes_109 hm.s66 rfl (by decide) (Or.inl q1434) (Or.inl rfl) rfl ?_
                  refine r_eqi (show _ = nI ((c % n)) from h18) ?_
                  refine r_aload_n 0 dX6_strikes_112 rfl rfl rfl ?_
                  refine r_geti (k := 16) dX6_strikes_113 hm.s66 rfl (by decide) (Or.inl q1432) (Or.inl rfl) rfl ?_
                  refine r_eqi (show _ = nI ((c / (n * n))) from h16) ?_
                  refine r_callV_1 dX6_strikes_116 kX6_86 (M_debt (p := (c % n)) (w := (c / (n * n))) hm (by omega)) (gRecv.of hm.s66 rfl) rfl rfl (Nat.le_of_ble_eq_true rfl) ?_
                  refine r_goto 123 dX6_strikes_119 (by decide) ?_
                  refine r_istore_n 3 dX6_strikes_123 rfl (by decide) rfl ?_
                  refine gG_ls (ls' := [_, _, _, _]) rfl ?_
                  refine r_aload_n 0 dX6_strikes_124 rfl rfl rfl ?_
                  refine r_aload_n 0 dX6_strikes_125 rfl rfl rfl ?_
                  refine r_geti (k := 18) dX6_strikes_126 hm.s66 rfl (by decide) (Or.inl q1434) (Or.inl rfl) rfl ?_
                  refine r_eqi (show _ = nI ((c % n)) from h18) ?_
                  refine r_aload_n 0 dX6_strikes_129 rfl rfl rfl ?_
                  refine r_geti (k := 16) dX6_strikes_130 hm.s66 rfl (by decide) (Or.inl q1432) (Or.inl rfl) rfl ?_
                  refine r_eqi (show _ = nI ((c / (n * n))) from h16) ?_
                  refine r_iload_n 3 dX6_strikes_133 rfl rfl ?_
                  refine r_callV_0 dX6_strikes_134 kX6_212 (M_lessBy (a := (c % n)) (b := (c / (n * n))) hm (by omega) (by omega)) (gRecv.of hm.s66 rfl) rfl rfl (Nat.le_of_ble_eq_true rfl) ?_
                  refine r_aload_n 0 dX6_strikes_137 rfl rfl rfl ?_
                  refine r_aload_n 0 dX6_strikes_138 rfl rfl rfl ?_
                  refine r_geti (k := 16) dX6_strikes_139 hm.s66 rfl (by decide) (Or.inl q1432) (Or.inl rfl) rfl ?_
                  refine r_eqi (show _ = nI ((c / (n * n))) from h16) ?_
                  refine r_aload_n 0 dX6_strikes_142 rfl rfl rfl ?_
                  refine r_geti (k := 17) dX6_strikes_143 hm.s66 rfl (by decide) (Or.inl q1433) (Or.inl rfl) rfl ?_
                  refine r_eqi (show _ = nI ((c / n % n)) from h17) ?_
                  refine r_iload_n 3 dX6_strikes_146 rfl rfl ?_
                  refine r_callV_0 dX6_strikes_147 kX6_212 (M_lessBy (a := (c / (n * n))) (b := (c / n % n)) hm (by omega) (by omega)) (gRecv.of hm.s66 rfl) rfl rfl (Nat.le_of_ble_eq_true rfl) ?_
                  refine r_aload_n 0 dX6_strikes_150 rfl rfl rfl ?_
                  refine r_aload_n 0 dX6_strikes_151 rfl rfl rfl ?_
                  refine r_geti (k := 17) dX6_strikes_152 hm.s66 rfl (by decide) (Or.inl q1433) (Or.inl rfl) rfl ?_
                  refine r_eqi (show _ = nI ((c / n % n)) from h17) ?_
                  refine r_iload_n 2 dX6_strikes_155 rfl rfl ?_
                  refine r_iload_n 3 dX6_strikes_156 rfl rfl ?_
                  refine r_callV_0 dX6_strikes_157 kX6_212 (M_lessBy (a := (c / n % n)) (b := (c % n)) hm (by omega) (by omega)) (gRecv.of hm.s66 rfl) rfl rfl (Nat.le_of_ble_eq_true rfl) ?_
                  refine r_iinc dX6_strikes_160 rfl (by decide) rfl ?_
                  refine gG_ls (ls' := [_, some (.int (nI ((m + 1)))), _, _]) (by rw [show (Int32.ofInt 1) = nI 1 from rfl, nI_add]; rfl) ?_
                  refine r_goto 2 dX6_strikes_163 (by decide) ?_
                  obtain ⟨D1, m1, f1⟩ := th_ok D hn8 hq2
                  rw [stF_3 hq1 hq2] at kk
                  refine gG_h (show _ = MH h (stk3 r (c / (n * n)) (c / n % n) (c % n)) _ from by unfold stk3 lst3; (first | rw [minI_f (i_le_nlt c_56)] | rw [minI_t (i_nle c_56)]); (first | rw [minI_f (i_le_nlt c_104)] | rw [minI_t (i_nle c_104)]) <;> rfl) ?_
                  exact ih _ _ (m + 1) _ _ (by omega) D1 ((f1 2 (by omega)).trans hn) (fun o9 y8 y9 j9 => kk o9 y8 y9 (((j_1).t j_2).t j9))
          · skip
            have n_20 : False := n_ge0n (by omega) c_20
            exact n_20.elim
      · skip
        refine r_if_eq 166 dX6_strikes_13 (by decide) (fun c_13 => ?_) (fun c_13 => ?_)
        · skip
          have n_13 : 0 = 0 := n_eq0 (by omega) c_13
          rw [stF_n hq1 hq2] at kk
          exact kk _ _ _ ((j_1).t j_2)
        · skip
          have n_13 : ¬ 0 = 0 := n_ne0 (by omega) c_13
          exact absurd n_13 (by decide)
theorem M_strikes {d : Nat} {h : Hp} (hm : LayM (hS h) (hR h)) {r o : Row} {n : Nat} (hn : r 2 = nI n) (hn8 : n ≤ 8) (D : RowD r) : gC (d + 3) (0) (0) m_X6_strikes [.ref 66] (MH h r o) (RM (some (.int (nI (stF n STK r 0).2))) h (stF n STK r 0).1 o) := by
  refine gC.of (ls := [some (.ref 66), none, none, none]) (by decide +kernel) rfl rfl rfl rfl (Nat.le_of_ble_eq_true rfl) ?_
  refine r_iconst (v := nI 0) dX6_strikes_0 rfl ?_
  refine r_istore_n 1 dX6_strikes_1 rfl (by decide) rfl ?_
  refine gG_ls (ls' := [_, _, _, _]) rfl ?_
  have hms := msF_le D 64 (by omega)
  refine M_strikes_L hm hn8 STK r o 0 _ _ (by unfold STK; omega) D hn (fun o_9 y8 y9 j_9 => ?_)
  refine r_iload_n 1 dX6_strikes_166 rfl rfl ?_
  refine e_iret dX6_strikes_167 rfl ?_
  exact ⟨rfl, _, (Jo.r).t j_9, rfl⟩
theorem A_strike {d : Nat} {h : Hp} (hm : LayM (hS h) (hR h)) {r o : Row} (w : WF r) (ho : o 15 = -1)  : gC (d + 4) (0) (0) m_X6_strike [.ref 66] (MH h r o) (RA h (aStrike (mS h r o))) := by
  have e_0 : aStrike (mS h r o) = ((nI (stR r).2, (mS h r o).s_r (stR r).1)) := rfl
  rw [e_0]
  have hn8 := w.n8
  refine gC.of (ls := [some (.ref 66)]) (by decide +kernel) rfl rfl rfl rfl (Nat.le_of_ble_eq_true rfl) ?_
  refine r_aload_n 0 dX6_strike_0 rfl rfl rfl ?_
  refine r_callV_1m dX6_strike_1 kX6_215 (M_strikes (n := np r) hm w.n w.n8 w.D) (gRecv.of hm.s66 rfl) rfl rfl (Nat.le_of_ble_eq_true rfl) (fun o_1 j_1 => ?_)
  refine e_iret dX6_strike_4 rfl ?_
  exact RA.mk ((Jo.r).t j_1) ho (FrM.r) (rfl) (rfl)
theorem A_struck {d : Nat} {h : Hp} (hm : LayM (hS h) (hR h)) {r o : Row} (w : WF r) (ho : o 15 = -1) {q : Int32} : gC (d + 4) (0) (0) m_X6_struck [.ref 66, .int q] (MH h r o) (RA h (aStruck (mS h r o) q)) := by
  have e_0 : aStruck (mS h r o) q = (if inB q (nI 0) (nI 1) = true then (if toN q = 0 then nI (stR r).2 else sumD (stR r).1 64, (mS h r o)) else errA (mS h r o) (-1000000001) 1) := rfl
  rw [e_0]
  have hn8 := w.n8
  refine gC.of (ls := [some (.ref 66), some (.int q), none, none]) (by decide +kernel) rfl rfl rfl rfl (Nat.le_of_ble_eq_true rfl) ?_
  refine r_iload_n 1 dX6_struck_0 rfl rfl ?_
  refine r_iconst (v := nI 0) dX6_struck_1 rfl ?_
  refine r_iconst (v := nI 1) dX6_struck_2 rfl ?_
  refine r_callS_1 dX6_struck_3 kX6_48 (M_in)  rfl rfl (Nat.le_of_ble_eq_true rfl) ?_
  refine r_if_ne 16 dX6_struck_6 (by decide) (fun c_6 => ?_) (fun c_6 => ?_)
  · skip
    have n_6 : _ = true := b2_t c_6
    first | rw [ifT n_6] | rw [ifF n_6] | skip
    obtain ⟨c, h_c, rfl⟩ := inB_n (by decide) n_6
    have e_c : toN (nI c) = c := toN_nI (by omega)
    try simp only [e_c]
    refine r_aload_n 0 dX6_struck_16 rfl rfl rfl ?_
    refine r_aload_n 0 dX6_struck_17 rfl rfl rfl ?_
    refine r_getr (k := 0) (b := 67) dX6_struck_18 hm.s66 rfl (by decide) (Or.inl q1416) (Or.inl rfl) rfl hm.r_row ?_
    refine r_aload_n 0 dX6_struck_21 rfl rfl rfl ?_
    refine r_getr (k := 2) (b := 69) dX6_struck_22 hm.s66 rfl (by decide) (Or.inl q1418) (Or.inl rfl) rfl hm.r_tried ?_
    refine r_callV_0 dX6_struck_25 kX6_165 (M_move_out hm 69 (by decide)) (gRecv.of hm.s66 rfl) rfl rfl (Nat.le_of_ble_eq_true rfl) ?_
    refine r_aload_n 0 dX6_struck_28 rfl rfl rfl ?_
    refine r_callV_1m dX6_struck_29 kX6_215 (M_strikes (n := np r) (by exact hm) w.n w.n8 w.D) (gRecv.of hm.s66 rfl) rfl rfl (Nat.le_of_ble_eq_true rfl) (fun o_1 j_1 => ?_)
    refine r_istore_n 2 dX6_struck_32 rfl (by decide) rfl ?_
    refine gG_ls (ls' := [_, _, _, _]) rfl ?_
    refine r_aload_n 0 dX6_struck_33 rfl rfl rfl ?_
    refine r_callV_1 dX6_struck_34 kX6_218 (M_owed (by exact hm)) (gRecv.of hm.s66 rfl) rfl rfl (Nat.le_of_ble_eq_true rfl) ?_
    refine r_istore_n 3 dX6_struck_37 rfl (by decide) rfl ?_
    refine gG_ls (ls' := [_, _, _, _]) rfl ?_
    refine r_aload_n 0 dX6_struck_38 rfl rfl rfl ?_
    refine r_aload_n 0 dX6_struck_39 rfl rfl rfl ?_
    refine r_getr (k := 2) (b := 69) dX6_struck_40 hm.s66 rfl (by decide) (Or.inl q1418) (Or.inl rfl) rfl hm.r_tried ?_
    refine r_aload_n 0 dX6_struck_43 rfl rfl rfl ?_
    refine r_getr (k := 0) (b := 67) dX6_struck_44 hm.s66 rfl (by decide) (Or.inl q1416) (Or.inl rfl) rfl hm.r_row ?_
    refine r_callV_0 dX6_struck_47 kX6_165 (M_move_in (by exact hm) 69 (by decide)) (gRecv.of hm.s66 rfl) rfl rfl (Nat.le_of_ble_eq_true rfl) ?_
    refine gG_h (show _ = MH _ r _ from by rw [bI_s, cpR_b (fun k hk => (stF_ok w.n8 STK r 0 w.D).2 k (Or.inr (by omega)))]) ?_
    refine r_iload_n 1 dX6_struck_50 rfl rfl ?_
    refine r_if_ne 58 dX6_struck_51 (by decide) (fun c_51 => ?_) (fun c_51 => ?_)
    · skip
      have n_51 : ¬ c = 0 := n_ne0 (by omega) c_51
      first | rw [iP n_51] | rw [iN n_51] | rw [iN (Nat.not_lt.mpr n_51)] | rw [iN (Nat.not_le.mpr n_51)] | skip
      refine r_iload_n 3 dX6_struck_58 rfl rfl ?_
      refine e_iret dX6_struck_59 rfl ?_
      exact RA.mk ((Jo.r).t j_1) ho ((FrM.r).b (by decide)) (rfl) (rfl)
    · skip
      have n_51 : c = 0 := n_eq0 (by omega) c_51
      first | rw [iP n_51] | rw [iN n_51] | rw [iN (Nat.not_lt.mpr n_51)] | rw [iN (Nat.not_le.mpr n_51)] | skip
      refine r_iload_n 2 dX6_struck_54 rfl rfl ?_
      refine r_goto 59 dX6_struck_55 (by decide) ?_
      refine e_iret dX6_struck_59 rfl ?_
      exact RA.mk ((Jo.r).t j_1) ho ((FrM.r).b (by decide)) (rfl) (rfl)
  · skip
    have n_6 : _ = false := b2_f c_6
    first | rw [ifT n_6] | rw [ifF n_6] | skip
    refine r_aload_n 0 dX6_struck_9 rfl rfl rfl ?_
    refine r_ldc (v := -1000000001) dX6_struck_10 q1511 ?_
    refine r_callV_1 dX6_struck_12 kX6_53 (M_errs hm (e := (-1000000001 : Int32)) 1 (by decide +kernel) (by decide)) (gRecv.of hm.s66 rfl) rfl rfl (Nat.le_of_ble_eq_true rfl) ?_
    refine e_iret dX6_struck_15 rfl ?_
    exact RA.mk (Jo.r) ho ((FrM.r).b (by decide)) (rfl) (rfl)
