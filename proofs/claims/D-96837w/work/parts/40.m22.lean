theorem X_judge_L {d : Nat} {h : Hp} {S : MSt} (hX : CX h S) (w : WF S.r) {s a A t z : Nat} {g : Row} (hs : s < 4) (so : ShO (LG h 23 S.r (-1) g) a A t z (S.bits s)) (z40 : z ≤ 40) (sv : ∀ i, i < z → hI (LG h 23 S.r (-1) g) A i = S.sheets (40 * s + i)) {x1 : Int32} {Q : gQ} : ∀ (k p : Nat), p + k = 9 → p ≤ np S.r → (gG (d + 5) (0) (0) m_X0_judge 56 [some (.ref 21), some (.int x1), some (.ref a), some (.int (nI (whF (jdP S.r S.sheets z s) k p)))] [] (LG h 23 S.r (-1) g) (Q)) → gG (d + 5) (0) (0) m_X0_judge 17 [some (.ref 21), some (.int x1), some (.ref a), some (.int (nI p))] [] (LG h 23 S.r (-1) g) (Q) := by
  intro k
  induction k with
  | zero => exact fun p h1 h2 => absurd h2 (by have := w.n8; omega)
  | succ k ih =>
  intro p hk hp kk
  have hn8 := w.n8
  have hx := hX.hx
  have hl := hX.hl
  have hb : 21 ≤ 23 ∧ 23 + 10 < 78 := by decide
  have hn : S.r 2 = nI (np S.r) := w.n
  have lw := hX.lw
  have Vr := w.V
  have K := w.K
  have ha := so.1
  refine r_iload_n 3 dX0_judge_17 rfl rfl ?_
  refine r_aload_n 2 dX0_judge_18 rfl rfl rfl ?_
  refine r_size_X0_234 rfl dX0_judge_19 so (Nat.le_of_ble_eq_true rfl) ?_
  refine r_icmp_ge 56 dX0_judge_22 (by decide) (fun c_22 => ?_) (fun c_22 => ?_)
  · skip
    have n_22 : z ≤ p := n_ge (by omega) (by omega) c_22
    rw [whF_f (jdP_f2 n_22)] at kk
    exact kk
  · skip
    have n_22 : p < z := n_gen (by omega) (by omega) c_22
    refine r_aload_n 0 dX0_judge_25 rfl rfl rfl ?_
    refine r_iload_n 3 dX0_judge_26 rfl rfl ?_
    refine r_callV_1 dX0_judge_27 kX0_103 (X_isPerson (r := S.r) hx hl) (gRecv.of hx.s21 rfl) rfl rfl (Nat.le_of_ble_eq_true rfl) ?_
    refine r_if_eq 56 dX0_judge_30 (by decide) (fun c_30 => ?_) (fun c_30 => ?_)
    · skip
      have n_30 : (inB (nI p) 0 (S.r 2 - 1)) = false := b2_f c_30
      have hno := one_no w n_30
      rw [whF_f (jdP_f1 hno)] at kk
      exact kk
    · skip
      have n_30 : (inB (nI p) 0 (S.r 2 - 1)) = true := b2_t c_30
      have hlt := one_lt w (by omega) n_30
      refine r_aload_n 2 dX0_judge_33 rfl rfl rfl ?_
      refine r_iload_n 3 dX0_judge_34 rfl rfl ?_
      refine r_get_X0_237 (by omega) rfl dX0_judge_35 (so) (Nat.le_of_ble_eq_true rfl) ?_
      refine r_eqi (show _ = (S.sheets (40 * s + p)) from sv p (by omega)) ?_
      refine r_aload_n 0 dX0_judge_38 rfl rfl rfl ?_
      refine r_getr (k := 1) (b := 23) dX0_judge_39 hx.s21 rfl (by decide) (Or.inl q306) (Or.inl rfl) rfl hx.r_land ?_
      refine r_getr (k := 3) (b := (23 + 3)) dX0_judge_42 hl.s0 rfl (by decide) (Or.inr ⟨_, q225⟩) (Or.inl rfl) rfl hl.r_water ?_
      refine r_iload_n 3 dX0_judge_45 rfl rfl ?_
      refine r_ialdN (p) dX0_judge_46 hl.s3 rfl (by omega) (by decide) ?_
      refine r_eqi (show _ = (pv S.r p 3) from LG_r3 (by omega)) ?_
      refine r_icmp_ne 56 dX0_judge_47 (by decide) (fun c_47 => ?_) (fun c_47 => ?_)
      · skip
        rw [whF_f (jdP_f3 c_47)] at kk
        exact kk
      · skip
        refine r_iinc dX0_judge_50 rfl (by decide) rfl ?_
        refine gG_ls (ls' := [_, _, _, some (.int (nI ((p + 1))))]) (by rw [show (Int32.ofInt 1) = nI 1 from rfl, nI_add]; rfl) ?_
        refine r_goto 17 dX0_judge_53 (by decide) ?_
        rw [whF_t (jdP_t (by omega) (by omega) (Decidable.not_not.mp fun q => q c_47))] at kk
        exact ih (p + 1) (by omega) (by omega) kk
theorem X_judge {d : Nat} {h : Hp} {S : MSt} (hX : CX h S) (w : WF S.r) {s : Int32} : gC (d + 5) (0) (0) m_X0_judge [.ref 21, .int s] (h) (RX h (aJudge S s)) := by
  have e_0 : aJudge S s = (if inB s (nI 0) (nI 3) = true then (if S.bits (toN s) = 0 then errA S (-1000000002) 2 else (if whF (jdP S.r S.sheets (toN (S.size (toN s))) (toN s)) 9 0 = np S.r then (if whF (jdP S.r S.sheets (toN (S.size (toN s))) (toN s)) 9 0 = toN (S.size (toN s)) then (-1) else nI (whF (jdP S.r S.sheets (toN (S.size (toN s))) (toN s)) 9 0)) else nI (whF (jdP S.r S.sheets (toN (S.size (toN s))) (toN s)) 9 0), S)) else errA S (-1000000001) 1) := rfl
  rw [e_0]
  have hn8 := w.n8
  have hx := hX.hx
  have hl := hX.hl
  have hb : 21 ≤ 23 ∧ 23 + 10 < 78 := by decide
  have hn : S.r 2 = nI (np S.r) := w.n
  have lw := hX.lw
  have Vr := w.V
  have K := w.K
  refine gC.ofH (ls := [some (.ref 21), some (.int s), none, none]) (by decide +kernel) rfl rfl rfl rfl (Nat.le_of_ble_eq_true rfl) ?_
  refine gG_h hX.lg ?_
  refine r_aload_n 0 dX0_judge_0 rfl rfl rfl ?_
  refine r_iload_n 1 dX0_judge_1 rfl rfl ?_
  refine r_callS_1 dX0_judge_2 kX0_255 (X_isSheet (v := s))  rfl rfl (Nat.le_of_ble_eq_true rfl) ?_
  refine r_iconst (v := nI 1) dX0_judge_5 rfl ?_
  refine r_needB dX0_judge_6 rfl (by exact hx) (Nat.le_of_ble_eq_true rfl) (fun n_6 => ?_) (fun n_6 => ?_)
  · skip
    first | rw [ifT n_6] | rw [ifF n_6] | skip
    obtain ⟨k, h_k, rfl⟩ := inB_n (by decide) n_6
    have e_k : toN (nI k) = k := toN_nI (by omega)
    try simp only [e_k]
    refine r_aload_n 0 dX0_judge_9 rfl rfl rfl ?_
    refine r_iload_n 1 dX0_judge_10 rfl rfl ?_
    rcases Classical.em (S.bits k = 0) with hb0 | hb0
    · skip
      rw [iP hb0]
      refine r_sheetAt_n rfl dX0_judge_11 (by exact hx) (by omega) ((hX.self (g := hI h 33)).nosh (by omega) hb0) (Nat.le_of_ble_eq_true rfl) ?_
      refine t_catch [] (0, 80, 81, 8) [] (hx).s22 rfl rfl (fun z hz => by cases hz) rfl (by decide) q126 q128 ?_
      refine r_astore_n 2 dX0_judge_81 rfl (by decide) rfl rfl ?_
      refine gG_ls (ls' := [_, _, _, _]) rfl ?_
      refine r_aload_n 0 dX0_judge_82 rfl rfl rfl ?_
      refine r_aload_n 2 dX0_judge_83 rfl rfl rfl ?_
      refine r_callV_1 dX0_judge_84 kX0_131 (X_finds (k := 2) (by exact hx) (by decide)) (gRecv.of hx.s21 rfl) rfl rfl (Nat.le_of_ble_eq_true rfl) ?_
      refine e_iret dX0_judge_87 rfl ?_
      exact RX.err hX.self (FrX.lg (by decide)) (by decide) (by decide) (by decide)
    · skip
      rw [iN hb0]
      obtain ⟨a, A, t, z, s1, so, sz, z40, sv⟩ := (hX.self (g := hI h 33)).sat (s := k) (by omega) hb0
      have e_z : toN (S.size k) = z := by rw [sz]; exact toN_nI (by omega)
      simp only [e_z]
      have ha := so.1
      have hwl : (whF (jdP S.r S.sheets z k) 9 0) ≤ np S.r := whF_le (fun p hp => by have := (Bool.and_eq_true _ _ ▸ hp : _ ∧ _).1; exact of_decide_eq_true this) 9 0 (by omega)
      refine r_sheetAt_s rfl dX0_judge_11 (by exact hx) (by omega) s1 so (Nat.le_of_ble_eq_true rfl) ?_
      refine r_astore_n 2 dX0_judge_14 rfl (by decide) rfl rfl ?_
      refine gG_ls (ls' := [_, _, _, _]) rfl ?_
      refine r_iconst (v := nI 0) dX0_judge_15 rfl ?_
      refine r_istore_n 3 dX0_judge_16 rfl (by decide) rfl ?_
      refine gG_ls (ls' := [_, _, _, _]) rfl ?_
      refine X_judge_L hX w (by omega) so z40 sv 9 0 (by omega) (by omega) ?_
      refine r_iload_n 3 dX0_judge_56 rfl rfl ?_
      refine r_aload_n 2 dX0_judge_57 rfl rfl rfl ?_
      refine r_size_X0_234 rfl dX0_judge_58 so (Nat.le_of_ble_eq_true rfl) ?_
      refine r_icmp_ne 79 dX0_judge_61 (by decide) (fun c_61 => ?_) (fun c_61 => ?_)
      · skip
        have n_61 : ¬ (whF (jdP S.r S.sheets z k) 9 0) = z := n_ne (by omega) (by omega) c_61
        first | rw [iP n_61] | rw [iN n_61] | rw [iN (Nat.not_lt.mpr n_61)] | rw [iN (Nat.not_le.mpr n_61)] | skip
        refine r_iload_n 3 dX0_judge_79 rfl rfl ?_
        refine e_iret dX0_judge_80 rfl ?_
        exact RX.same hX.self (FrX.lg (by decide)) (by first | rfl | (split <;> rfl)) rfl
      · skip
        have n_61 : (whF (jdP S.r S.sheets z k) 9 0) = z := n_nen (by omega) (by omega) c_61
        first | rw [iP n_61] | rw [iN n_61] | rw [iN (Nat.not_lt.mpr n_61)] | rw [iN (Nat.not_le.mpr n_61)] | skip
        refine r_iload_n 3 dX0_judge_64 rfl rfl ?_
        refine r_aload_n 0 dX0_judge_65 rfl rfl rfl ?_
        refine r_getr (k := 1) (b := 23) dX0_judge_66 hx.s21 rfl (by decide) (Or.inl q306) (Or.inl rfl) rfl hx.r_land ?_
        refine r_geti (k := 0) dX0_judge_69 hl.s0 rfl (by decide) (Or.inr ⟨_, q219⟩) (Or.inl rfl) rfl ?_
        refine r_eqi (show _ = nI ((np S.r)) from ((LG_r0 (k := 0) (i := 2) rfl).trans hn)) ?_
        refine r_icmp_ne 79 dX0_judge_72 (by decide) (fun c_72 => ?_) (fun c_72 => ?_)
        · skip
          have n_72 : ¬ (whF (jdP S.r S.sheets z k) 9 0) = (np S.r) := n_ne (by omega) (by omega) c_72
          first | rw [iP n_72] | rw [iN n_72] | rw [iN (Nat.not_lt.mpr n_72)] | rw [iN (Nat.not_le.mpr n_72)] | skip
          refine r_iload_n 3 dX0_judge_79 rfl rfl ?_
          refine e_iret dX0_judge_80 rfl ?_
          exact RX.same hX.self (FrX.lg (by decide)) (by first | rfl | (split <;> rfl)) rfl
        · skip
          have n_72 : (whF (jdP S.r S.sheets z k) 9 0) = (np S.r) := n_nen (by omega) (by omega) c_72
          first | rw [iP n_72] | rw [iN n_72] | rw [iN (Nat.not_lt.mpr n_72)] | rw [iN (Nat.not_le.mpr n_72)] | skip
          refine r_iconst (v := (-1)) dX0_judge_75 (by decide +kernel) ?_
          refine r_goto 80 dX0_judge_76 (by decide) ?_
          refine e_iret dX0_judge_80 rfl ?_
          exact RX.same hX.self (FrX.lg (by decide)) (by first | rfl | (split <;> rfl)) rfl
  · skip
    first | rw [ifT n_6] | rw [ifF n_6] | skip
    refine t_catch [] (0, 80, 81, 8) [] (hx).s22 rfl rfl (fun z hz => by cases hz) rfl (by decide) q126 q128 ?_
    refine r_astore_n 2 dX0_judge_81 rfl (by decide) rfl rfl ?_
    refine gG_ls (ls' := [_, _, _, _]) rfl ?_
    refine r_aload_n 0 dX0_judge_82 rfl rfl rfl ?_
    refine r_aload_n 2 dX0_judge_83 rfl rfl rfl ?_
    refine r_callV_1 dX0_judge_84 kX0_131 (X_finds (k := 1) (by exact hx) (by decide)) (gRecv.of hx.s21 rfl) rfl rfl (Nat.le_of_ble_eq_true rfl) ?_
    refine e_iret dX0_judge_87 rfl ?_
    exact RX.err hX.self (FrX.lg (by decide)) (by decide) (by decide) (by decide)
theorem X_traits_L {d : Nat} {h : Hp} {S : MSt} (hX : CX h S) (w : WF S.r) {s a A t z : Nat} {g : Row} (hs : s < 4) (so : ShO h a A t z (S.bits s)) (z40 : z ≤ 40) (sv : ∀ i, i < z → hI h A i = S.sheets (40 * s + i)) {x1 : Int32} {Q : gQ} : ∀ (k p : Nat), p + k = 9 → p ≤ np S.r → (gG (d + 5) (0) (0) m_X0_traits 67 [some (.ref 21), some (.int x1), some (.ref a), some (.int (nI (whF (trP S.r S.sheets z s) k p)))] [] (LG h 23 (trR S.r S.sheets s (whF (trP S.r S.sheets z s) k p)) (-1) g) (Q)) → gG (d + 5) (0) (0) m_X0_traits 17 [some (.ref 21), some (.int x1), some (.ref a), some (.int (nI p))] [] (LG h 23 (trR S.r S.sheets s p) (-1) g) (Q) := by
  intro k
  induction k with
  | zero => exact fun p h1 h2 => absurd h2 (by have := w.n8; omega)
  | succ k ih =>
  intro p hk hp kk
  have hn8 := w.n8
  have hx := hX.hx
  have hl := hX.hl
  have hb : 21 ≤ 23 ∧ 23 + 10 < 78 := by decide
  have hn : S.r 2 = nI (np S.r) := w.n
  have lw := hX.lw
  have Vr := w.V
  have K := w.K
  have ha := so.1
  have hT : RT S.r (trR S.r S.sheets s p) := trR_T p (by omega)
  refine r_iload_n 3 dX0_traits_17 rfl rfl ?_
  refine r_aload_n 2 dX0_traits_18 rfl rfl rfl ?_
  refine r_size_X0_234 rfl dX0_traits_19 so (Nat.le_of_ble_eq_true rfl) ?_
  refine r_icmp_ge 67 dX0_traits_22 (by decide) (fun c_22 => ?_) (fun c_22 => ?_)
  · skip
    have n_22 : z ≤ p := n_ge (by omega) (by omega) c_22
    rw [whF_f (trP_f1 n_22)] at kk
    exact kk
  · skip
    have n_22 : p < z := n_gen (by omega) (by omega) c_22
    refine r_aload_n 0 dX0_traits_25 rfl rfl rfl ?_
    refine r_iload_n 3 dX0_traits_26 rfl rfl ?_
    refine r_callV_1 dX0_traits_27 kX0_103 (X_isPerson (r := (trR S.r S.sheets s p)) hx hl) (gRecv.of hx.s21 rfl) rfl rfl (Nat.le_of_ble_eq_true rfl) ?_
    refine r_if_eq 67 dX0_traits_30 (by decide) (fun c_30 => ?_) (fun c_30 => ?_)
    · skip
      have n_30 : (inB (nI p) 0 ((trR S.r S.sheets s p) 2 - 1)) = false := b2_f c_30
      rw [hT.two] at n_30
      rw [whF_f (trP_f2 n_30)] at kk
      exact kk
    · skip
      have n_30 : (inB (nI p) 0 ((trR S.r S.sheets s p) 2 - 1)) = true := b2_t c_30
      rw [hT.two] at n_30
      have hlt := one_lt w (by omega) n_30
      refine r_aload_n 2 dX0_traits_33 rfl rfl rfl ?_
      refine r_iload_n 3 dX0_traits_34 rfl rfl ?_
      refine r_get_X0_237 (by omega) rfl dX0_traits_35 (so) (Nat.le_of_ble_eq_true rfl) ?_
      refine r_eqi (show _ = (S.sheets (40 * s + p)) from ((congrFun (LG_far (by have := so.2.2.2.1; omega)) p).trans (sv p (by omega)))) ?_
      refine r_iconst (v := nI 0) dX0_traits_38 rfl ?_
      refine r_bipush (v := nI 15) dX0_traits_39 (by decide +kernel) ?_
      refine r_callS_1 dX0_traits_41 kX0_86 (X_in)  rfl rfl (Nat.le_of_ble_eq_true rfl) ?_
      refine r_if_eq 67 dX0_traits_44 (by decide) (fun c_44 => ?_) (fun c_44 => ?_)
      · skip
        have n_44 : (inB ((S.sheets (40 * s + p))) (nI 0) (nI 15)) = false := b2_f c_44
        rw [whF_f (trP_f3 n_44)] at kk
        exact kk
      · skip
        have n_44 : (inB ((S.sheets (40 * s + p))) (nI 0) (nI 15)) = true := b2_t c_44
        refine r_aload_n 0 dX0_traits_47 rfl rfl rfl ?_
        refine r_getr (k := 1) (b := 23) dX0_traits_48 hx.s21 rfl (by decide) (Or.inl q306) (Or.inl rfl) rfl hx.r_land ?_
        refine r_getr (k := 2) (b := (23 + 2)) dX0_traits_51 hl.s0 rfl (by decide) (Or.inr ⟨_, q223⟩) (Or.inl rfl) rfl hl.r_traits ?_
        refine r_iload_n 3 dX0_traits_54 rfl rfl ?_
        refine r_aload_n 2 dX0_traits_55 rfl rfl rfl ?_
        refine r_iload_n 3 dX0_traits_56 rfl rfl ?_
        refine r_get_X0_237 (by omega) rfl dX0_traits_57 (so) (Nat.le_of_ble_eq_true rfl) ?_
        refine r_eqi (show _ = (S.sheets (40 * s + p)) from ((congrFun (LG_far (by have := so.2.2.2.1; omega)) p).trans (sv p (by omega)))) ?_
        refine r_iastN (p) dX0_traits_60 hl.s2 rfl (by omega) (by decide) ?_
        refine gG_h (LG_w2 (by omega)) ?_
        refine r_iinc dX0_traits_61 rfl (by decide) rfl ?_
        refine gG_ls (ls' := [_, _, _, some (.int (nI ((p + 1))))]) (by rw [show (Int32.ofInt 1) = nI 1 from rfl, nI_add]; rfl) ?_
        refine r_goto 17 dX0_traits_64 (by decide) ?_
        rw [whF_t (trP_t (by omega) n_30 n_44)] at kk
        exact ih (p + 1) (by omega) (by omega) kk
theorem X_traits {d : Nat} {h : Hp} {S : MSt} (hX : CX h S) (w : WF S.r) {s : Int32} : gC (d + 5) (0) (0) m_X0_traits [.ref 21, .int s] (h) (RX h (aTraits S s)) := by
  have e_0 : aTraits S s = (if inB s (nI 0) (nI 3) = true then (if S.bits (toN s) = 0 then errA S (-1000000002) 2 else (nI (whF (trP S.r S.sheets (toN (S.size (toN s))) (toN s)) 9 0), S.s_r (trR S.r S.sheets (toN s) (whF (trP S.r S.sheets (toN (S.size (toN s))) (toN s)) 9 0)))) else errA S (-1000000001) 1) := rfl
  rw [e_0]
  have hn8 := w.n8
  have hx := hX.hx
  have hl := hX.hl
  have hb : 21 ≤ 23 ∧ 23 + 10 < 78 := by decide
  have hn : S.r 2 = nI (np S.r) := w.n
  have lw := hX.lw
  have Vr := w.V
  have K := w.K
  refine gC.ofH (ls := [some (.ref 21), some (.int s), none, none]) (by decide +kernel) rfl rfl rfl rfl (Nat.le_of_ble_eq_true rfl) ?_
  refine gG_h hX.lg ?_
  refine r_aload_n 0 dX0_traits_0 rfl rfl rfl ?_
  refine r_iload_n 1 dX0_traits_1 rfl rfl ?_
  refine r_callS_1 dX0_traits_2 kX0_255 (X_isSheet (v := s))  rfl rfl (Nat.le_of_ble_eq_true rfl) ?_
  refine r_iconst (v := nI 1) dX0_traits_5 rfl ?_
  refine r_needB dX0_traits_6 rfl (by exact hx) (Nat.le_of_ble_eq_true rfl) (fun n_6 => ?_) (fun n_6 => ?_)
  · skip
    first | rw [ifT n_6] | rw [ifF n_6] | skip
    obtain ⟨k, h_k, rfl⟩ := inB_n (by decide) n_6
    have e_k : toN (nI k) = k := toN_nI (by omega)
    try simp only [e_k]
    refine r_aload_n 0 dX0_traits_9 rfl rfl rfl ?_
    refine r_iload_n 1 dX0_traits_10 rfl rfl ?_
    rcases Classical.em (S.bits k = 0) with hb0 | hb0
    · skip
      rw [iP hb0]
      refine r_sheetAt_n rfl dX0_traits_11 (by exact hx) (by omega) ((hX.self (g := hI h 33)).nosh (by omega) hb0) (Nat.le_of_ble_eq_true rfl) ?_
      refine t_catch [] (0, 68, 69, 8) [] (hx).s22 rfl rfl (fun z hz => by cases hz) rfl (by decide) q126 q128 ?_
      refine r_astore_n 2 dX0_traits_69 rfl (by decide) rfl rfl ?_
      refine gG_ls (ls' := [_, _, _, _]) rfl ?_
      refine r_aload_n 0 dX0_traits_70 rfl rfl rfl ?_
      refine r_aload_n 2 dX0_traits_71 rfl rfl rfl ?_
      refine r_callV_1 dX0_traits_72 kX0_131 (X_finds (k := 2) (by exact hx) (by decide)) (gRecv.of hx.s21 rfl) rfl rfl (Nat.le_of_ble_eq_true rfl) ?_
      refine e_iret dX0_traits_75 rfl ?_
      exact RX.err hX.self (FrX.lg (by decide)) (by decide) (by decide) (by decide)
    · skip
      rw [iN hb0]
      obtain ⟨a, A, t, z, s1, so, sz, z40, sv⟩ := hX.sat (s := k) (by omega) hb0
      have e_z : toN (S.size k) = z := by rw [sz]; exact toN_nI (by omega)
      simp only [e_z]
      have ha := so.1
      have hwl : (whF (trP S.r S.sheets z k) 9 0) ≤ np S.r := whF_le (fun p hp => by have h9 := (an_is (an_is hp).2).1; rcases Nat.lt_or_ge p 2147483648 with q | q; exact one_lt w q h9; exact one_lt2 w z40 hp) 9 0 (by omega)
      refine r_sheetAt_s rfl dX0_traits_11 (by exact hx) (by omega) s1 so (Nat.le_of_ble_eq_true rfl) ?_
      refine r_astore_n 2 dX0_traits_14 rfl (by decide) rfl rfl ?_
      refine gG_ls (ls' := [_, _, _, _]) rfl ?_
      refine r_iconst (v := nI 0) dX0_traits_15 rfl ?_
      refine r_istore_n 3 dX0_traits_16 rfl (by decide) rfl ?_
      refine gG_ls (ls' := [_, _, _, _]) rfl ?_
      refine X_traits_L hX w (by omega) so z40 sv 9 0 (by omega) (by omega) ?_
      refine r_iload_n 3 dX0_traits_67 rfl rfl ?_
      refine e_iret dX0_traits_68 rfl ?_
      exact RX.same (hX.land (lw.rt (trR_T _ (by omega)))) (FrX.lg (by decide)) rfl rfl
  · skip
    first | rw [ifT n_6] | rw [ifF n_6] | skip
    refine t_catch [] (0, 68, 69, 8) [] (hx).s22 rfl rfl (fun z hz => by cases hz) rfl (by decide) q126 q128 ?_
    refine r_astore_n 2 dX0_traits_69 rfl (by decide) rfl rfl ?_
    refine gG_ls (ls' := [_, _, _, _]) rfl ?_
    refine r_aload_n 0 dX0_traits_70 rfl rfl rfl ?_
    refine r_aload_n 2 dX0_traits_71 rfl rfl rfl ?_
    refine r_callV_1 dX0_traits_72 kX0_131 (X_finds (k := 1) (by exact hx) (by decide)) (gRecv.of hx.s21 rfl) rfl rfl (Nat.le_of_ble_eq_true rfl) ?_
    refine e_iret dX0_traits_75 rfl ?_
    exact RX.err hX.self (FrX.lg (by decide)) (by decide) (by decide) (by decide)
theorem X_put {d : Nat} {h : Hp} {S : MSt} (hX : CX h S) (w : WF S.r) {s i v : Int32} : gC (d + 5) (0) (0) m_X0_put [.ref 21, .int s, .int i, .int v] (h) (RX h (aPut S s i v)) := by
  have e_0 : aPut S s i v = (if inB s (nI 0) (nI 3) = true then (if S.bits (toN s) = 0 then errA S (-1000000002) 2 else (if inB i (nI 0) (S.size (toN s) - nI 1) = true then (nI 1, S.s_sheets (ru S.sheets (40 * toN s + toN i) (narV (S.bits (toN s)) v))) else errA S (-1000000001) 1)) else errA S (-1000000001) 1) := rfl
  rw [e_0]
  have hn8 := w.n8
  have hx := hX.hx
  have hl := hX.hl
  have hb : 21 ≤ 23 ∧ 23 + 10 < 78 := by decide
  have hn : S.r 2 = nI (np S.r) := w.n
  have lw := hX.lw
  have Vr := w.V
  have K := w.K
  refine gC.ofH (ls := [some (.ref 21), some (.int s), some (.int i), some (.int v), none]) (by decide +kernel) rfl rfl rfl rfl (Nat.le_of_ble_eq_true rfl) ?_
  refine gG_h hX.lg ?_
  refine r_aload_n 0 dX0_put_0 rfl rfl rfl ?_
  refine r_iload_n 1 dX0_put_1 rfl rfl ?_
  refine r_callS_1 dX0_put_2 kX0_255 (X_isSheet (v := s))  rfl rfl (Nat.le_of_ble_eq_true rfl) ?_
  refine r_iconst (v := nI 1) dX0_put_5 rfl ?_
  refine r_needB dX0_put_6 rfl (by exact hx) (Nat.le_of_ble_eq_true rfl) (fun n_6 => ?_) (fun n_6 => ?_)
  · skip
    first | rw [ifT n_6] | rw [ifF n_6] | skip
    obtain ⟨k, h_k, rfl⟩ := inB_n (by decide) n_6
    have e_k : toN (nI k) = k := toN_nI (by omega)
    try simp only [e_k]
    refine r_aload_n 0 dX0_put_9 rfl rfl rfl ?_
    refine r_iload_n 1 dX0_put_10 rfl rfl ?_
    rcases Classical.em (S.bits k = 0) with hb0 | hb0
    · skip
      rw [iP hb0]
      refine r_sheetAt_n rfl dX0_put_11 (by exact hx) (by omega) ((hX.self (g := hI h 33)).nosh (by omega) hb0) (Nat.le_of_ble_eq_true rfl) ?_
      refine t_catch [] (0, 41, 42, 8) [] (hx).s22 rfl rfl (fun z hz => by cases hz) rfl (by decide) q126 q128 ?_
      refine r_astore dX0_put_42 (by decide) rfl rfl ?_
      refine gG_ls (ls' := [_, _, _, _, _]) rfl ?_
      refine r_aload_n 0 dX0_put_44 rfl rfl rfl ?_
      refine r_aload dX0_put_45 rfl rfl ?_
      refine r_callV_1 dX0_put_47 kX0_131 (X_finds (k := 2) (by exact hx) (by decide)) (gRecv.of hx.s21 rfl) rfl rfl (Nat.le_of_ble_eq_true rfl) ?_
      refine e_iret dX0_put_50 rfl ?_
      exact RX.err hX.self (FrX.lg (by decide)) (by decide) (by decide) (by decide)
    · skip
      rw [iN hb0]
      obtain ⟨a, A, t, z, ⟨s1, so, sz, z40, sv⟩, hput⟩ := (hX.self (g := hI h 33)).puts (s := k) (by omega) hb0
      rw [i_size1 sz]
      have ha := so.1
      refine r_sheetAt_s rfl dX0_put_11 (by exact hx) (by omega) s1 so (Nat.le_of_ble_eq_true rfl) ?_
      refine r_astore dX0_put_14 (by decide) rfl rfl ?_
      refine gG_ls (ls' := [_, _, _, _, _]) rfl ?_
      refine r_aload_n 0 dX0_put_16 rfl rfl rfl ?_
      refine r_iload_n 2 dX0_put_17 rfl rfl ?_
      refine r_iconst (v := nI 0) dX0_put_18 rfl ?_
      refine r_aload dX0_put_19 rfl rfl ?_
      refine r_size_X0_234 rfl dX0_put_21 so (Nat.le_of_ble_eq_true rfl) ?_
      refine r_iconst (v := nI 1) dX0_put_24 rfl ?_
      refine r_isub dX0_put_25 ?_
      refine r_callS_1 dX0_put_26 kX0_86 (X_in)  rfl rfl (Nat.le_of_ble_eq_true rfl) ?_
      refine r_iconst (v := nI 1) dX0_put_29 rfl ?_
      refine r_needB dX0_put_30 rfl (by exact hx) (Nat.le_of_ble_eq_true rfl) (fun n_30 => ?_) (fun n_30 => ?_)
      · skip
        first | rw [ifT n_30] | rw [ifF n_30] | skip
        obtain ⟨c, h_c, rfl⟩ := inB_n1 (v := i) (n := z) (by omega) n_30
        have e_c : toN (nI c) = c := toN_nI (by omega)
        try simp only [e_c]
        refine r_aload dX0_put_33 rfl rfl ?_
        refine r_iload_n 2 dX0_put_35 rfl rfl ?_
        refine r_iload_n 3 dX0_put_36 rfl rfl ?_
        refine r_put_X0_356 h_c rfl dX0_put_37 so (Nat.le_of_ble_eq_true rfl) ?_
        refine gG_h (wI_bI _ _ _ _) ?_
        refine r_iconst (v := nI 1) dX0_put_40 rfl ?_
        refine e_iret dX0_put_41 rfl ?_
        exact ⟨rfl, hput _ _ (fun q hq => put_at hq (fun q hq => sv q hq)) (fun j hj => ru_n (by omega)), (FrX.lg (by decide)).t (FrX.s (fun b h1 h2 => uf_n _ _ _ _ (by have := so.2.2.2.1; omega)))⟩
      · skip
        first | rw [ifT n_30] | rw [ifF n_30] | skip
        refine t_catch [] (0, 41, 42, 8) [] (hx).s22 rfl rfl (fun z hz => by cases hz) rfl (by decide) q126 q128 ?_
        refine r_astore dX0_put_42 (by decide) rfl rfl ?_
        refine gG_ls (ls' := [_, _, _, _, _]) rfl ?_
        refine r_aload_n 0 dX0_put_44 rfl rfl rfl ?_
        refine r_aload dX0_put_45 rfl rfl ?_
        refine r_callV_1 dX0_put_47 kX0_131 (X_finds (k := 1) (by exact hx) (by decide)) (gRecv.of hx.s21 rfl) rfl rfl (Nat.le_of_ble_eq_true rfl) ?_
        refine e_iret dX0_put_50 rfl ?_
        exact RX.err hX.self (FrX.lg (by decide)) (by decide) (by decide) (by decide)
  · skip
    first | rw [ifT n_6] | rw [ifF n_6] | skip
    refine t_catch [] (0, 41, 42, 8) [] (hx).s22 rfl rfl (fun z hz => by cases hz) rfl (by decide) q126 q128 ?_
    refine r_astore dX0_put_42 (by decide) rfl rfl ?_
    refine gG_ls (ls' := [_, _, _, _, _]) rfl ?_
    refine r_aload_n 0 dX0_put_44 rfl rfl rfl ?_
    refine r_aload dX0_put_45 rfl rfl ?_
    refine r_callV_1 dX0_put_47 kX0_131 (X_finds (k := 1) (by exact hx) (by decide)) (gRecv.of hx.s21 rfl) rfl rfl (Nat.le_of_ble_eq_true rfl) ?_
    refine e_iret dX0_put_50 rfl ?_
    exact RX.err hX.self (FrX.lg (by decide)) (by decide) (by decide) (by decide)
