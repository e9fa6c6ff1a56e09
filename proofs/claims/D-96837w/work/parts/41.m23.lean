theorem X_isRule {d : Nat} {h : Hp} {k : Nat} (hk : k < 256) : gC (d) (0) (0) m_X0_isRule [.int (nI k)] (h) (Ret (some (.int (b2 (ruB (nI k))))) h) := by
  refine gC.of (ls := [some (.int (nI k))]) (by decide +kernel) rfl rfl rfl rfl (Nat.le_of_ble_eq_true rfl) ?_
  refine r_iload_n 0 dX0_isRule_0 rfl rfl ?_
  refine r_bipush (v := nI 16) dX0_isRule_1 (by decide +kernel) ?_
  refine r_irem dX0_isRule_3 (by decide) ?_
  refine r_iload_n 0 dX0_isRule_4 rfl rfl ?_
  refine r_bipush (v := nI 16) dX0_isRule_5 (by decide +kernel) ?_
  refine r_idiv dX0_isRule_7 (by decide) ?_
  refine r_iconst (v := (-1)) dX0_isRule_8 (by decide +kernel) ?_
  refine r_ixor dX0_isRule_9 ?_
  refine r_iand dX0_isRule_10 ?_
  refine r_if_ne 18 dX0_isRule_11 (by decide) (fun c_11 => ?_) (fun c_11 => ?_)
  · skip
    refine r_iconst (v := nI 0) dX0_isRule_18 rfl ?_
    refine e_zret dX0_isRule_19 rfl (by decide) ?_
    exact ⟨by rw [← ruB_256 k hk, decide_eq_false c_11]; rfl, rfl⟩
  · skip
    refine r_iconst (v := nI 1) dX0_isRule_14 rfl ?_
    refine r_goto 19 dX0_isRule_15 (by decide) ?_
    refine e_zret dX0_isRule_19 rfl (by decide) ?_
    exact ⟨by rw [← ruB_256 k hk, decide_eq_true c_11]; rfl, rfl⟩
theorem X_doesGive {d : Nat} {h : Hp} {k : Nat} {t : Int32} (hk : k < 256) : gC (d) (0) (0) m_X0_doesGive [.int (nI k), .int t] (h) (Ret (some (.int (b2 (givB (nI k) t)))) h) := by
  refine gC.of (ls := [some (.int (nI k)), some (.int t)]) (by decide +kernel) rfl rfl rfl rfl (Nat.le_of_ble_eq_true rfl) ?_
  refine r_iload_n 1 dX0_doesGive_0 rfl rfl ?_
  refine r_iload_n 0 dX0_doesGive_1 rfl rfl ?_
  refine r_bipush (v := nI 16) dX0_doesGive_2 (by decide +kernel) ?_
  refine r_idiv dX0_doesGive_4 (by decide) ?_
  refine r_iand dX0_doesGive_5 ?_
  refine r_iload_n 0 dX0_doesGive_6 rfl rfl ?_
  refine r_bipush (v := nI 16) dX0_doesGive_7 (by decide +kernel) ?_
  refine r_irem dX0_doesGive_9 (by decide) ?_
  refine r_icmp_ne 17 dX0_doesGive_10 (by decide) (fun c_10 => ?_) (fun c_10 => ?_)
  · skip
    refine r_iconst (v := nI 0) dX0_doesGive_17 rfl ?_
    refine e_zret dX0_doesGive_18 rfl (by decide) ?_
    exact ⟨by rw [givB_c hk, decide_eq_false c_10]; rfl, rfl⟩
  · skip
    refine r_iconst (v := nI 1) dX0_doesGive_13 rfl ?_
    refine r_goto 18 dX0_doesGive_14 (by decide) ?_
    refine e_zret dX0_doesGive_18 rfl (by decide) ?_
    exact ⟨by rw [givB_c hk, decide_eq_true c_10]; rfl, rfl⟩
theorem X_hasBit {d : Nat} {h : Hp} {s i : Nat} : gC (d) (0) (0) m_X0_hasBit [.int (nI s), .int (nI i)] (h) (Ret (some (.int (b2 (decide ((nI s >>> (nI i &&& 31)) &&& nI 1 = nI 1))))) h) := by
  refine gC.of (ls := [some (.int (nI s)), some (.int (nI i))]) (by decide +kernel) rfl rfl rfl rfl (Nat.le_of_ble_eq_true rfl) ?_
  refine r_iload_n 0 dX0_hasBit_0 rfl rfl ?_
  refine r_iload_n 1 dX0_hasBit_1 rfl rfl ?_
  refine r_ishr dX0_hasBit_2 ?_
  refine r_iconst (v := nI 1) dX0_hasBit_3 rfl ?_
  refine r_iand dX0_hasBit_4 ?_
  refine r_iconst (v := nI 1) dX0_hasBit_5 rfl ?_
  refine r_icmp_ne 13 dX0_hasBit_6 (by decide) (fun c_6 => ?_) (fun c_6 => ?_)
  · skip
    refine r_iconst (v := nI 0) dX0_hasBit_13 rfl ?_
    refine e_zret dX0_hasBit_14 rfl (by decide) ?_
    exact ⟨by rw [decide_eq_false c_6]; rfl, rfl⟩
  · skip
    refine r_iconst (v := nI 1) dX0_hasBit_9 rfl ?_
    refine r_goto 14 dX0_hasBit_10 (by decide) ?_
    refine e_zret dX0_hasBit_14 rfl (by decide) ?_
    exact ⟨by rw [decide_eq_true c_6]; rfl, rfl⟩
theorem X_bitCount {d : Nat} {h : Hp} {s : Nat} (hs : s < 256) : gC (d) (0) (0) m_J9_bitCount [.int (nI s)] (h) (Ret (some (.int (nI (bitN s)))) h) := by
  refine gC.of (ls := [some (.int (nI s))]) (by decide +kernel) rfl rfl rfl rfl (Nat.le_of_ble_eq_true rfl) ?_
  refine r_iload_n 0 dJ9_bitCount_0 rfl rfl ?_
  refine r_iload_n 0 dJ9_bitCount_1 rfl rfl ?_
  refine r_iconst (v := nI 1) dJ9_bitCount_2 rfl ?_
  refine r_iushr dJ9_bitCount_3 ?_
  refine r_ldcw (v := 1431655765) dJ9_bitCount_4 q1076 ?_
  refine r_iand dJ9_bitCount_7 ?_
  refine r_isub dJ9_bitCount_8 ?_
  refine r_istore_n 0 dJ9_bitCount_9 rfl (by decide) rfl ?_
  refine gG_ls (ls' := [_]) rfl ?_
  refine r_iload_n 0 dJ9_bitCount_10 rfl rfl ?_
  refine r_ldcw (v := 858993459) dJ9_bitCount_11 q1077 ?_
  refine r_iand dJ9_bitCount_14 ?_
  refine r_iload_n 0 dJ9_bitCount_15 rfl rfl ?_
  refine r_iconst (v := nI 2) dJ9_bitCount_16 rfl ?_
  refine r_iushr dJ9_bitCount_17 ?_
  refine r_ldcw (v := 858993459) dJ9_bitCount_18 q1077 ?_
  refine r_iand dJ9_bitCount_21 ?_
  refine r_iadd dJ9_bitCount_22 ?_
  refine r_istore_n 0 dJ9_bitCount_23 rfl (by decide) rfl ?_
  refine gG_ls (ls' := [_]) rfl ?_
  refine r_iload_n 0 dJ9_bitCount_24 rfl rfl ?_
  refine r_iload_n 0 dJ9_bitCount_25 rfl rfl ?_
  refine r_iconst (v := nI 4) dJ9_bitCount_26 rfl ?_
  refine r_iushr dJ9_bitCount_27 ?_
  refine r_iadd dJ9_bitCount_28 ?_
  refine r_ldcw (v := 252645135) dJ9_bitCount_29 q1078 ?_
  refine r_iand dJ9_bitCount_32 ?_
  refine r_istore_n 0 dJ9_bitCount_33 rfl (by decide) rfl ?_
  refine gG_ls (ls' := [_]) rfl ?_
  refine r_iload_n 0 dJ9_bitCount_34 rfl rfl ?_
  refine r_iload_n 0 dJ9_bitCount_35 rfl rfl ?_
  refine r_bipush (v := nI 8) dJ9_bitCount_36 (by decide +kernel) ?_
  refine r_iushr dJ9_bitCount_38 ?_
  refine r_iadd dJ9_bitCount_39 ?_
  refine r_istore_n 0 dJ9_bitCount_40 rfl (by decide) rfl ?_
  refine gG_ls (ls' := [_]) rfl ?_
  refine r_iload_n 0 dJ9_bitCount_41 rfl rfl ?_
  refine r_iload_n 0 dJ9_bitCount_42 rfl rfl ?_
  refine r_bipush (v := nI 16) dJ9_bitCount_43 (by decide +kernel) ?_
  refine r_iushr dJ9_bitCount_45 ?_
  refine r_iadd dJ9_bitCount_46 ?_
  refine r_istore_n 0 dJ9_bitCount_47 rfl (by decide) rfl ?_
  refine gG_ls (ls' := [_]) rfl ?_
  refine r_iload_n 0 dJ9_bitCount_48 rfl rfl ?_
  refine r_bipush (v := nI 63) dJ9_bitCount_49 (by decide +kernel) ?_
  refine r_iand dJ9_bitCount_51 ?_
  refine e_iret dJ9_bitCount_52 rfl ?_
  exact ⟨by rw [← bcE_256 s hs]; rfl, rfl⟩
theorem X_drinkAll_L {d : Nat} {h : Hp} {S : MSt} (hX : CX h S) (w : WF S.r) {g : Row} {Q : gQ} : ∀ (k i : Nat), i ≤ np S.r → np S.r + 1 ≤ i + k → (gG (d + 5) (0) (0) m_X0_drinkAll 36 [some (.ref 21), some (.int (drkS S.r (np S.r))), some (.int (nI (np S.r)))] [] (LG h 23 S.r (-1) g) (Q)) → gG (d + 5) (0) (0) m_X0_drinkAll 4 [some (.ref 21), some (.int (drkS S.r (i))), some (.int (nI i))] [] (LG h 23 S.r (-1) g) (Q) := by
  intro k
  induction k with
  | zero => exact fun i h1 h2 => absurd h2 (by omega)
  | succ k ih =>
  intro i hi hk kk
  have hn8 := w.n8
  have hx := hX.hx
  have hl := hX.hl
  have hb : 21 ≤ 23 ∧ 23 + 10 < 78 := by decide
  have hn : S.r 2 = nI (np S.r) := w.n
  have lw := hX.lw
  have Vr := w.V
  have K := w.K
  refine r_iload_n 2 dX0_drinkAll_4 rfl rfl ?_
  refine r_aload_n 0 dX0_drinkAll_5 rfl rfl rfl ?_
  refine r_getr (k := 1) (b := 23) dX0_drinkAll_6 hx.s21 rfl (by decide) (Or.inl q306) (Or.inl rfl) rfl hx.r_land ?_
  refine r_geti (k := 0) dX0_drinkAll_9 hl.s0 rfl (by decide) (Or.inr ⟨_, q219⟩) (Or.inl rfl) rfl ?_
  refine r_eqi (show _ = nI ((np S.r)) from ((LG_r0 (k := 0) (i := 2) rfl).trans hn)) ?_
  refine r_icmp_ge 36 dX0_drinkAll_12 (by decide) (fun c_12 => ?_) (fun c_12 => ?_)
  · skip
    have n_12 : (np S.r) ≤ i := n_ge (by omega) (by omega) c_12
    have hin : i = np S.r := by omega
    rw [hin]
    exact kk
  · skip
    have n_12 : i < (np S.r) := n_gen (by omega) (by omega) c_12
    refine r_iload_n 1 dX0_drinkAll_15 rfl rfl ?_
    refine r_aload_n 0 dX0_drinkAll_16 rfl rfl rfl ?_
    refine r_getr (k := 1) (b := 23) dX0_drinkAll_17 hx.s21 rfl (by decide) (Or.inl q306) (Or.inl rfl) rfl hx.r_land ?_
    refine r_getr (k := 1) (b := (23 + 1)) dX0_drinkAll_20 hl.s0 rfl (by decide) (Or.inr ⟨_, q221⟩) (Or.inl rfl) rfl hl.r_person ?_
    refine r_iload_n 2 dX0_drinkAll_23 rfl rfl ?_
    obtain ⟨a, k9, ha, hk9, pa⟩ := lw.one (p := i) (by omega) hn8
    refine r_aaldN (i) (b := a) dX0_drinkAll_24 hl.s1 (by decide) rfl (by omega) (by decide) ha (by have := pa.1; omega) ?_
    refine r_drinks_X0_149 rfl dX0_drinkAll_25 (pa.ext (LG_ext (by omega))) (Nat.le_of_ble_eq_true rfl) ?_
    rw [show drinkV k9 = drinkV (kindN S.r i) from by rw [kindN_of hk9 pa.2.2.2.1]]
    refine r_iadd dX0_drinkAll_28 ?_
    refine r_istore_n 1 dX0_drinkAll_29 rfl (by decide) rfl ?_
    refine gG_ls (ls' := [_, _, _]) rfl ?_
    refine r_iinc dX0_drinkAll_30 rfl (by decide) rfl ?_
    refine gG_ls (ls' := [_, _, some (.int (nI ((i + 1))))]) (by rw [show (Int32.ofInt 1) = nI 1 from rfl, nI_add]; rfl) ?_
    refine r_goto 4 dX0_drinkAll_33 (by decide) ?_
    exact ih (i + 1) (by omega) (by omega) kk
theorem X_drinkAll {d : Nat} {h : Hp} {S : MSt} (hX : CX h S) (w : WF S.r) {g : Row} : gC (d + 5) (0) (0) m_X0_drinkAll [.ref 21] (LG h 23 S.r (-1) g) (Ret (some (.int (drkS S.r (np S.r)))) (LG h 23 S.r (-1) g)) := by
  refine gC.of (ls := [some (.ref 21), none, none]) (by decide +kernel) rfl rfl rfl rfl (Nat.le_of_ble_eq_true rfl) ?_
  refine r_iconst (v := nI 0) dX0_drinkAll_0 rfl ?_
  refine r_istore_n 1 dX0_drinkAll_1 rfl (by decide) rfl ?_
  refine gG_ls (ls' := [_, _, _]) rfl ?_
  refine r_iconst (v := nI 0) dX0_drinkAll_2 rfl ?_
  refine r_istore_n 2 dX0_drinkAll_3 rfl (by decide) rfl ?_
  refine gG_ls (ls' := [_, _, _]) rfl ?_
  refine X_drinkAll_L hX w (np S.r + 1) 0 (by omega) (by omega) ?_
  refine r_iload_n 1 dX0_drinkAll_36 rfl rfl ?_
  refine e_iret dX0_drinkAll_37 rfl ?_
  exact ⟨rfl, rfl⟩
theorem X_fillAll_L {d : Nat} {h : Hp} {S : MSt} (hX : CX h S) (w : WF S.r) {g : Row} {s : Nat} {Q : gQ} : ∀ (k i : Nat), i ≤ np S.r → np S.r + 1 ≤ i + k → (gG (d + 5) (0) (0) m_X0_fillAll 48 [some (.ref 21), some (.int (nI s)), some (.int (filS S.r s (np S.r))), some (.int (nI (np S.r)))] [] (LG h 23 S.r (-1) g) (Q)) → gG (d + 5) (0) (0) m_X0_fillAll 4 [some (.ref 21), some (.int (nI s)), some (.int (filS S.r s (i))), some (.int (nI i))] [] (LG h 23 S.r (-1) g) (Q) := by
  intro k
  induction k with
  | zero => exact fun i h1 h2 => absurd h2 (by omega)
  | succ k ih =>
  intro i hi hk kk
  have hn8 := w.n8
  have hx := hX.hx
  have hl := hX.hl
  have hb : 21 ≤ 23 ∧ 23 + 10 < 78 := by decide
  have hn : S.r 2 = nI (np S.r) := w.n
  have lw := hX.lw
  have Vr := w.V
  have K := w.K
  refine r_iload_n 3 dX0_fillAll_4 rfl rfl ?_
  refine r_aload_n 0 dX0_fillAll_5 rfl rfl rfl ?_
  refine r_getr (k := 1) (b := 23) dX0_fillAll_6 hx.s21 rfl (by decide) (Or.inl q306) (Or.inl rfl) rfl hx.r_land ?_
  refine r_geti (k := 0) dX0_fillAll_9 hl.s0 rfl (by decide) (Or.inr ⟨_, q219⟩) (Or.inl rfl) rfl ?_
  refine r_eqi (show _ = nI ((np S.r)) from ((LG_r0 (k := 0) (i := 2) rfl).trans hn)) ?_
  refine r_icmp_ge 48 dX0_fillAll_12 (by decide) (fun c_12 => ?_) (fun c_12 => ?_)
  · skip
    have n_12 : (np S.r) ≤ i := n_ge (by omega) (by omega) c_12
    have hin : i = np S.r := by omega
    rw [hin]
    exact kk
  · skip
    have n_12 : i < (np S.r) := n_gen (by omega) (by omega) c_12
    refine r_iload_n 2 dX0_fillAll_15 rfl rfl ?_
    refine r_iload_n 1 dX0_fillAll_16 rfl rfl ?_
    refine r_iload_n 3 dX0_fillAll_17 rfl rfl ?_
    refine r_callS_1 dX0_fillAll_18 kX0_281 (X_hasBit (s := s) (i := i))  rfl rfl (Nat.le_of_ble_eq_true rfl) ?_
    refine r_if_eq 39 dX0_fillAll_21 (by decide) (fun c_21 => ?_) (fun c_21 => ?_)
    · skip
      have n_21 : (decide ((nI s >>> (nI i &&& 31)) &&& nI 1 = nI 1)) = false := b2_f c_21
      refine r_iconst (v := nI 0) dX0_fillAll_39 rfl ?_
      refine r_iadd dX0_fillAll_40 ?_
      refine r_istore_n 2 dX0_fillAll_41 rfl (by decide) rfl ?_
      refine gG_ls (ls' := [_, _, _, _]) rfl ?_
      refine r_iinc dX0_fillAll_42 rfl (by decide) rfl ?_
      refine gG_ls (ls' := [_, _, _, some (.int (nI ((i + 1))))]) (by rw [show (Int32.ofInt 1) = nI 1 from rfl, nI_add]; rfl) ?_
      refine r_goto 4 dX0_fillAll_45 (by decide) ?_
      refine gG_ls (ls' := [_, _, some (.int (filS S.r s (i + 1))), _]) (by rw [filS_f (of_decide_eq_false n_21)]) ?_
      exact ih (i + 1) (by omega) (by omega) kk
    · skip
      have n_21 : (decide ((nI s >>> (nI i &&& 31)) &&& nI 1 = nI 1)) = true := b2_t c_21
      refine r_aload_n 0 dX0_fillAll_24 rfl rfl rfl ?_
      refine r_getr (k := 1) (b := 23) dX0_fillAll_25 hx.s21 rfl (by decide) (Or.inl q306) (Or.inl rfl) rfl hx.r_land ?_
      refine r_getr (k := 1) (b := (23 + 1)) dX0_fillAll_28 hl.s0 rfl (by decide) (Or.inr ⟨_, q221⟩) (Or.inl rfl) rfl hl.r_person ?_
      refine r_iload_n 3 dX0_fillAll_31 rfl rfl ?_
      obtain ⟨a, k9, ha, hk9, pa⟩ := lw.one (p := i) (by omega) hn8
      refine r_aaldN (i) (b := a) dX0_fillAll_32 hl.s1 (by decide) rfl (by omega) (by decide) ha (by have := pa.1; omega) ?_
      refine r_bucket_X0_146 rfl dX0_fillAll_33 (pa.ext (LG_ext (by omega))) (Nat.le_of_ble_eq_true rfl) ?_
      rw [show fillV k9 (pv S.r i 1) = fillV (kindN S.r i) (pv S.r i 1) from by rw [kindN_of hk9 pa.2.2.2.1]]
      refine r_goto 40 dX0_fillAll_36 (by decide) ?_
      refine r_iadd dX0_fillAll_40 ?_
      refine r_istore_n 2 dX0_fillAll_41 rfl (by decide) rfl ?_
      refine gG_ls (ls' := [_, _, _, _]) rfl ?_
      refine r_iinc dX0_fillAll_42 rfl (by decide) rfl ?_
      refine gG_ls (ls' := [_, _, _, some (.int (nI ((i + 1))))]) (by rw [show (Int32.ofInt 1) = nI 1 from rfl, nI_add]; rfl) ?_
      refine r_goto 4 dX0_fillAll_45 (by decide) ?_
      refine gG_ls (ls' := [_, _, some (.int (filS S.r s (i + 1))), _]) (by rw [filS_t (of_decide_eq_true n_21)]) ?_
      exact ih (i + 1) (by omega) (by omega) kk
theorem X_fillAll {d : Nat} {h : Hp} {S : MSt} (hX : CX h S) (w : WF S.r) {g : Row} {s : Nat} : gC (d + 5) (0) (0) m_X0_fillAll [.ref 21, .int (nI s)] (LG h 23 S.r (-1) g) (Ret (some (.int (filS S.r s (np S.r)))) (LG h 23 S.r (-1) g)) := by
  refine gC.of (ls := [some (.ref 21), some (.int (nI s)), none, none]) (by decide +kernel) rfl rfl rfl rfl (Nat.le_of_ble_eq_true rfl) ?_
  refine r_iconst (v := nI 0) dX0_fillAll_0 rfl ?_
  refine r_istore_n 2 dX0_fillAll_1 rfl (by decide) rfl ?_
  refine gG_ls (ls' := [_, _, _, _]) rfl ?_
  refine r_iconst (v := nI 0) dX0_fillAll_2 rfl ?_
  refine r_istore_n 3 dX0_fillAll_3 rfl (by decide) rfl ?_
  refine gG_ls (ls' := [_, _, _, _]) rfl ?_
  refine X_fillAll_L hX w (np S.r + 1) 0 (by omega) (by omega) ?_
  refine r_iload_n 2 dX0_fillAll_48 rfl rfl ?_
  refine e_iret dX0_fillAll_49 rfl ?_
  exact ⟨rfl, rfl⟩
theorem X_cover_L {d : Nat} {h : Hp} {S : MSt} (hX : CX h S) (w : WF S.r) {g : Row} {gv : Nat} {t : Int32} (hg : gv < 256) {Q : gQ} : ∀ (k i : Nat) (y : Option Value), i ≤ gv + 1 → gv + 2 ≤ i + k → (∀ y, gG (d + 6) (0) (0) m_X0_cover 85 [some (.ref 21), some (.int (nI gv)), some (.int t), some (.int (frI (covF (coOk S.r (nI gv) t (np S.r)) (gv + 1)))), some (.int (nI (gv + 1))), y] [] (LG h 23 S.r (-1) g) (Q)) → gG (d + 6) (0) (0) m_X0_cover 18 [some (.ref 21), some (.int (nI gv)), some (.int t), some (.int (frI (covF (coOk S.r (nI gv) t (np S.r)) (i)))), some (.int (nI i)), y] [] (LG h 23 S.r (-1) g) (Q) := by
  intro k
  induction k with
  | zero => exact fun i y h1 h2 => absurd h2 (by omega)
  | succ k ih =>
  intro i y hi hk kk
  have hn8 := w.n8
  have hx := hX.hx
  have hl := hX.hl
  have hb : 21 ≤ 23 ∧ 23 + 10 < 78 := by decide
  have hn : S.r 2 = nI (np S.r) := w.n
  have lw := hX.lw
  have Vr := w.V
  have K := w.K
  refine r_iload dX0_cover_18 rfl ?_
  refine r_iload_n 1 dX0_cover_20 rfl rfl ?_
  refine r_icmp_gt 85 dX0_cover_21 (by decide) (fun c_21 => ?_) (fun c_21 => ?_)
  · skip
    have n_21 : gv < i := n_gt (by omega) (by omega) c_21
    have hin : i = gv + 1 := by omega
    subst hin
    exact kk _
  · skip
    have n_21 : i ≤ gv := n_gtn (by omega) (by omega) c_21
    rcases hb9 : covF (coOk S.r (nI gv) t (np S.r)) i with _ | b
    · skip
      have hfr : frI none = -1 := rfl
      rw [hfr]
      refine r_iload_n 3 dX0_cover_24 rfl rfl ?_
      refine r_iconst (v := (-1)) dX0_cover_25 (by decide +kernel) ?_
      refine r_icmp_eq 41 dX0_cover_26 (by decide) (fun c_26 => ?_) (fun c_26 => ?_)
      · skip
        refine r_iconst (v := nI 1) dX0_cover_41 rfl ?_
        refine r_goto 46 dX0_cover_42 (by decide) ?_
        refine r_istore dX0_cover_46 (by decide) rfl ?_
        refine gG_ls (ls' := [_, _, _, _, _, _]) rfl ?_
        refine r_iload dX0_cover_48 rfl ?_
        refine r_iload_n 1 dX0_cover_50 rfl rfl ?_
        refine r_iconst (v := (-1)) dX0_cover_51 (by decide +kernel) ?_
        refine r_ixor dX0_cover_52 ?_
        refine r_iand dX0_cover_53 ?_
        refine r_if_ne 77 dX0_cover_54 (by decide) (fun c_54 => ?_) (fun c_54 => ?_)
        · skip
          refine r_iload_n 3 dX0_cover_77 rfl rfl ?_
          refine r_istore_n 3 dX0_cover_78 rfl (by decide) rfl ?_
          refine gG_ls (ls' := [_, _, _, _, _, _]) rfl ?_
          refine r_iinc dX0_cover_79 rfl (by decide) rfl ?_
          refine gG_ls (ls' := [_, _, _, _, some (.int (nI ((i + 1)))), _]) (by rw [show (Int32.ofInt 1) = nI 1 from rfl, nI_add]; rfl) ?_
          refine r_goto 18 dX0_cover_82 (by decide) ?_
          refine gG_ls (ls' := [_, _, _, some (.int (frI (covF (coOk S.r (nI gv) t (np S.r)) (i + 1)))), _, _]) (by first | (rw [covF_n (coOk_f1 c_54), hb9]; rfl) | (rw [covF_n (coOk_f2 c_69), hb9]; rfl) | (rw [covF_1 (coOk_t c_54 (i_le_nlt c_69)) hb9]; rfl) | (rw [covF_1 (coOk_t c_54 c_69) hb9]; rfl) | (rw [covF_3 hb9 (Nat.not_lt.mpr n_38), hb9]; rfl) | (rw [covF_2 (coOk_t c_54 c_69) hb9 n_38]; rfl) | (rw [covF_2 (coOk_t c_54 (i_le_nlt c_69)) hb9 n_38]; rfl)) ?_
          exact ih (i + 1) _ (by omega) (by omega) kk
        · skip
          refine r_iload dX0_cover_57 rfl ?_
          refine r_if_eq 77 dX0_cover_59 (by decide) (fun c_59 => ?_) (fun c_59 => ?_)
          · skip
            have n_59 : 1 = 0 := n_eq0 (by omega) c_59
            exact absurd n_59 (by decide)
          · skip
            have n_59 : ¬ 1 = 0 := n_ne0 (by omega) c_59
            refine r_aload_n 0 dX0_cover_62 rfl rfl rfl ?_
            refine r_iload dX0_cover_63 rfl ?_
            refine r_callV_1 dX0_cover_65 kX0_295 (X_fillAll (s := i) hX w) (gRecv.of hx.s21 rfl) rfl rfl (Nat.le_of_ble_eq_true rfl) ?_
            refine r_iload_n 2 dX0_cover_68 rfl rfl ?_
            refine r_icmp_lt 77 dX0_cover_69 (by decide) (fun c_69 => ?_) (fun c_69 => ?_)
            · skip
              refine r_iload_n 3 dX0_cover_77 rfl rfl ?_
              refine r_istore_n 3 dX0_cover_78 rfl (by decide) rfl ?_
              refine gG_ls (ls' := [_, _, _, _, _, _]) rfl ?_
              refine r_iinc dX0_cover_79 rfl (by decide) rfl ?_
              refine gG_ls (ls' := [_, _, _, _, some (.int (nI ((i + 1)))), _]) (by rw [show (Int32.ofInt 1) = nI 1 from rfl, nI_add]; rfl) ?_
              refine r_goto 18 dX0_cover_82 (by decide) ?_
              refine gG_ls (ls' := [_, _, _, some (.int (frI (covF (coOk S.r (nI gv) t (np S.r)) (i + 1)))), _, _]) (by first | (rw [covF_n (coOk_f1 c_54), hb9]; rfl) | (rw [covF_n (coOk_f2 c_69), hb9]; rfl) | (rw [covF_1 (coOk_t c_54 (i_le_nlt c_69)) hb9]; rfl) | (rw [covF_1 (coOk_t c_54 c_69) hb9]; rfl) | (rw [covF_3 hb9 (Nat.not_lt.mpr n_38), hb9]; rfl) | (rw [covF_2 (coOk_t c_54 c_69) hb9 n_38]; rfl) | (rw [covF_2 (coOk_t c_54 (i_le_nlt c_69)) hb9 n_38]; rfl)) ?_
              exact ih (i + 1) _ (by omega) (by omega) kk
            · skip
              refine r_iload dX0_cover_72 rfl ?_
              refine r_goto 78 dX0_cover_74 (by decide) ?_
              refine r_istore_n 3 dX0_cover_78 rfl (by decide) rfl ?_
              refine gG_ls (ls' := [_, _, _, _, _, _]) rfl ?_
              refine r_iinc dX0_cover_79 rfl (by decide) rfl ?_
              refine gG_ls (ls' := [_, _, _, _, some (.int (nI ((i + 1)))), _]) (by rw [show (Int32.ofInt 1) = nI 1 from rfl, nI_add]; rfl) ?_
              refine r_goto 18 dX0_cover_82 (by decide) ?_
              refine gG_ls (ls' := [_, _, _, some (.int (frI (covF (coOk S.r (nI gv) t (np S.r)) (i + 1)))), _, _]) (by first | (rw [covF_n (coOk_f1 c_54), hb9]; rfl) | (rw [covF_n (coOk_f2 c_69), hb9]; rfl) | (rw [covF_1 (coOk_t c_54 (i_le_nlt c_69)) hb9]; rfl) | (rw [covF_1 (coOk_t c_54 c_69) hb9]; rfl) | (rw [covF_3 hb9 (Nat.not_lt.mpr n_38), hb9]; rfl) | (rw [covF_2 (coOk_t c_54 c_69) hb9 n_38]; rfl) | (rw [covF_2 (coOk_t c_54 (i_le_nlt c_69)) hb9 n_38]; rfl)) ?_
              exact ih (i + 1) _ (by omega) (by omega) kk
      · skip
        exact absurd rfl c_26
    · skip
      have hfr : frI (some b) = nI b := rfl
      rw [hfr]
      have hbs : b < i := covF_lt hb9
      refine r_iload_n 3 dX0_cover_24 rfl rfl ?_
      refine r_iconst (v := (-1)) dX0_cover_25 (by decide +kernel) ?_
      refine r_icmp_eq 41 dX0_cover_26 (by decide) (fun c_26 => ?_) (fun c_26 => ?_)
      · skip
        exact absurd c_26 (nI_ne1 (by omega))
      · skip
        have hb1 := bitN_le (s := i)
        have hb2 := bitN_le (s := b)
        refine r_iload dX0_cover_29 rfl ?_
        refine r_callS_1 dX0_cover_31 kX0_290 (X_bitCount (s := i) (by omega))  rfl rfl (Nat.le_of_ble_eq_true rfl) ?_
        refine r_iload_n 3 dX0_cover_34 rfl rfl ?_
        refine r_callS_1 dX0_cover_35 kX0_290 (X_bitCount (s := b) (by omega))  rfl rfl (Nat.le_of_ble_eq_true rfl) ?_
        refine r_icmp_ge 45 dX0_cover_38 (by decide) (fun c_38 => ?_) (fun c_38 => ?_)
        · skip
          have n_38 : (bitN b) ≤ (bitN i) := n_ge (by omega) (by omega) c_38
          refine r_iconst (v := nI 0) dX0_cover_45 rfl ?_
          refine r_istore dX0_cover_46 (by decide) rfl ?_
          refine gG_ls (ls' := [_, _, _, _, _, _]) rfl ?_
          refine r_iload dX0_cover_48 rfl ?_
          refine r_iload_n 1 dX0_cover_50 rfl rfl ?_
          refine r_iconst (v := (-1)) dX0_cover_51 (by decide +kernel) ?_
          refine r_ixor dX0_cover_52 ?_
          refine r_iand dX0_cover_53 ?_
          refine r_if_ne 77 dX0_cover_54 (by decide) (fun c_54 => ?_) (fun c_54 => ?_)
          · skip
            refine r_iload_n 3 dX0_cover_77 rfl rfl ?_
            refine r_istore_n 3 dX0_cover_78 rfl (by decide) rfl ?_
            refine gG_ls (ls' := [_, _, _, _, _, _]) rfl ?_
            refine r_iinc dX0_cover_79 rfl (by decide) rfl ?_
            refine gG_ls (ls' := [_, _, _, _, some (.int (nI ((i + 1)))), _]) (by rw [show (Int32.ofInt 1) = nI 1 from rfl, nI_add]; rfl) ?_
            refine r_goto 18 dX0_cover_82 (by decide) ?_
            refine gG_ls (ls' := [_, _, _, some (.int (frI (covF (coOk S.r (nI gv) t (np S.r)) (i + 1)))), _, _]) (by first | (rw [covF_n (coOk_f1 c_54), hb9]; rfl) | (rw [covF_n (coOk_f2 c_69), hb9]; rfl) | (rw [covF_1 (coOk_t c_54 (i_le_nlt c_69)) hb9]; rfl) | (rw [covF_1 (coOk_t c_54 c_69) hb9]; rfl) | (rw [covF_3 hb9 (Nat.not_lt.mpr n_38), hb9]; rfl) | (rw [covF_2 (coOk_t c_54 c_69) hb9 n_38]; rfl) | (rw [covF_2 (coOk_t c_54 (i_le_nlt c_69)) hb9 n_38]; rfl)) ?_
            exact ih (i + 1) _ (by omega) (by omega) kk
          · skip
            refine r_iload dX0_cover_57 rfl ?_
            refine r_if_eq 77 dX0_cover_59 (by decide) (fun c_59 => ?_) (fun c_59 => ?_)
            · skip
              have n_59 : 0 = 0 := n_eq0 (by omega) c_59
              refine r_iload_n 3 dX0_cover_77 rfl rfl ?_
              refine r_istore_n 3 dX0_cover_78 rfl (by decide) rfl ?_
              refine gG_ls (ls' := [_, _, _, _, _, _]) rfl ?_
              refine r_iinc dX0_cover_79 rfl (by decide) rfl ?_
              refine gG_ls (ls' := [_, _, _, _, some (.int (nI ((i + 1)))), _]) (by rw [show (Int32.ofInt 1) = nI 1 from rfl, nI_add]; rfl) ?_
              refine r_goto 18 dX0_cover_82 (by decide) ?_
              refine gG_ls (ls' := [_, _, _, some (.int (frI (covF (coOk S.r (nI gv) t (np S.r)) (i + 1)))), _, _]) (by first | (rw [covF_n (coOk_f1 c_54), hb9]; rfl) | (rw [covF_n (coOk_f2 c_69), hb9]; rfl) | (rw [covF_1 (coOk_t c_54 (i_le_nlt c_69)) hb9]; rfl) | (rw [covF_1 (coOk_t c_54 c_69) hb9]; rfl) | (rw [covF_3 hb9 (Nat.not_lt.mpr n_38), hb9]; rfl) | (rw [covF_2 (coOk_t c_54 c_69) hb9 n_38]; rfl) | (rw [covF_2 (coOk_t c_54 (i_le_nlt c_69)) hb9 n_38]; rfl)) ?_
              exact ih (i + 1) _ (by omega) (by omega) kk
            · skip
              have n_59 : ¬ 0 = 0 := n_ne0 (by omega) c_59
              exact absurd n_59 (by decide)
        · skip
          have n_38 : (bitN i) < (bitN b) := n_gen (by omega) (by omega) c_38
          refine r_iconst (v := nI 1) dX0_cover_41 rfl ?_
          refine r_goto 46 dX0_cover_42 (by decide) ?_
          refine r_istore dX0_cover_46 (by decide) rfl ?_
          refine gG_ls (ls' := [_, _, _, _, _, _]) rfl ?_
          refine r_iload dX0_cover_48 rfl ?_
          refine r_iload_n 1 dX0_cover_50 rfl rfl ?_
          refine r_iconst (v := (-1)) dX0_cover_51 (by decide +kernel) ?_
          refine r_ixor dX0_cover_52 ?_
          refine r_iand dX0_cover_53 ?_
          refine r_if_ne 77 dX0_cover_54 (by decide) (fun c_54 => ?_) (fun c_54 => ?_)
          · skip
            refine r_iload_n 3 dX0_cover_77 rfl rfl ?_
            refine r_istore_n 3 dX0_cover_78 rfl (by decide) rfl ?_
            refine gG_ls (ls' := [_, _, _, _, _, _]) rfl ?_
            refine r_iinc dX0_cover_79 rfl (by decide) rfl ?_
            refine gG_ls (ls' := [_, _, _, _, some (.int (nI ((i + 1)))), _]) (by rw [show (Int32.ofInt 1) = nI 1 from rfl, nI_add]; rfl) ?_
            refine r_goto 18 dX0_cover_82 (by decide) ?_
            refine gG_ls (ls' := [_, _, _, some (.int (frI (covF (coOk S.r (nI gv) t (np S.r)) (i + 1)))), _, _]) (by first | (rw [covF_n (coOk_f1 c_54), hb9]; rfl) | (rw [covF_n (coOk_f2 c_69), hb9]; rfl) | (rw [covF_1 (coOk_t c_54 (i_le_nlt c_69)) hb9]; rfl) | (rw [covF_1 (coOk_t c_54 c_69) hb9]; rfl) | (rw [covF_3 hb9 (Nat.not_lt.mpr n_38), hb9]; rfl) | (rw [covF_2 (coOk_t c_54 c_69) hb9 n_38]; rfl) | (rw [covF_2 (coOk_t c_54 (i_le_nlt c_69)) hb9 n_38]; rfl)) ?_
            exact ih (i + 1) _ (by omega) (by omega) kk
          · skip
            refine r_iload dX0_cover_57 rfl ?_
            refine r_if_eq 77 dX0_cover_59 (by decide) (fun c_59 => ?_) (fun c_59 => ?_)
            · skip
              have n_59 : 1 = 0 := n_eq0 (by omega) c_59
              exact absurd n_59 (by decide)
            · skip
              have n_59 : ¬ 1 = 0 := n_ne0 (by omega) c_59
              refine r_aload_n 0 dX0_cover_62 rfl rfl rfl ?_
              refine r_iload dX0_cover_63 rfl ?_
              refine r_callV_1 dX0_cover_65 kX0_295 (X_fillAll (s := i) hX w) (gRecv.of hx.s21 rfl) rfl rfl (Nat.le_of_ble_eq_true rfl) ?_
              refine r_iload_n 2 dX0_cover_68 rfl rfl ?_
              refine r_icmp_lt 77 dX0_cover_69 (by decide) (fun c_69 => ?_) (fun c_69 => ?_)
              · skip
                refine r_iload_n 3 dX0_cover_77 rfl rfl ?_
                refine r_istore_n 3 dX0_cover_78 rfl (by decide) rfl ?_
                refine gG_ls (ls' := [_, _, _, _, _, _]) rfl ?_
                refine r_iinc dX0_cover_79 rfl (by decide) rfl ?_
                refine gG_ls (ls' := [_, _, _, _, some (.int (nI ((i + 1)))), _]) (by rw [show (Int32.ofInt 1) = nI 1 from rfl, nI_add]; rfl) ?_
                refine r_goto 18 dX0_cover_82 (by decide) ?_
                refine gG_ls (ls' := [_, _, _, some (.int (frI (covF (coOk S.r (nI gv) t (np S.r)) (i + 1)))), _, _]) (by first | (rw [covF_n (coOk_f1 c_54), hb9]; rfl) | (rw [covF_n (coOk_f2 c_69), hb9]; rfl) | (rw [covF_1 (coOk_t c_54 (i_le_nlt c_69)) hb9]; rfl) | (rw [covF_1 (coOk_t c_54 c_69) hb9]; rfl) | (rw [covF_3 hb9 (Nat.not_lt.mpr n_38), hb9]; rfl) | (rw [covF_2 (coOk_t c_54 c_69) hb9 n_38]; rfl) | (rw [covF_2 (coOk_t c_54 (i_le_nlt c_69)) hb9 n_38]; rfl)) ?_
                exact ih (i + 1) _ (by omega) (by omega) kk
              · skip
                refine r_iload dX0_cover_72 rfl ?_
                refine r_goto 78 dX0_cover_74 (by decide) ?_
                refine r_istore_n 3 dX0_cover_78 rfl (by decide) rfl ?_
                refine gG_ls (ls' := [_, _, _, _, _, _]) rfl ?_
                refine r_iinc dX0_cover_79 rfl (by decide) rfl ?_
                refine gG_ls (ls' := [_, _, _, _, some (.int (nI ((i + 1)))), _]) (by rw [show (Int32.ofInt 1) = nI 1 from rfl, nI_add]; rfl) ?_
                refine r_goto 18 dX0_cover_82 (by decide) ?_
                refine gG_ls (ls' := [_, _, _, some (.int (frI (covF (coOk S.r (nI gv) t (np S.r)) (i + 1)))), _, _]) (by first | (rw [covF_n (coOk_f1 c_54), hb9]; rfl) | (rw [covF_n (coOk_f2 c_69), hb9]; rfl) | (rw [covF_1 (coOk_t c_54 (i_le_nlt c_69)) hb9]; rfl) | (rw [covF_1 (coOk_t c_54 c_69) hb9]; rfl) | (rw [covF_3 hb9 (Nat.not_lt.mpr n_38), hb9]; rfl) | (rw [covF_2 (coOk_t c_54 c_69) hb9 n_38]; rfl) | (rw [covF_2 (coOk_t c_54 (i_le_nlt c_69)) hb9 n_38]; rfl)) ?_
                exact ih (i + 1) _ (by omega) (by omega) kk
theorem X_cover {d : Nat} {h : Hp} {S : MSt} (hX : CX h S) (w : WF S.r)  : gC (d + 406) (0) (0) m_X0_cover [.ref 21] (h) (RX h (aCover S)) := by
  have e_0 : aCover S = (coA S (coX S.r)) := rfl
  rw [e_0]
  have hn8 := w.n8
  have hx := hX.hx
  have hl := hX.hl
  have hb : 21 ≤ 23 ∧ 23 + 10 < 78 := by decide
  have hn : S.r 2 = nI (np S.r) := w.n
  have lw := hX.lw
  have Vr := w.V
  have K := w.K
  obtain ⟨gv, hgv, hgl⟩ := giv_n S.r (np S.r) w.n8
  have hcx : coX S.r = covF (coOk S.r (nI gv) (drkS S.r (np S.r)) (np S.r)) (gv + 1) := cov_c hgv hgl w.n8
  refine gC.ofH (ls := [some (.ref 21), none, none, none, none, none]) (by decide +kernel) rfl rfl rfl rfl (Nat.le_of_ble_eq_true rfl) ?_
  refine gG_h hX.lg ?_
  refine r_aload_n 0 dX0_cover_0 rfl rfl rfl ?_
  refine r_getr (k := 1) (b := 23) dX0_cover_1 hx.s21 rfl (by decide) (Or.inl q306) (Or.inl rfl) rfl hx.r_land ?_
  refine r_callV_1l dX0_cover_4 kX0_284 (L_who (n := np S.r) hl hb hn hn8 lw) (gRecv.of hl.s0 rfl) rfl rfl (Nat.le_of_ble_eq_true rfl) (fun g_1 => ?_)
  refine r_eqi (show _ = nI (gv) from hgv) ?_
  refine r_istore_n 1 dX0_cover_7 rfl (by decide) rfl ?_
  refine gG_ls (ls' := [_, _, _, _, _, _]) rfl ?_
  refine r_aload_n 0 dX0_cover_8 rfl rfl rfl ?_
  refine r_callV_1 dX0_cover_9 kX0_287 (X_drinkAll hX w) (gRecv.of hx.s21 rfl) rfl rfl (Nat.le_of_ble_eq_true rfl) ?_
  refine r_istore_n 2 dX0_cover_12 rfl (by decide) rfl ?_
  refine gG_ls (ls' := [_, _, _, _, _, _]) rfl ?_
  refine r_iconst (v := (-1)) dX0_cover_13 (by decide +kernel) ?_
  refine r_istore_n 3 dX0_cover_14 rfl (by decide) rfl ?_
  refine gG_ls (ls' := [_, _, _, _, _, _]) rfl ?_
  refine r_iconst (v := nI 0) dX0_cover_15 rfl ?_
  refine r_istore dX0_cover_16 (by decide) rfl ?_
  refine gG_ls (ls' := [_, _, _, _, _, _]) rfl ?_
  have hg8 : gv < 256 := by have := (shl_n (np S.r) w.n8).2; omega
  refine X_cover_L hX w hg8 (gv + 2) 0 _ (by omega) (by omega) (fun y => ?_)
  rcases hb9 : covF (coOk S.r (nI gv) (drkS S.r (np S.r)) (np S.r)) (gv + 1) with _ | b
  · skip
    have hfr : frI none = -1 := rfl
    rw [hfr]
    rw [hcx.trans hb9]
    rw [show coA S none = errA S (-1000000002) 2 from rfl]
    refine r_aload_n 0 dX0_cover_85 rfl rfl rfl ?_
    refine r_iload_n 3 dX0_cover_86 rfl rfl ?_
    refine r_iconst (v := (-1)) dX0_cover_87 (by decide +kernel) ?_
    refine r_icmp_eq 95 dX0_cover_88 (by decide) (fun c_88 => ?_) (fun c_88 => ?_)
    · skip
      first | rw [iP c_88] | rw [iN c_88] | rw [iN (i_le_nlt c_88)] | rw [iP (i_nle c_88)] | rw [iP (i_nlt c_88)] | rw [iN (i_lt_nle c_88)] | skip
      refine r_iconst (v := nI 0) dX0_cover_95 rfl ?_
      refine r_iconst (v := nI 2) dX0_cover_96 rfl ?_
      refine r_need0 dX0_cover_97 rfl (by exact hx) (Nat.le_of_ble_eq_true rfl) ?_
      refine t_catch [] (0, 101, 102, 8) [] (hx).s22 rfl rfl (fun z hz => by cases hz) rfl (by decide) q126 q128 ?_
      refine r_astore_n 1 dX0_cover_102 rfl (by decide) rfl rfl ?_
      refine gG_ls (ls' := [_, _, _, _, _, _]) rfl ?_
      refine r_aload_n 0 dX0_cover_103 rfl rfl rfl ?_
      refine r_aload_n 1 dX0_cover_104 rfl rfl rfl ?_
      refine r_callV_1 dX0_cover_105 kX0_131 (X_finds (k := 2) (by exact hx) (by decide)) (gRecv.of hx.s21 rfl) rfl rfl (Nat.le_of_ble_eq_true rfl) ?_
      refine e_iret dX0_cover_108 rfl ?_
      exact RX.err hX.self (FrX.lg (by decide)) (by decide) (by decide) (by decide)
    · skip
      first | rw [iP c_88] | rw [iN c_88] | rw [iN (i_le_nlt c_88)] | rw [iP (i_nle c_88)] | rw [iP (i_nlt c_88)] | rw [iN (i_lt_nle c_88)] | skip
      exact absurd rfl c_88
  · skip
    have hfr : frI (some b) = nI b := rfl
    rw [hfr]
    have hbs : b < gv + 1 := covF_lt hb9
    rw [hcx.trans hb9]
    refine r_aload_n 0 dX0_cover_85 rfl rfl rfl ?_
    refine r_iload_n 3 dX0_cover_86 rfl rfl ?_
    refine r_iconst (v := (-1)) dX0_cover_87 (by decide +kernel) ?_
    refine r_icmp_eq 95 dX0_cover_88 (by decide) (fun c_88 => ?_) (fun c_88 => ?_)
    · skip
      first | rw [iP c_88] | rw [iN c_88] | rw [iN (i_le_nlt c_88)] | rw [iP (i_nle c_88)] | rw [iP (i_nlt c_88)] | rw [iN (i_lt_nle c_88)] | skip
      exact absurd c_88 (nI_ne1 (by omega))
    · skip
      first | rw [iP c_88] | rw [iN c_88] | rw [iN (i_le_nlt c_88)] | rw [iP (i_nle c_88)] | rw [iP (i_nlt c_88)] | rw [iN (i_lt_nle c_88)] | skip
      refine r_iconst (v := nI 1) dX0_cover_91 rfl ?_
      refine r_goto 96 dX0_cover_92 (by decide) ?_
      refine r_iconst (v := nI 2) dX0_cover_96 rfl ?_
      refine r_need1 dX0_cover_97 rfl (by exact hx) (Nat.le_of_ble_eq_true rfl) ?_
      refine r_iload_n 3 dX0_cover_100 rfl rfl ?_
      refine e_iret dX0_cover_101 rfl ?_
      exact RX.same hX.self (FrX.lg (by decide)) rfl rfl
