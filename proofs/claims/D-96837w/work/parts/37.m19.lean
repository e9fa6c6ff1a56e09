theorem X_count {d : Nat} {h : Hp} {S : MSt} (hX : CX h S) (w : WF S.r) {v : Int32} : gC (d + 406) (0) (0) m_X0_count [.ref 21, .int v] (h) (RX h (aCount S v)) := by
  have e_0 : aCount S v = (if inB v (nI 0) (nI 9) = true then (if toN v = 0 then nI (np S.r) else if toN v = 1 then S.r 0 else if toN v = 2 then sumW S.r 3 (np S.r) else if toN v = 3 then sumW S.r 4 (np S.r) else if toN v = 4 then sumD S.r 64 else if toN v = 5 then givenSet S.r (np S.r) else if toN v = 6 then S.r 3 else if toN v = 7 then S.r 4 else if toN v = 8 then S.many else S.r 1, S) else errA S (-1000000001) 1) := rfl
  rw [e_0]
  have hn8 := w.n8
  have hx := hX.hx
  have hl := hX.hl
  have hb : 21 ≤ 23 ∧ 23 + 10 < 78 := by decide
  have hn : S.r 2 = nI (np S.r) := w.n
  have lw := hX.lw
  have Vr := w.V
  have K := w.K
  refine gC.ofH (ls := [some (.ref 21), some (.int v), none]) (by decide +kernel) rfl rfl rfl rfl (Nat.le_of_ble_eq_true rfl) ?_
  refine gG_h hX.lg ?_
  refine r_aload_n 0 dX0_count_0 rfl rfl rfl ?_
  refine r_iload_n 1 dX0_count_1 rfl rfl ?_
  refine r_iconst (v := nI 0) dX0_count_2 rfl ?_
  refine r_bipush (v := nI 9) dX0_count_3 (by decide +kernel) ?_
  refine r_callS_1 dX0_count_5 kX0_86 (X_in)  rfl rfl (Nat.le_of_ble_eq_true rfl) ?_
  refine r_iconst (v := nI 1) dX0_count_8 rfl ?_
  refine r_needB dX0_count_9 rfl (by exact hx) (Nat.le_of_ble_eq_true rfl) (fun n_9 => ?_) (fun n_9 => ?_)
  · skip
    first | rw [ifT n_9] | rw [ifF n_9] | skip
    obtain ⟨c, h_c, rfl⟩ := inB_n (by decide) n_9
    have e_c : toN (nI c) = c := toN_nI (by omega)
    try simp only [e_c]
    refine r_iload_n 1 dX0_count_12 rfl rfl ?_
    rcases (show c = 0 ∨ c = 1 ∨ c = 2 ∨ c = 3 ∨ c = 4 ∨ c = 5 ∨ c = 6 ∨ c = 7 ∨ c = 8 ∨ c = 9 by omega) with rfl | rfl | rfl | rfl | rfl | rfl | rfl | rfl | rfl | rfl
    · skip
      refine r_tabIn 64 (off := 51) dX0_count_13 (by decide) (by decide) (by decide +kernel) (by decide) ?_
      refine r_aload_n 0 dX0_count_64 rfl rfl rfl ?_
      refine r_getr (k := 1) (b := 23) dX0_count_65 hx.s21 rfl (by decide) (Or.inl q306) (Or.inl rfl) rfl hx.r_land ?_
      refine r_geti (k := 0) dX0_count_68 hl.s0 rfl (by decide) (Or.inr ⟨_, q219⟩) (Or.inl rfl) rfl ?_
      refine r_eqi (show _ = nI ((np S.r)) from ((LG_r0 (k := 0) (i := 2) rfl).trans hn)) ?_
      refine e_iret dX0_count_71 rfl ?_
      exact RX.same hX.self (FrX.lg (by decide)) (rfl) rfl
    · skip
      refine r_tabIn 72 (off := 59) dX0_count_13 (by decide) (by decide) (by decide +kernel) (by decide) ?_
      refine r_aload_n 0 dX0_count_72 rfl rfl rfl ?_
      refine r_getr (k := 1) (b := 23) dX0_count_73 hx.s21 rfl (by decide) (Or.inl q306) (Or.inl rfl) rfl hx.r_land ?_
      refine r_geti (k := 6) dX0_count_76 hl.s0 rfl (by decide) (Or.inr ⟨_, q231⟩) (Or.inl rfl) rfl ?_
      refine r_eqi (show _ = (S.r 0) from (LG_r0 (k := 6) (i := 0) rfl)) ?_
      refine e_iret dX0_count_79 rfl ?_
      exact RX.same hX.self (FrX.lg (by decide)) (rfl) rfl
    · skip
      refine r_tabIn 80 (off := 67) dX0_count_13 (by decide) (by decide) (by decide +kernel) (by decide) ?_
      refine r_aload_n 0 dX0_count_80 rfl rfl rfl ?_
      refine r_getr (k := 1) (b := 23) dX0_count_81 hx.s21 rfl (by decide) (Or.inl q306) (Or.inl rfl) rfl hx.r_land ?_
      refine r_callV_1 dX0_count_84 kX0_208 (L_allWater (r := S.r) (t := -1) hl hb hn hn8) (gRecv.of hl.s0 rfl) rfl rfl (Nat.le_of_ble_eq_true rfl) ?_
      refine e_iret dX0_count_87 rfl ?_
      exact RX.same hX.self (FrX.lg (by decide)) (rfl) rfl
    · skip
      refine r_tabIn 88 (off := 75) dX0_count_13 (by decide) (by decide) (by decide +kernel) (by decide) ?_
      refine r_aload_n 0 dX0_count_88 rfl rfl rfl ?_
      refine r_getr (k := 1) (b := 23) dX0_count_89 hx.s21 rfl (by decide) (Or.inl q306) (Or.inl rfl) rfl hx.r_land ?_
      refine r_getr (k := 4) (b := (23 + 4)) dX0_count_92 hl.s0 rfl (by decide) (Or.inr ⟨_, q227⟩) (Or.inl rfl) rfl hl.r_thirst ?_
      refine r_aload_n 0 dX0_count_95 rfl rfl rfl ?_
      refine r_getr (k := 1) (b := 23) dX0_count_96 hx.s21 rfl (by decide) (Or.inl q306) (Or.inl rfl) rfl hx.r_land ?_
      refine r_geti (k := 0) dX0_count_99 hl.s0 rfl (by decide) (Or.inr ⟨_, q219⟩) (Or.inl rfl) rfl ?_
      refine r_eqi (show _ = nI ((np S.r)) from ((LG_r0 (k := 0) (i := 2) rfl).trans hn)) ?_
      refine r_callS_1 dX0_count_102 kX0_375 (L_sumOf (f := fun k => pv S.r k 4) hl.s4 hn8 (by decide) (fun k hk => LG_r4 (by omega)))  rfl rfl (Nat.le_of_ble_eq_true rfl) ?_
      refine e_iret dX0_count_105 rfl ?_
      exact RX.same hX.self (FrX.lg (by decide)) (by rw [sumW_G]; rfl) rfl
    · skip
      refine r_tabIn 106 (off := 93) dX0_count_13 (by decide) (by decide) (by decide +kernel) (by decide) ?_
      refine r_aload_n 0 dX0_count_106 rfl rfl rfl ?_
      refine r_getr (k := 1) (b := 23) dX0_count_107 hx.s21 rfl (by decide) (Or.inl q306) (Or.inl rfl) rfl hx.r_land ?_
      refine r_callV_1 dX0_count_110 kX0_307 (L_allOwed (r := S.r) (t := -1) hl hb) (gRecv.of hl.s0 rfl) rfl rfl (Nat.le_of_ble_eq_true rfl) ?_
      refine e_iret dX0_count_113 rfl ?_
      exact RX.same hX.self (FrX.lg (by decide)) (rfl) rfl
    · skip
      refine r_tabIn 114 (off := 101) dX0_count_13 (by decide) (by decide) (by decide +kernel) (by decide) ?_
      refine r_aload_n 0 dX0_count_114 rfl rfl rfl ?_
      refine r_getr (k := 1) (b := 23) dX0_count_115 hx.s21 rfl (by decide) (Or.inl q306) (Or.inl rfl) rfl hx.r_land ?_
      refine r_callV_1l dX0_count_118 kX0_284 (L_who (n := np S.r) hl hb hn hn8 lw) (gRecv.of hl.s0 rfl) rfl rfl (Nat.le_of_ble_eq_true rfl) (fun g_1 => ?_)
      refine e_iret dX0_count_121 rfl ?_
      exact RX.same hX.self (FrX.lg (by decide)) (rfl) rfl
    · skip
      refine r_tabIn 122 (off := 109) dX0_count_13 (by decide) (by decide) (by decide +kernel) (by decide) ?_
      refine r_aload_n 0 dX0_count_122 rfl rfl rfl ?_
      refine r_getr (k := 1) (b := 23) dX0_count_123 hx.s21 rfl (by decide) (Or.inl q306) (Or.inl rfl) rfl hx.r_land ?_
      refine r_geti (k := 11) dX0_count_126 hl.s0 rfl (by decide) (Or.inr ⟨_, q241⟩) (Or.inl rfl) rfl ?_
      refine r_eqi (show _ = (S.r 3) from (LG_r0 (k := 11) (i := 3) rfl)) ?_
      refine e_iret dX0_count_129 rfl ?_
      exact RX.same hX.self (FrX.lg (by decide)) (rfl) rfl
    · skip
      refine r_tabIn 130 (off := 117) dX0_count_13 (by decide) (by decide) (by decide +kernel) (by decide) ?_
      refine r_aload_n 0 dX0_count_130 rfl rfl rfl ?_
      refine r_getr (k := 1) (b := 23) dX0_count_131 hx.s21 rfl (by decide) (Or.inl q306) (Or.inl rfl) rfl hx.r_land ?_
      refine r_geti (k := 13) dX0_count_134 hl.s0 rfl (by decide) (Or.inr ⟨_, q245⟩) (Or.inl rfl) rfl ?_
      refine r_eqi (show _ = (S.r 4) from (LG_r0 (k := 13) (i := 4) rfl)) ?_
      refine e_iret dX0_count_137 rfl ?_
      exact RX.same hX.self (FrX.lg (by decide)) (rfl) rfl
    · skip
      refine r_tabIn 138 (off := 125) dX0_count_13 (by decide) (by decide) (by decide +kernel) (by decide) ?_
      refine r_aload_n 0 dX0_count_138 rfl rfl rfl ?_
      refine r_getr (k := 5) (b := 56) dX0_count_139 hx.s21 rfl (by decide) (Or.inl q310) (Or.inl rfl) rfl hx.r_trace ?_
      refine r_geti (k := 1) dX0_count_142 hx.s56 rfl (by decide) (Or.inr ⟨_, q287⟩) (Or.inl rfl) rfl ?_
      refine r_eqi (show _ = S.many from hX.self.many) ?_
      refine e_iret dX0_count_145 rfl ?_
      exact RX.same hX.self (FrX.lg (by decide)) (rfl) rfl
    · skip
      refine r_tabOut 146 dX0_count_13 (by decide) (by decide) ?_
      refine r_aload_n 0 dX0_count_146 rfl rfl rfl ?_
      refine r_getr (k := 1) (b := 23) dX0_count_147 hx.s21 rfl (by decide) (Or.inl q306) (Or.inl rfl) rfl hx.r_land ?_
      refine r_geti (k := 9) dX0_count_150 hl.s0 rfl (by decide) (Or.inr ⟨_, q237⟩) (Or.inl rfl) rfl ?_
      refine r_eqi (show _ = (S.r 1) from (LG_r0 (k := 9) (i := 1) rfl)) ?_
      refine e_iret dX0_count_153 rfl ?_
      exact RX.same hX.self (FrX.lg (by decide)) (rfl) rfl
  · skip
    first | rw [ifT n_9] | rw [ifF n_9] | skip
    refine t_catch [] (0, 71, 154, 8) [(72, 79, 154, 8), (80, 87, 154, 8), (88, 105, 154, 8), (106, 113, 154, 8), (114, 121, 154, 8), (122, 129, 154, 8), (130, 137, 154, 8), (138, 145, 154, 8), (146, 153, 154, 8)] (hx).s22 rfl rfl (fun z hz => by cases hz) rfl (by decide) q126 q128 ?_
    refine r_astore_n 2 dX0_count_154 rfl (by decide) rfl rfl ?_
    refine gG_ls (ls' := [_, _, _]) rfl ?_
    refine r_aload_n 0 dX0_count_155 rfl rfl rfl ?_
    refine r_aload_n 2 dX0_count_156 rfl rfl rfl ?_
    refine r_callV_1 dX0_count_157 kX0_131 (X_finds (k := 1) (by exact hx) (by decide)) (gRecv.of hx.s21 rfl) rfl rfl (Nat.le_of_ble_eq_true rfl) ?_
    refine e_iret dX0_count_160 rfl ?_
    exact RX.err hX.self (FrX.lg (by decide)) (by decide) (by decide) (by decide)
theorem X_often_L {d : Nat} {h : Hp} (hx : LayX (hS h) (hR h)) (hl : LayL (hS h) (hR h) 23) {r : Row} {t : Int32} (lw : LW h 23 r) {p : Nat} {t1 : Int32} (hp : p < 8) {Q : gQ} : ∀ (k i : Nat) (g : Row), i ≤ 7 → 8 ≤ i + k → (∀ g9 : Row, gG (d + 404) (0) (0) m_X0_oftenWith 48 [some (.ref 21), some (.int (nI p)), some (.int t1), some (.int (nI (weekV r p t1 (7)))), some (.int (nI 7))] [] (LG h 23 r t g9) (Q)) → gG (d + 404) (0) (0) m_X0_oftenWith 5 [some (.ref 21), some (.int (nI p)), some (.int t1), some (.int (nI (weekV r p t1 (i)))), some (.int (nI i))] [] (LG h 23 r t g) (Q) := by
  intro k
  induction k with
  | zero => exact fun i g h1 h2 => absurd h2 (by omega)
  | succ k ih =>
  intro i g hi hk kk
  have hb : 21 ≤ 23 ∧ 23 + 10 < 78 := by decide
  have hw := weekV_le (r := r) (p := p) (t := t1) i
  refine r_iload dX0_oftenWith_5 rfl ?_
  refine r_bipush (v := nI 7) dX0_oftenWith_7 (by decide +kernel) ?_
  refine r_icmp_ge 48 dX0_oftenWith_9 (by decide) (fun c_9 => ?_) (fun c_9 => ?_)
  · skip
    have n_9 : 7 ≤ i := n_ge (by omega) (by omega) c_9
    have hin : i = 7 := by omega
    subst hin
    exact kk _
  · skip
    have n_9 : i < 7 := n_gen (by omega) (by omega) c_9
    refine r_iload_n 3 dX0_oftenWith_12 rfl rfl ?_
    refine r_aload_n 0 dX0_oftenWith_13 rfl rfl rfl ?_
    refine r_getr (k := 1) (b := 23) dX0_oftenWith_14 hx.s21 rfl (by decide) (Or.inl q306) (Or.inl rfl) rfl hx.r_land ?_
    refine r_iload_n 1 dX0_oftenWith_17 rfl rfl ?_
    refine r_iload_n 2 dX0_oftenWith_18 rfl rfl ?_
    refine r_aload_n 0 dX0_oftenWith_19 rfl rfl rfl ?_
    refine r_getr (k := 1) (b := 23) dX0_oftenWith_20 hx.s21 rfl (by decide) (Or.inl q306) (Or.inl rfl) rfl hx.r_land ?_
    refine r_geti (k := 6) dX0_oftenWith_23 hl.s0 rfl (by decide) (Or.inr ⟨_, q231⟩) (Or.inl rfl) rfl ?_
    refine r_eqi (show _ = (r 0) from (LG_r0 (k := 6) (i := 0) rfl)) ?_
    refine r_iload dX0_oftenWith_26 rfl ?_
    refine r_iadd dX0_oftenWith_28 ?_
    refine r_callV_1l dX0_oftenWith_29 kX0_272 (L_isGiven (p := p) hl hb lw hp) (gRecv.of hl.s0 rfl) rfl rfl (Nat.le_of_ble_eq_true rfl) (fun g_1 => ?_)
    refine r_if_eq 39 dX0_oftenWith_32 (by decide) (fun c_32 => ?_) (fun c_32 => ?_)
    · skip
      have n_32 : (givenOnB r p t1 (r 0 + nI i)) = false := b2_f c_32
      refine r_iconst (v := nI 0) dX0_oftenWith_39 rfl ?_
      refine r_iadd dX0_oftenWith_40 ?_
      refine r_eqi (show _ = nI ((weekV r p t1 (i)) + 0) from by simp only [pk_mul, nI_add]) ?_
      refine r_istore_n 3 dX0_oftenWith_41 rfl (by decide) rfl ?_
      refine gG_ls (ls' := [_, _, _, _, _]) rfl ?_
      refine r_iinc dX0_oftenWith_42 rfl (by decide) rfl ?_
      refine gG_ls (ls' := [_, _, _, _, some (.int (nI ((i + 1))))]) (by rw [show (Int32.ofInt 1) = nI 1 from rfl, nI_add]; rfl) ?_
      refine r_goto 5 dX0_oftenWith_45 (by decide) ?_
      refine gG_ls (ls' := [_, _, _, some (.int (nI (weekV r p t1 (i + 1)))), _]) (by rw [weekV_f n_32] <;> rfl) ?_
      exact ih (i + 1) _ (by omega) (by omega) kk
    · skip
      have n_32 : (givenOnB r p t1 (r 0 + nI i)) = true := b2_t c_32
      refine r_iconst (v := nI 1) dX0_oftenWith_35 rfl ?_
      refine r_goto 40 dX0_oftenWith_36 (by decide) ?_
      refine r_iadd dX0_oftenWith_40 ?_
      refine r_eqi (show _ = nI ((weekV r p t1 (i)) + 1) from by simp only [pk_mul, nI_add]) ?_
      refine r_istore_n 3 dX0_oftenWith_41 rfl (by decide) rfl ?_
      refine gG_ls (ls' := [_, _, _, _, _]) rfl ?_
      refine r_iinc dX0_oftenWith_42 rfl (by decide) rfl ?_
      refine gG_ls (ls' := [_, _, _, _, some (.int (nI ((i + 1))))]) (by rw [show (Int32.ofInt 1) = nI 1 from rfl, nI_add]; rfl) ?_
      refine r_goto 5 dX0_oftenWith_45 (by decide) ?_
      refine gG_ls (ls' := [_, _, _, some (.int (nI (weekV r p t1 (i + 1)))), _]) (by rw [weekV_t n_32] <;> rfl) ?_
      exact ih (i + 1) _ (by omega) (by omega) kk
theorem X_often {d : Nat} {h : Hp} (hx : LayX (hS h) (hR h)) (hl : LayL (hS h) (hR h) 23) {r : Row} {t : Int32} (lw : LW h 23 r) {p : Nat} {t1 : Int32} (hp : p < 8) {g : Row} : gC (d + 404) (0) (0) m_X0_oftenWith [.ref 21, .int (nI p), .int t1] (LG h 23 r t g) (RL (some (.int (nI (weekV r p t1 7)))) h 23 r t) := by
  refine gC.of (ls := [some (.ref 21), some (.int (nI p)), some (.int t1), none, none]) (by decide +kernel) rfl rfl rfl rfl (Nat.le_of_ble_eq_true rfl) ?_
  refine r_iconst (v := nI 0) dX0_oftenWith_0 rfl ?_
  refine r_istore_n 3 dX0_oftenWith_1 rfl (by decide) rfl ?_
  refine gG_ls (ls' := [_, _, _, _, _]) rfl ?_
  refine r_iconst (v := nI 0) dX0_oftenWith_2 rfl ?_
  refine r_istore dX0_oftenWith_3 (by decide) rfl ?_
  refine gG_ls (ls' := [_, _, _, _, _]) rfl ?_
  refine X_often_L hx hl lw hp 8 0 _ (by omega) (by omega) (fun g_9 => ?_)
  refine r_iload_n 3 dX0_oftenWith_48 rfl rfl ?_
  refine e_iret dX0_oftenWith_49 rfl ?_
  exact ⟨rfl, _, rfl⟩
theorem X_turn_L {d : Nat} {h : Hp} {S : MSt} (hX : CX h S) (w : WF S.r) {p q : Nat} (hp : p < 8) {Q : gQ} : ∀ (k i : Nat) (y : Option Value) (g : Row), i ≤ 16 → 17 ≤ i + k → (∀ (y : Option Value) (g9 : Row), gG (d + 405) (0) (0) m_X0_turn 80 [some (.ref 21), some (.int (nI p)), some (.int (nI q)), some (.int (nI ((turF S.r p (16)).1))), some (.int (turF S.r p (16)).2), some (.int (nI 16)), y] [] (LG h 23 S.r (-1) g9) (Q)) → gG (d + 405) (0) (0) m_X0_turn 35 [some (.ref 21), some (.int (nI p)), some (.int (nI q)), some (.int (nI ((turF S.r p (i)).1))), some (.int (turF S.r p (i)).2), some (.int (nI i)), y] [] (LG h 23 S.r (-1) g) (Q) := by
  intro k
  induction k with
  | zero => exact fun i y g h1 h2 => absurd h2 (by omega)
  | succ k ih =>
  intro i y g hi hk kk
  have hn8 := w.n8
  have hx := hX.hx
  have hl := hX.hl
  have hb : 21 ≤ 23 ∧ 23 + 10 < 78 := by decide
  have hn : S.r 2 = nI (np S.r) := w.n
  have lw := hX.lw
  have Vr := w.V
  have K := w.K
  refine r_iload dX0_turn_35 rfl ?_
  refine r_bipush (v := nI 16) dX0_turn_37 (by decide +kernel) ?_
  refine r_icmp_ge 80 dX0_turn_39 (by decide) (fun c_39 => ?_) (fun c_39 => ?_)
  · skip
    have n_39 : 16 ≤ i := n_ge (by omega) (by omega) c_39
    have hin : i = 16 := by omega
    subst hin
    exact kk _ _
  · skip
    have n_39 : i < 16 := n_gen (by omega) (by omega) c_39
    refine r_aload_n 0 dX0_turn_42 rfl rfl rfl ?_
    refine r_iload_n 1 dX0_turn_43 rfl rfl ?_
    refine r_iload dX0_turn_44 rfl ?_
    refine r_callV_1l dX0_turn_46 kX0_275 (X_often (r := S.r) (p := p) (t1 := nI i) (by exact hx) (by exact hl) lw (by omega)) (gRecv.of hx.s21 rfl) rfl rfl (Nat.le_of_ble_eq_true rfl) (fun g_1 => ?_)
    refine r_istore dX0_turn_49 (by decide) rfl ?_
    refine gG_ls (ls' := [_, _, _, _, _, _, _]) rfl ?_
    refine r_iload dX0_turn_51 rfl ?_
    refine r_iload dX0_turn_53 rfl ?_
    refine r_icmp_le 63 dX0_turn_55 (by decide) (fun c_55 => ?_) (fun c_55 => ?_)
    · skip
      refine r_iload_n 3 dX0_turn_63 rfl rfl ?_
      refine r_istore_n 3 dX0_turn_64 rfl (by decide) rfl ?_
      refine gG_ls (ls' := [_, _, _, _, _, _, _]) rfl ?_
      refine r_iload dX0_turn_65 rfl ?_
      refine r_iload dX0_turn_67 rfl ?_
      refine r_mmax dX0_turn_69 kX0_278 kM_smax kM_I kM_cmax (Nat.le_of_ble_eq_true rfl) ?_
      refine r_eqi (show _ = (turF S.r p (i + 1)).2 from by rw [turF_f (i_le_nlt c_55)]; exact if_neg (i_le_nlt c_55)) ?_
      refine r_istore dX0_turn_72 (by decide) rfl ?_
      refine gG_ls (ls' := [_, _, _, _, _, _, _]) rfl ?_
      refine r_iinc dX0_turn_74 rfl (by decide) rfl ?_
      refine gG_ls (ls' := [_, _, _, _, _, some (.int (nI ((i + 1)))), _]) (by rw [show (Int32.ofInt 1) = nI 1 from rfl, nI_add]; rfl) ?_
      refine r_goto 35 dX0_turn_77 (by decide) ?_
      refine gG_ls (ls' := [_, _, _, some (.int (nI (turF S.r p (i + 1)).1)), some (.int (turF S.r p (i + 1)).2), _, _]) (by rw [turF_f (i_le_nlt c_55)]) ?_
      exact ih (i + 1) _ _ (by omega) (by omega) kk
    · skip
      refine r_iload dX0_turn_58 rfl ?_
      refine r_goto 64 dX0_turn_60 (by decide) ?_
      refine r_istore_n 3 dX0_turn_64 rfl (by decide) rfl ?_
      refine gG_ls (ls' := [_, _, _, _, _, _, _]) rfl ?_
      refine r_iload dX0_turn_65 rfl ?_
      refine r_iload dX0_turn_67 rfl ?_
      refine r_mmax dX0_turn_69 kX0_278 kM_smax kM_I kM_cmax (Nat.le_of_ble_eq_true rfl) ?_
      refine r_eqi (show _ = (turF S.r p (i + 1)).2 from by rw [turF_t (i_nle c_55)]; exact if_pos (i_nle c_55)) ?_
      refine r_istore dX0_turn_72 (by decide) rfl ?_
      refine gG_ls (ls' := [_, _, _, _, _, _, _]) rfl ?_
      refine r_iinc dX0_turn_74 rfl (by decide) rfl ?_
      refine gG_ls (ls' := [_, _, _, _, _, some (.int (nI ((i + 1)))), _]) (by rw [show (Int32.ofInt 1) = nI 1 from rfl, nI_add]; rfl) ?_
      refine r_goto 35 dX0_turn_77 (by decide) ?_
      refine gG_ls (ls' := [_, _, _, some (.int (nI (turF S.r p (i + 1)).1)), some (.int (turF S.r p (i + 1)).2), _, _]) (by rw [turF_t (i_nle c_55)]) ?_
      exact ih (i + 1) _ _ (by omega) (by omega) kk
theorem X_turn {d : Nat} {h : Hp} {S : MSt} (hX : CX h S) (w : WF S.r) {p q : Int32} : gC (d + 405) (0) (0) m_X0_turn [.ref 21, .int p, .int q] (h) (RX h (aTurn S p q)) := by
  have e_0 : aTurn S p q = (if inB p 0 (S.r 2 - 1) = true then (if inB q (nI 0) (nI 1) = true then (if toN q = 0 then nI (turF S.r (toN p) 16).1 else (turF S.r (toN p) 16).2, S) else errA S (-1000000001) 1) else errA S (-1000000001) 1) := rfl
  rw [e_0]
  have hn8 := w.n8
  have hx := hX.hx
  have hl := hX.hl
  have hb : 21 ≤ 23 ∧ 23 + 10 < 78 := by decide
  have hn : S.r 2 = nI (np S.r) := w.n
  have lw := hX.lw
  have Vr := w.V
  have K := w.K
  refine gC.ofH (ls := [some (.ref 21), some (.int p), some (.int q), none, none, none, none]) (by decide +kernel) rfl rfl rfl rfl (Nat.le_of_ble_eq_true rfl) ?_
  refine gG_h hX.lg ?_
  refine r_aload_n 0 dX0_turn_0 rfl rfl rfl ?_
  refine r_aload_n 0 dX0_turn_1 rfl rfl rfl ?_
  refine r_iload_n 1 dX0_turn_2 rfl rfl ?_
  refine r_callV_1 dX0_turn_3 kX0_103 (X_isPerson (r := S.r) hx hl) (gRecv.of hx.s21 rfl) rfl rfl (Nat.le_of_ble_eq_true rfl) ?_
  refine r_if_eq 22 dX0_turn_6 (by decide) (fun c_6 => ?_) (fun c_6 => ?_)
  · skip
    have n_6 : (inB (p) 0 (S.r 2 - 1)) = false := b2_f c_6
    first | rw [ifT n_6] | rw [ifF n_6] | skip
    refine r_iconst (v := nI 0) dX0_turn_22 rfl ?_
    refine r_iconst (v := nI 1) dX0_turn_23 rfl ?_
    refine r_need0 dX0_turn_24 rfl (by exact hx) (Nat.le_of_ble_eq_true rfl) ?_
    refine t_catch [] (0, 90, 91, 8) [] (hx).s22 rfl rfl (fun z hz => by cases hz) rfl (by decide) q126 q128 ?_
    refine r_astore_n 3 dX0_turn_91 rfl (by decide) rfl rfl ?_
    refine gG_ls (ls' := [_, _, _, _, _, _, _]) rfl ?_
    refine r_aload_n 0 dX0_turn_92 rfl rfl rfl ?_
    refine r_aload_n 3 dX0_turn_93 rfl rfl rfl ?_
    refine r_callV_1 dX0_turn_94 kX0_131 (X_finds (k := 1) (by exact hx) (by decide)) (gRecv.of hx.s21 rfl) rfl rfl (Nat.le_of_ble_eq_true rfl) ?_
    refine e_iret dX0_turn_97 rfl ?_
    exact RX.err hX.self (FrX.lg (by decide)) (by decide) (by decide) (by decide)
  · skip
    have n_6 : (inB (p) 0 (S.r 2 - 1)) = true := b2_t c_6
    first | rw [ifT n_6] | rw [ifF n_6] | skip
    obtain ⟨k, h_k, rfl⟩ := one_of w n_6
    have e_k : toN (nI k) = k := toN_nI (by omega)
    try simp only [e_k]
    refine r_iload_n 2 dX0_turn_9 rfl rfl ?_
    refine r_iconst (v := nI 0) dX0_turn_10 rfl ?_
    refine r_iconst (v := nI 1) dX0_turn_11 rfl ?_
    refine r_callS_1 dX0_turn_12 kX0_86 (X_in)  rfl rfl (Nat.le_of_ble_eq_true rfl) ?_
    refine r_if_eq 22 dX0_turn_15 (by decide) (fun c_15 => ?_) (fun c_15 => ?_)
    · skip
      have n_15 : (inB (q) (nI 0) (nI 1)) = false := b2_f c_15
      first | rw [ifT n_15] | rw [ifF n_15] | skip
      refine r_iconst (v := nI 0) dX0_turn_22 rfl ?_
      refine r_iconst (v := nI 1) dX0_turn_23 rfl ?_
      refine r_need0 dX0_turn_24 rfl (by exact hx) (Nat.le_of_ble_eq_true rfl) ?_
      refine t_catch [] (0, 90, 91, 8) [] (hx).s22 rfl rfl (fun z hz => by cases hz) rfl (by decide) q126 q128 ?_
      refine r_astore_n 3 dX0_turn_91 rfl (by decide) rfl rfl ?_
      refine gG_ls (ls' := [_, _, _, _, _, _, _]) rfl ?_
      refine r_aload_n 0 dX0_turn_92 rfl rfl rfl ?_
      refine r_aload_n 3 dX0_turn_93 rfl rfl rfl ?_
      refine r_callV_1 dX0_turn_94 kX0_131 (X_finds (k := 1) (by exact hx) (by decide)) (gRecv.of hx.s21 rfl) rfl rfl (Nat.le_of_ble_eq_true rfl) ?_
      refine e_iret dX0_turn_97 rfl ?_
      exact RX.err hX.self (FrX.lg (by decide)) (by decide) (by decide) (by decide)
    · skip
      have n_15 : (inB (q) (nI 0) (nI 1)) = true := b2_t c_15
      first | rw [ifT n_15] | rw [ifF n_15] | skip
      obtain ⟨c, h_c, rfl⟩ := inB_n (by decide) n_15
      have e_c : toN (nI c) = c := toN_nI (by omega)
      try simp only [e_c]
      refine r_iconst (v := nI 1) dX0_turn_18 rfl ?_
      refine r_goto 23 dX0_turn_19 (by decide) ?_
      refine r_iconst (v := nI 1) dX0_turn_23 rfl ?_
      refine r_need1 dX0_turn_24 rfl (by exact hx) (Nat.le_of_ble_eq_true rfl) ?_
      refine r_iconst (v := nI 0) dX0_turn_27 rfl ?_
      refine r_istore_n 3 dX0_turn_28 rfl (by decide) rfl ?_
      refine gG_ls (ls' := [_, _, _, _, _, _, _]) rfl ?_
      refine r_iconst (v := (-1)) dX0_turn_29 (by decide +kernel) ?_
      refine r_istore dX0_turn_30 (by decide) rfl ?_
      refine gG_ls (ls' := [_, _, _, _, _, _, _]) rfl ?_
      refine r_iconst (v := nI 0) dX0_turn_32 rfl ?_
      refine r_istore dX0_turn_33 (by decide) rfl ?_
      refine gG_ls (ls' := [_, _, _, _, _, _, _]) rfl ?_
      refine X_turn_L hX w (by omega) 17 0 _ _ (by omega) (by omega) (fun y g_9 => ?_)
      refine r_iload_n 2 dX0_turn_80 rfl rfl ?_
      refine r_if_ne 88 dX0_turn_81 (by decide) (fun c_81 => ?_) (fun c_81 => ?_)
      · skip
        have n_81 : ¬ c = 0 := n_ne0 (by omega) c_81
        first | rw [iP n_81] | rw [iN n_81] | rw [iN (Nat.not_lt.mpr n_81)] | rw [iN (Nat.not_le.mpr n_81)] | skip
        refine r_iload dX0_turn_88 rfl ?_
        refine e_iret dX0_turn_90 rfl ?_
        exact RX.same hX.self (FrX.lg (by decide)) rfl rfl
      · skip
        have n_81 : c = 0 := n_eq0 (by omega) c_81
        first | rw [iP n_81] | rw [iN n_81] | rw [iN (Nat.not_lt.mpr n_81)] | rw [iN (Nat.not_le.mpr n_81)] | skip
        refine r_iload_n 3 dX0_turn_84 rfl rfl ?_
        refine r_goto 90 dX0_turn_85 (by decide) ?_
        refine e_iret dX0_turn_90 rfl ?_
        exact RX.same hX.self (FrX.lg (by decide)) rfl rfl
theorem X_common_0 {d : Nat} {h : Hp} : gC (d) (0) (0) m_X0_common [.int (nI 0), .int (nI 7)] (h) (Ret (some (.int (nI 7))) h) := by
  refine gC.of (ls := [some (.int (nI 0)), some (.int (nI 7)), none, none, none]) (by decide +kernel) rfl rfl rfl rfl (Nat.le_of_ble_eq_true rfl) ?_
  refine r_iload_n 0 dX0_common_0 rfl rfl ?_
  refine r_istore_n 2 dX0_common_1 rfl (by decide) rfl ?_
  refine gG_ls (ls' := [_, _, _, _, _]) rfl ?_
  refine r_iload_n 1 dX0_common_2 rfl rfl ?_
  refine r_istore_n 3 dX0_common_3 rfl (by decide) rfl ?_
  refine gG_ls (ls' := [_, _, _, _, _]) rfl ?_
  refine r_iload_n 3 dX0_common_4 rfl rfl ?_
  refine r_if_eq 21 dX0_common_5 (by decide) (fun c_5 => ?_) (fun c_5 => ?_)
  · skip
    have n_5 : 7 = 0 := n_eq0 (by omega) c_5
    exact absurd n_5 (by decide)
  · skip
    have n_5 : ¬ 7 = 0 := n_ne0 (by omega) c_5
    refine r_iload_n 2 dX0_common_8 rfl rfl ?_
    refine r_iload_n 3 dX0_common_9 rfl rfl ?_
    refine r_irem dX0_common_10 (by decide) ?_
    refine r_eqi (show _ = nI 0 from (by decide)) ?_
    refine r_istore dX0_common_11 (by decide) rfl ?_
    refine gG_ls (ls' := [_, _, _, _, _]) rfl ?_
    refine r_iload_n 3 dX0_common_13 rfl rfl ?_
    refine r_istore_n 2 dX0_common_14 rfl (by decide) rfl ?_
    refine gG_ls (ls' := [_, _, _, _, _]) rfl ?_
    refine r_iload dX0_common_15 rfl ?_
    refine r_istore_n 3 dX0_common_17 rfl (by decide) rfl ?_
    refine gG_ls (ls' := [_, _, _, _, _]) rfl ?_
    refine r_goto 4 dX0_common_18 (by decide) ?_
    refine r_iload_n 3 dX0_common_4 rfl rfl ?_
    refine r_if_eq 21 dX0_common_5 (by decide) (fun c_5 => ?_) (fun c_5 => ?_)
    · skip
      have n_5 : 0 = 0 := n_eq0 (by omega) c_5
      refine r_iload_n 2 dX0_common_21 rfl rfl ?_
      refine e_iret dX0_common_22 rfl ?_
      exact ⟨rfl, rfl⟩
    · skip
      have n_5 : ¬ 0 = 0 := n_ne0 (by omega) c_5
      exact absurd n_5 (by decide)
theorem X_common_1 {d : Nat} {h : Hp} : gC (d) (0) (0) m_X0_common [.int (nI 1), .int (nI 7)] (h) (Ret (some (.int (nI 1))) h) := by
  refine gC.of (ls := [some (.int (nI 1)), some (.int (nI 7)), none, none, none]) (by decide +kernel) rfl rfl rfl rfl (Nat.le_of_ble_eq_true rfl) ?_
  refine r_iload_n 0 dX0_common_0 rfl rfl ?_
  refine r_istore_n 2 dX0_common_1 rfl (by decide) rfl ?_
  refine gG_ls (ls' := [_, _, _, _, _]) rfl ?_
  refine r_iload_n 1 dX0_common_2 rfl rfl ?_
  refine r_istore_n 3 dX0_common_3 rfl (by decide) rfl ?_
  refine gG_ls (ls' := [_, _, _, _, _]) rfl ?_
  refine r_iload_n 3 dX0_common_4 rfl rfl ?_
  refine r_if_eq 21 dX0_common_5 (by decide) (fun c_5 => ?_) (fun c_5 => ?_)
  · skip
    have n_5 : 7 = 0 := n_eq0 (by omega) c_5
    exact absurd n_5 (by decide)
  · skip
    have n_5 : ¬ 7 = 0 := n_ne0 (by omega) c_5
    refine r_iload_n 2 dX0_common_8 rfl rfl ?_
    refine r_iload_n 3 dX0_common_9 rfl rfl ?_
    refine r_irem dX0_common_10 (by decide) ?_
    refine r_eqi (show _ = nI 1 from (by decide)) ?_
    refine r_istore dX0_common_11 (by decide) rfl ?_
    refine gG_ls (ls' := [_, _, _, _, _]) rfl ?_
    refine r_iload_n 3 dX0_common_13 rfl rfl ?_
    refine r_istore_n 2 dX0_common_14 rfl (by decide) rfl ?_
    refine gG_ls (ls' := [_, _, _, _, _]) rfl ?_
    refine r_iload dX0_common_15 rfl ?_
    refine r_istore_n 3 dX0_common_17 rfl (by decide) rfl ?_
    refine gG_ls (ls' := [_, _, _, _, _]) rfl ?_
    refine r_goto 4 dX0_common_18 (by decide) ?_
    refine r_iload_n 3 dX0_common_4 rfl rfl ?_
    refine r_if_eq 21 dX0_common_5 (by decide) (fun c_5 => ?_) (fun c_5 => ?_)
    · skip
      have n_5 : 1 = 0 := n_eq0 (by omega) c_5
      exact absurd n_5 (by decide)
    · skip
      have n_5 : ¬ 1 = 0 := n_ne0 (by omega) c_5
      refine r_iload_n 2 dX0_common_8 rfl rfl ?_
      refine r_iload_n 3 dX0_common_9 rfl rfl ?_
      refine r_irem dX0_common_10 (by decide) ?_
      refine r_eqi (show _ = nI 0 from (by decide)) ?_
      refine r_istore dX0_common_11 (by decide) rfl ?_
      refine gG_ls (ls' := [_, _, _, _, _]) rfl ?_
      refine r_iload_n 3 dX0_common_13 rfl rfl ?_
      refine r_istore_n 2 dX0_common_14 rfl (by decide) rfl ?_
      refine gG_ls (ls' := [_, _, _, _, _]) rfl ?_
      refine r_iload dX0_common_15 rfl ?_
      refine r_istore_n 3 dX0_common_17 rfl (by decide) rfl ?_
      refine gG_ls (ls' := [_, _, _, _, _]) rfl ?_
      refine r_goto 4 dX0_common_18 (by decide) ?_
      refine r_iload_n 3 dX0_common_4 rfl rfl ?_
      refine r_if_eq 21 dX0_common_5 (by decide) (fun c_5 => ?_) (fun c_5 => ?_)
      · skip
        have n_5 : 0 = 0 := n_eq0 (by omega) c_5
        refine r_iload_n 2 dX0_common_21 rfl rfl ?_
        refine e_iret dX0_common_22 rfl ?_
        exact ⟨rfl, rfl⟩
      · skip
        have n_5 : ¬ 0 = 0 := n_ne0 (by omega) c_5
        exact absurd n_5 (by decide)
theorem X_common_2 {d : Nat} {h : Hp} : gC (d) (0) (0) m_X0_common [.int (nI 2), .int (nI 7)] (h) (Ret (some (.int (nI 1))) h) := by
  refine gC.of (ls := [some (.int (nI 2)), some (.int (nI 7)), none, none, none]) (by decide +kernel) rfl rfl rfl rfl (Nat.le_of_ble_eq_true rfl) ?_
  refine r_iload_n 0 dX0_common_0 rfl rfl ?_
  refine r_istore_n 2 dX0_common_1 rfl (by decide) rfl ?_
  refine gG_ls (ls' := [_, _, _, _, _]) rfl ?_
  refine r_iload_n 1 dX0_common_2 rfl rfl ?_
  refine r_istore_n 3 dX0_common_3 rfl (by decide) rfl ?_
  refine gG_ls (ls' := [_, _, _, _, _]) rfl ?_
  refine r_iload_n 3 dX0_common_4 rfl rfl ?_
  refine r_if_eq 21 dX0_common_5 (by decide) (fun c_5 => ?_) (fun c_5 => ?_)
  · skip
    have n_5 : 7 = 0 := n_eq0 (by omega) c_5
    exact absurd n_5 (by decide)
  · skip
    have n_5 : ¬ 7 = 0 := n_ne0 (by omega) c_5
    refine r_iload_n 2 dX0_common_8 rfl rfl ?_
    refine r_iload_n 3 dX0_common_9 rfl rfl ?_
    refine r_irem dX0_common_10 (by decide) ?_
    refine r_eqi (show _ = nI 2 from (by decide)) ?_
    refine r_istore dX0_common_11 (by decide) rfl ?_
    refine gG_ls (ls' := [_, _, _, _, _]) rfl ?_
    refine r_iload_n 3 dX0_common_13 rfl rfl ?_
    refine r_istore_n 2 dX0_common_14 rfl (by decide) rfl ?_
    refine gG_ls (ls' := [_, _, _, _, _]) rfl ?_
    refine r_iload dX0_common_15 rfl ?_
    refine r_istore_n 3 dX0_common_17 rfl (by decide) rfl ?_
    refine gG_ls (ls' := [_, _, _, _, _]) rfl ?_
    refine r_goto 4 dX0_common_18 (by decide) ?_
    refine r_iload_n 3 dX0_common_4 rfl rfl ?_
    refine r_if_eq 21 dX0_common_5 (by decide) (fun c_5 => ?_) (fun c_5 => ?_)
    · skip
      have n_5 : 2 = 0 := n_eq0 (by omega) c_5
      exact absurd n_5 (by decide)
    · skip
      have n_5 : ¬ 2 = 0 := n_ne0 (by omega) c_5
      refine r_iload_n 2 dX0_common_8 rfl rfl ?_
      refine r_iload_n 3 dX0_common_9 rfl rfl ?_
      refine r_irem dX0_common_10 (by decide) ?_
      refine r_eqi (show _ = nI 1 from (by decide)) ?_
      refine r_istore dX0_common_11 (by decide) rfl ?_
      refine gG_ls (ls' := [_, _, _, _, _]) rfl ?_
      refine r_iload_n 3 dX0_common_13 rfl rfl ?_
      refine r_istore_n 2 dX0_common_14 rfl (by decide) rfl ?_
      refine gG_ls (ls' := [_, _, _, _, _]) rfl ?_
      refine r_iload dX0_common_15 rfl ?_
      refine r_istore_n 3 dX0_common_17 rfl (by decide) rfl ?_
      refine gG_ls (ls' := [_, _, _, _, _]) rfl ?_
      refine r_goto 4 dX0_common_18 (by decide) ?_
      refine r_iload_n 3 dX0_common_4 rfl rfl ?_
      refine r_if_eq 21 dX0_common_5 (by decide) (fun c_5 => ?_) (fun c_5 => ?_)
      · skip
        have n_5 : 1 = 0 := n_eq0 (by omega) c_5
        exact absurd n_5 (by decide)
      · skip
        have n_5 : ¬ 1 = 0 := n_ne0 (by omega) c_5
        refine r_iload_n 2 dX0_common_8 rfl rfl ?_
        refine r_iload_n 3 dX0_common_9 rfl rfl ?_
        refine r_irem dX0_common_10 (by decide) ?_
        refine r_eqi (show _ = nI 0 from (by decide)) ?_
        refine r_istore dX0_common_11 (by decide) rfl ?_
        refine gG_ls (ls' := [_, _, _, _, _]) rfl ?_
        refine r_iload_n 3 dX0_common_13 rfl rfl ?_
        refine r_istore_n 2 dX0_common_14 rfl (by decide) rfl ?_
        refine gG_ls (ls' := [_, _, _, _, _]) rfl ?_
        refine r_iload dX0_common_15 rfl ?_
        refine r_istore_n 3 dX0_common_17 rfl (by decide) rfl ?_
        refine gG_ls (ls' := [_, _, _, _, _]) rfl ?_
        refine r_goto 4 dX0_common_18 (by decide) ?_
        refine r_iload_n 3 dX0_common_4 rfl rfl ?_
        refine r_if_eq 21 dX0_common_5 (by decide) (fun c_5 => ?_) (fun c_5 => ?_)
        · skip
          have n_5 : 0 = 0 := n_eq0 (by omega) c_5
          refine r_iload_n 2 dX0_common_21 rfl rfl ?_
          refine e_iret dX0_common_22 rfl ?_
          exact ⟨rfl, rfl⟩
        · skip
          have n_5 : ¬ 0 = 0 := n_ne0 (by omega) c_5
          exact absurd n_5 (by decide)
theorem X_common_3 {d : Nat} {h : Hp} : gC (d) (0) (0) m_X0_common [.int (nI 3), .int (nI 7)] (h) (Ret (some (.int (nI 1))) h) := by
  refine gC.of (ls := [some (.int (nI 3)), some (.int (nI 7)), none, none, none]) (by decide +kernel) rfl rfl rfl rfl (Nat.le_of_ble_eq_true rfl) ?_
  refine r_iload_n 0 dX0_common_0 rfl rfl ?_
  refine r_istore_n 2 dX0_common_1 rfl (by decide) rfl ?_
  refine gG_ls (ls' := [_, _, _, _, _]) rfl ?_
  refine r_iload_n 1 dX0_common_2 rfl rfl ?_
  refine r_istore_n 3 dX0_common_3 rfl (by decide) rfl ?_
  refine gG_ls (ls' := [_, _, _, _, _]) rfl ?_
  refine r_iload_n 3 dX0_common_4 rfl rfl ?_
  refine r_if_eq 21 dX0_common_5 (by decide) (fun c_5 => ?_) (fun c_5 => ?_)
  · skip
    have n_5 : 7 = 0 := n_eq0 (by omega) c_5
    exact absurd n_5 (by decide)
  · skip
    have n_5 : ¬ 7 = 0 := n_ne0 (by omega) c_5
    refine r_iload_n 2 dX0_common_8 rfl rfl ?_
    refine r_iload_n 3 dX0_common_9 rfl rfl ?_
    refine r_irem dX0_common_10 (by decide) ?_
    refine r_eqi (show _ = nI 3 from (by decide)) ?_
    refine r_istore dX0_common_11 (by decide) rfl ?_
    refine gG_ls (ls' := [_, _, _, _, _]) rfl ?_
    refine r_iload_n 3 dX0_common_13 rfl rfl ?_
    refine r_istore_n 2 dX0_common_14 rfl (by decide) rfl ?_
    refine gG_ls (ls' := [_, _, _, _, _]) rfl ?_
    refine r_iload dX0_common_15 rfl ?_
    refine r_istore_n 3 dX0_common_17 rfl (by decide) rfl ?_
    refine gG_ls (ls' := [_, _, _, _, _]) rfl ?_
    refine r_goto 4 dX0_common_18 (by decide) ?_
    refine r_iload_n 3 dX0_common_4 rfl rfl ?_
    refine r_if_eq 21 dX0_common_5 (by decide) (fun c_5 => ?_) (fun c_5 => ?_)
    · skip
      have n_5 : 3 = 0 := n_eq0 (by omega) c_5
      exact absurd n_5 (by decide)
    · skip
      have n_5 : ¬ 3 = 0 := n_ne0 (by omega) c_5
      refine r_iload_n 2 dX0_common_8 rfl rfl ?_
      refine r_iload_n 3 dX0_common_9 rfl rfl ?_
      refine r_irem dX0_common_10 (by decide) ?_
      refine r_eqi (show _ = nI 1 from (by decide)) ?_
      refine r_istore dX0_common_11 (by decide) rfl ?_
      refine gG_ls (ls' := [_, _, _, _, _]) rfl ?_
      refine r_iload_n 3 dX0_common_13 rfl rfl ?_
      refine r_istore_n 2 dX0_common_14 rfl (by decide) rfl ?_
      refine gG_ls (ls' := [_, _, _, _, _]) rfl ?_
      refine r_iload dX0_common_15 rfl ?_
      refine r_istore_n 3 dX0_common_17 rfl (by decide) rfl ?_
      refine gG_ls (ls' := [_, _, _, _, _]) rfl ?_
      refine r_goto 4 dX0_common_18 (by decide) ?_
      refine r_iload_n 3 dX0_common_4 rfl rfl ?_
      refine r_if_eq 21 dX0_common_5 (by decide) (fun c_5 => ?_) (fun c_5 => ?_)
      · skip
        have n_5 : 1 = 0 := n_eq0 (by omega) c_5
        exact absurd n_5 (by decide)
      · skip
        have n_5 : ¬ 1 = 0 := n_ne0 (by omega) c_5
        refine r_iload_n 2 dX0_common_8 rfl rfl ?_
        refine r_iload_n 3 dX0_common_9 rfl rfl ?_
        refine r_irem dX0_common_10 (by decide) ?_
        refine r_eqi (show _ = nI 0 from (by decide)) ?_
        refine r_istore dX0_common_11 (by decide) rfl ?_
        refine gG_ls (ls' := [_, _, _, _, _]) rfl ?_
        refine r_iload_n 3 dX0_common_13 rfl rfl ?_
        refine r_istore_n 2 dX0_common_14 rfl (by decide) rfl ?_
        refine gG_ls (ls' := [_, _, _, _, _]) rfl ?_
        refine r_iload dX0_common_15 rfl ?_
        refine r_istore_n 3 dX0_common_17 rfl (by decide) rfl ?_
        refine gG_ls (ls' := [_, _, _, _, _]) rfl ?_
        refine r_goto 4 dX0_common_18 (by decide) ?_
        refine r_iload_n 3 dX0_common_4 rfl rfl ?_
        refine r_if_eq 21 dX0_common_5 (by decide) (fun c_5 => ?_) (fun c_5 => ?_)
        · skip
          have n_5 : 0 = 0 := n_eq0 (by omega) c_5
          refine r_iload_n 2 dX0_common_21 rfl rfl ?_
          refine e_iret dX0_common_22 rfl ?_
          exact ⟨rfl, rfl⟩
        · skip
          have n_5 : ¬ 0 = 0 := n_ne0 (by omega) c_5
          exact absurd n_5 (by decide)
theorem X_common_4 {d : Nat} {h : Hp} : gC (d) (0) (0) m_X0_common [.int (nI 4), .int (nI 7)] (h) (Ret (some (.int (nI 1))) h) := by
  refine gC.of (ls := [some (.int (nI 4)), some (.int (nI 7)), none, none, none]) (by decide +kernel) rfl rfl rfl rfl (Nat.le_of_ble_eq_true rfl) ?_
  refine r_iload_n 0 dX0_common_0 rfl rfl ?_
  refine r_istore_n 2 dX0_common_1 rfl (by decide) rfl ?_
  refine gG_ls (ls' := [_, _, _, _, _]) rfl ?_
  refine r_iload_n 1 dX0_common_2 rfl rfl ?_
  refine r_istore_n 3 dX0_common_3 rfl (by decide) rfl ?_
  refine gG_ls (ls' := [_, _, _, _, _]) rfl ?_
  refine r_iload_n 3 dX0_common_4 rfl rfl ?_
  refine r_if_eq 21 dX0_common_5 (by decide) (fun c_5 => ?_) (fun c_5 => ?_)
  · skip
    have n_5 : 7 = 0 := n_eq0 (by omega) c_5
    exact absurd n_5 (by decide)
  · skip
    have n_5 : ¬ 7 = 0 := n_ne0 (by omega) c_5
    refine r_iload_n 2 dX0_common_8 rfl rfl ?_
    refine r_iload_n 3 dX0_common_9 rfl rfl ?_
    refine r_irem dX0_common_10 (by decide) ?_
    refine r_eqi (show _ = nI 4 from (by decide)) ?_
    refine r_istore dX0_common_11 (by decide) rfl ?_
    refine gG_ls (ls' := [_, _, _, _, _]) rfl ?_
    refine r_iload_n 3 dX0_common_13 rfl rfl ?_
    refine r_istore_n 2 dX0_common_14 rfl (by decide) rfl ?_
    refine gG_ls (ls' := [_, _, _, _, _]) rfl ?_
    refine r_iload dX0_common_15 rfl ?_
    refine r_istore_n 3 dX0_common_17 rfl (by decide) rfl ?_
    refine gG_ls (ls' := [_, _, _, _, _]) rfl ?_
    refine r_goto 4 dX0_common_18 (by decide) ?_
    refine r_iload_n 3 dX0_common_4 rfl rfl ?_
    refine r_if_eq 21 dX0_common_5 (by decide) (fun c_5 => ?_) (fun c_5 => ?_)
    · skip
      have n_5 : 4 = 0 := n_eq0 (by omega) c_5
      exact absurd n_5 (by decide)
    · skip
      have n_5 : ¬ 4 = 0 := n_ne0 (by omega) c_5
      refine r_iload_n 2 dX0_common_8 rfl rfl ?_
      refine r_iload_n 3 dX0_common_9 rfl rfl ?_
      refine r_irem dX0_common_10 (by decide) ?_
      refine r_eqi (show _ = nI 3 from (by decide)) ?_
      refine r_istore dX0_common_11 (by decide) rfl ?_
      refine gG_ls (ls' := [_, _, _, _, _]) rfl ?_
      refine r_iload_n 3 dX0_common_13 rfl rfl ?_
      refine r_istore_n 2 dX0_common_14 rfl (by decide) rfl ?_
      refine gG_ls (ls' := [_, _, _, _, _]) rfl ?_
      refine r_iload dX0_common_15 rfl ?_
      refine r_istore_n 3 dX0_common_17 rfl (by decide) rfl ?_
      refine gG_ls (ls' := [_, _, _, _, _]) rfl ?_
      refine r_goto 4 dX0_common_18 (by decide) ?_
      refine r_iload_n 3 dX0_common_4 rfl rfl ?_
      refine r_if_eq 21 dX0_common_5 (by decide) (fun c_5 => ?_) (fun c_5 => ?_)
      · skip
        have n_5 : 3 = 0 := n_eq0 (by omega) c_5
        exact absurd n_5 (by decide)
      · skip
        have n_5 : ¬ 3 = 0 := n_ne0 (by omega) c_5
        refine r_iload_n 2 dX0_common_8 rfl rfl ?_
        refine r_iload_n 3 dX0_common_9 rfl rfl ?_
        refine r_irem dX0_common_10 (by decide) ?_
        refine r_eqi (show _ = nI 1 from (by decide)) ?_
        refine r_istore dX0_common_11 (by decide) rfl ?_
        refine gG_ls (ls' := [_, _, _, _, _]) rfl ?_
        refine r_iload_n 3 dX0_common_13 rfl rfl ?_
        refine r_istore_n 2 dX0_common_14 rfl (by decide) rfl ?_
        refine gG_ls (ls' := [_, _, _, _, _]) rfl ?_
        refine r_iload dX0_common_15 rfl ?_
        refine r_istore_n 3 dX0_common_17 rfl (by decide) rfl ?_
        refine gG_ls (ls' := [_, _, _, _, _]) rfl ?_
        refine r_goto 4 dX0_common_18 (by decide) ?_
        refine r_iload_n 3 dX0_common_4 rfl rfl ?_
        refine r_if_eq 21 dX0_common_5 (by decide) (fun c_5 => ?_) (fun c_5 => ?_)
        · skip
          have n_5 : 1 = 0 := n_eq0 (by omega) c_5
          exact absurd n_5 (by decide)
        · skip
          have n_5 : ¬ 1 = 0 := n_ne0 (by omega) c_5
          refine r_iload_n 2 dX0_common_8 rfl rfl ?_
          refine r_iload_n 3 dX0_common_9 rfl rfl ?_
          refine r_irem dX0_common_10 (by decide) ?_
          refine r_eqi (show _ = nI 0 from (by decide)) ?_
          refine r_istore dX0_common_11 (by decide) rfl ?_
          refine gG_ls (ls' := [_, _, _, _, _]) rfl ?_
          refine r_iload_n 3 dX0_common_13 rfl rfl ?_
          refine r_istore_n 2 dX0_common_14 rfl (by decide) rfl ?_
          refine gG_ls (ls' := [_, _, _, _, _]) rfl ?_
          refine r_iload dX0_common_15 rfl ?_
          refine r_istore_n 3 dX0_common_17 rfl (by decide) rfl ?_
          refine gG_ls (ls' := [_, _, _, _, _]) rfl ?_
          refine r_goto 4 dX0_common_18 (by decide) ?_
          refine r_iload_n 3 dX0_common_4 rfl rfl ?_
          refine r_if_eq 21 dX0_common_5 (by decide) (fun c_5 => ?_) (fun c_5 => ?_)
          · skip
            have n_5 : 0 = 0 := n_eq0 (by omega) c_5
            refine r_iload_n 2 dX0_common_21 rfl rfl ?_
            refine e_iret dX0_common_22 rfl ?_
            exact ⟨rfl, rfl⟩
          · skip
            have n_5 : ¬ 0 = 0 := n_ne0 (by omega) c_5
            exact absurd n_5 (by decide)
theorem X_common_5 {d : Nat} {h : Hp} : gC (d) (0) (0) m_X0_common [.int (nI 5), .int (nI 7)] (h) (Ret (some (.int (nI 1))) h) := by
  refine gC.of (ls := [some (.int (nI 5)), some (.int (nI 7)), none, none, none]) (by decide +kernel) rfl rfl rfl rfl (Nat.le_of_ble_eq_true rfl) ?_
  refine r_iload_n 0 dX0_common_0 rfl rfl ?_
  refine r_istore_n 2 dX0_common_1 rfl (by decide) rfl ?_
  refine gG_ls (ls' := [_, _, _, _, _]) rfl ?_
  refine r_iload_n 1 dX0_common_2 rfl rfl ?_
  refine r_istore_n 3 dX0_common_3 rfl (by decide) rfl ?_
  refine gG_ls (ls' := [_, _, _, _, _]) rfl ?_
  refine r_iload_n 3 dX0_common_4 rfl rfl ?_
  refine r_if_eq 21 dX0_common_5 (by decide) (fun c_5 => ?_) (fun c_5 => ?_)
  · skip
    have n_5 : 7 = 0 := n_eq0 (by omega) c_5
    exact absurd n_5 (by decide)
  · skip
    have n_5 : ¬ 7 = 0 := n_ne0 (by omega) c_5
    refine r_iload_n 2 dX0_common_8 rfl rfl ?_
    refine r_iload_n 3 dX0_common_9 rfl rfl ?_
    refine r_irem dX0_common_10 (by decide) ?_
    refine r_eqi (show _ = nI 5 from (by decide)) ?_
    refine r_istore dX0_common_11 (by decide) rfl ?_
    refine gG_ls (ls' := [_, _, _, _, _]) rfl ?_
    refine r_iload_n 3 dX0_common_13 rfl rfl ?_
    refine r_istore_n 2 dX0_common_14 rfl (by decide) rfl ?_
    refine gG_ls (ls' := [_, _, _, _, _]) rfl ?_
    refine r_iload dX0_common_15 rfl ?_
    refine r_istore_n 3 dX0_common_17 rfl (by decide) rfl ?_
    refine gG_ls (ls' := [_, _, _, _, _]) rfl ?_
    refine r_goto 4 dX0_common_18 (by decide) ?_
    refine r_iload_n 3 dX0_common_4 rfl rfl ?_
    refine r_if_eq 21 dX0_common_5 (by decide) (fun c_5 => ?_) (fun c_5 => ?_)
    · skip
      have n_5 : 5 = 0 := n_eq0 (by omega) c_5
      exact absurd n_5 (by decide)
    · skip
      have n_5 : ¬ 5 = 0 := n_ne0 (by omega) c_5
      refine r_iload_n 2 dX0_common_8 rfl rfl ?_
      refine r_iload_n 3 dX0_common_9 rfl rfl ?_
      refine r_irem dX0_common_10 (by decide) ?_
      refine r_eqi (show _ = nI 2 from (by decide)) ?_
      refine r_istore dX0_common_11 (by decide) rfl ?_
      refine gG_ls (ls' := [_, _, _, _, _]) rfl ?_
      refine r_iload_n 3 dX0_common_13 rfl rfl ?_
      refine r_istore_n 2 dX0_common_14 rfl (by decide) rfl ?_
      refine gG_ls (ls' := [_, _, _, _, _]) rfl ?_
      refine r_iload dX0_common_15 rfl ?_
      refine r_istore_n 3 dX0_common_17 rfl (by decide) rfl ?_
      refine gG_ls (ls' := [_, _, _, _, _]) rfl ?_
      refine r_goto 4 dX0_common_18 (by decide) ?_
      refine r_iload_n 3 dX0_common_4 rfl rfl ?_
      refine r_if_eq 21 dX0_common_5 (by decide) (fun c_5 => ?_) (fun c_5 => ?_)
      · skip
        have n_5 : 2 = 0 := n_eq0 (by omega) c_5
        exact absurd n_5 (by decide)
      · skip
        have n_5 : ¬ 2 = 0 := n_ne0 (by omega) c_5
        refine r_iload_n 2 dX0_common_8 rfl rfl ?_
        refine r_iload_n 3 dX0_common_9 rfl rfl ?_
        refine r_irem dX0_common_10 (by decide) ?_
        refine r_eqi (show _ = nI 1 from (by decide)) ?_
        refine r_istore dX0_common_11 (by decide) rfl ?_
        refine gG_ls (ls' := [_, _, _, _, _]) rfl ?_
        refine r_iload_n 3 dX0_common_13 rfl rfl ?_
        refine r_istore_n 2 dX0_common_14 rfl (by decide) rfl ?_
        refine gG_ls (ls' := [_, _, _, _, _]) rfl ?_
        refine r_iload dX0_common_15 rfl ?_
        refine r_istore_n 3 dX0_common_17 rfl (by decide) rfl ?_
        refine gG_ls (ls' := [_, _, _, _, _]) rfl ?_
        refine r_goto 4 dX0_common_18 (by decide) ?_
        refine r_iload_n 3 dX0_common_4 rfl rfl ?_
        refine r_if_eq 21 dX0_common_5 (by decide) (fun c_5 => ?_) (fun c_5 => ?_)
        · skip
          have n_5 : 1 = 0 := n_eq0 (by omega) c_5
          exact absurd n_5 (by decide)
        · skip
          have n_5 : ¬ 1 = 0 := n_ne0 (by omega) c_5
          refine r_iload_n 2 dX0_common_8 rfl rfl ?_
          refine r_iload_n 3 dX0_common_9 rfl rfl ?_
          refine r_irem dX0_common_10 (by decide) ?_
          refine r_eqi (show _ = nI 0 from (by decide)) ?_
          refine r_istore dX0_common_11 (by decide) rfl ?_
          refine gG_ls (ls' := [_, _, _, _, _]) rfl ?_
          refine r_iload_n 3 dX0_common_13 rfl rfl ?_
          refine r_istore_n 2 dX0_common_14 rfl (by decide) rfl ?_
          refine gG_ls (ls' := [_, _, _, _, _]) rfl ?_
          refine r_iload dX0_common_15 rfl ?_
          refine r_istore_n 3 dX0_common_17 rfl (by decide) rfl ?_
          refine gG_ls (ls' := [_, _, _, _, _]) rfl ?_
          refine r_goto 4 dX0_common_18 (by decide) ?_
          refine r_iload_n 3 dX0_common_4 rfl rfl ?_
          refine r_if_eq 21 dX0_common_5 (by decide) (fun c_5 => ?_) (fun c_5 => ?_)
          · skip
            have n_5 : 0 = 0 := n_eq0 (by omega) c_5
            refine r_iload_n 2 dX0_common_21 rfl rfl ?_
            refine e_iret dX0_common_22 rfl ?_
            exact ⟨rfl, rfl⟩
          · skip
            have n_5 : ¬ 0 = 0 := n_ne0 (by omega) c_5
            exact absurd n_5 (by decide)
theorem X_common_6 {d : Nat} {h : Hp} : gC (d) (0) (0) m_X0_common [.int (nI 6), .int (nI 7)] (h) (Ret (some (.int (nI 1))) h) := by
  refine gC.of (ls := [some (.int (nI 6)), some (.int (nI 7)), none, none, none]) (by decide +kernel) rfl rfl rfl rfl (Nat.le_of_ble_eq_true rfl) ?_
  refine r_iload_n 0 dX0_common_0 rfl rfl ?_
  refine r_istore_n 2 dX0_common_1 rfl (by decide) rfl ?_
  refine gG_ls (ls' := [_, _, _, _, _]) rfl ?_
  refine r_iload_n 1 dX0_common_2 rfl rfl ?_
  refine r_istore_n 3 dX0_common_3 rfl (by decide) rfl ?_
  refine gG_ls (ls' := [_, _, _, _, _]) rfl ?_
  refine r_iload_n 3 dX0_common_4 rfl rfl ?_
  refine r_if_eq 21 dX0_common_5 (by decide) (fun c_5 => ?_) (fun c_5 => ?_)
  · skip
    have n_5 : 7 = 0 := n_eq0 (by omega) c_5
    exact absurd n_5 (by decide)
  · skip
    have n_5 : ¬ 7 = 0 := n_ne0 (by omega) c_5
    refine r_iload_n 2 dX0_common_8 rfl rfl ?_
    refine r_iload_n 3 dX0_common_9 rfl rfl ?_
    refine r_irem dX0_common_10 (by decide) ?_
    refine r_eqi (show _ = nI 6 from (by decide)) ?_
    refine r_istore dX0_common_11 (by decide) rfl ?_
    refine gG_ls (ls' := [_, _, _, _, _]) rfl ?_
    refine r_iload_n 3 dX0_common_13 rfl rfl ?_
    refine r_istore_n 2 dX0_common_14 rfl (by decide) rfl ?_
    refine gG_ls (ls' := [_, _, _, _, _]) rfl ?_
    refine r_iload dX0_common_15 rfl ?_
    refine r_istore_n 3 dX0_common_17 rfl (by decide) rfl ?_
    refine gG_ls (ls' := [_, _, _, _, _]) rfl ?_
    refine r_goto 4 dX0_common_18 (by decide) ?_
    refine r_iload_n 3 dX0_common_4 rfl rfl ?_
    refine r_if_eq 21 dX0_common_5 (by decide) (fun c_5 => ?_) (fun c_5 => ?_)
    · skip
      have n_5 : 6 = 0 := n_eq0 (by omega) c_5
      exact absurd n_5 (by decide)
    · skip
      have n_5 : ¬ 6 = 0 := n_ne0 (by omega) c_5
      refine r_iload_n 2 dX0_common_8 rfl rfl ?_
      refine r_iload_n 3 dX0_common_9 rfl rfl ?_
      refine r_irem dX0_common_10 (by decide) ?_
      refine r_eqi (show _ = nI 1 from (by decide)) ?_
      refine r_istore dX0_common_11 (by decide) rfl ?_
      refine gG_ls (ls' := [_, _, _, _, _]) rfl ?_
      refine r_iload_n 3 dX0_common_13 rfl rfl ?_
      refine r_istore_n 2 dX0_common_14 rfl (by decide) rfl ?_
      refine gG_ls (ls' := [_, _, _, _, _]) rfl ?_
      refine r_iload dX0_common_15 rfl ?_
      refine r_istore_n 3 dX0_common_17 rfl (by decide) rfl ?_
      refine gG_ls (ls' := [_, _, _, _, _]) rfl ?_
      refine r_goto 4 dX0_common_18 (by decide) ?_
      refine r_iload_n 3 dX0_common_4 rfl rfl ?_
      refine r_if_eq 21 dX0_common_5 (by decide) (fun c_5 => ?_) (fun c_5 => ?_)
      · skip
        have n_5 : 1 = 0 := n_eq0 (by omega) c_5
        exact absurd n_5 (by decide)
      · skip
        have n_5 : ¬ 1 = 0 := n_ne0 (by omega) c_5
        refine r_iload_n 2 dX0_common_8 rfl rfl ?_
        refine r_iload_n 3 dX0_common_9 rfl rfl ?_
        refine r_irem dX0_common_10 (by decide) ?_
        refine r_eqi (show _ = nI 0 from (by decide)) ?_
        refine r_istore dX0_common_11 (by decide) rfl ?_
        refine gG_ls (ls' := [_, _, _, _, _]) rfl ?_
        refine r_iload_n 3 dX0_common_13 rfl rfl ?_
        refine r_istore_n 2 dX0_common_14 rfl (by decide) rfl ?_
        refine gG_ls (ls' := [_, _, _, _, _]) rfl ?_
        refine r_iload dX0_common_15 rfl ?_
        refine r_istore_n 3 dX0_common_17 rfl (by decide) rfl ?_
        refine gG_ls (ls' := [_, _, _, _, _]) rfl ?_
        refine r_goto 4 dX0_common_18 (by decide) ?_
        refine r_iload_n 3 dX0_common_4 rfl rfl ?_
        refine r_if_eq 21 dX0_common_5 (by decide) (fun c_5 => ?_) (fun c_5 => ?_)
        · skip
          have n_5 : 0 = 0 := n_eq0 (by omega) c_5
          refine r_iload_n 2 dX0_common_21 rfl rfl ?_
          refine e_iret dX0_common_22 rfl ?_
          exact ⟨rfl, rfl⟩
        · skip
          have n_5 : ¬ 0 = 0 := n_ne0 (by omega) c_5
          exact absurd n_5 (by decide)
theorem X_common_7 {d : Nat} {h : Hp} : gC (d) (0) (0) m_X0_common [.int (nI 7), .int (nI 7)] (h) (Ret (some (.int (nI 7))) h) := by
  refine gC.of (ls := [some (.int (nI 7)), some (.int (nI 7)), none, none, none]) (by decide +kernel) rfl rfl rfl rfl (Nat.le_of_ble_eq_true rfl) ?_
  refine r_iload_n 0 dX0_common_0 rfl rfl ?_
  refine r_istore_n 2 dX0_common_1 rfl (by decide) rfl ?_
  refine gG_ls (ls' := [_, _, _, _, _]) rfl ?_
  refine r_iload_n 1 dX0_common_2 rfl rfl ?_
  refine r_istore_n 3 dX0_common_3 rfl (by decide) rfl ?_
  refine gG_ls (ls' := [_, _, _, _, _]) rfl ?_
  refine r_iload_n 3 dX0_common_4 rfl rfl ?_
  refine r_if_eq 21 dX0_common_5 (by decide) (fun c_5 => ?_) (fun c_5 => ?_)
  · skip
    have n_5 : 7 = 0 := n_eq0 (by omega) c_5
    exact absurd n_5 (by decide)
  · skip
    have n_5 : ¬ 7 = 0 := n_ne0 (by omega) c_5
    refine r_iload_n 2 dX0_common_8 rfl rfl ?_
    refine r_iload_n 3 dX0_common_9 rfl rfl ?_
    refine r_irem dX0_common_10 (by decide) ?_
    refine r_eqi (show _ = nI 0 from (by decide)) ?_
    refine r_istore dX0_common_11 (by decide) rfl ?_
    refine gG_ls (ls' := [_, _, _, _, _]) rfl ?_
    refine r_iload_n 3 dX0_common_13 rfl rfl ?_
    refine r_istore_n 2 dX0_common_14 rfl (by decide) rfl ?_
    refine gG_ls (ls' := [_, _, _, _, _]) rfl ?_
    refine r_iload dX0_common_15 rfl ?_
    refine r_istore_n 3 dX0_common_17 rfl (by decide) rfl ?_
    refine gG_ls (ls' := [_, _, _, _, _]) rfl ?_
    refine r_goto 4 dX0_common_18 (by decide) ?_
    refine r_iload_n 3 dX0_common_4 rfl rfl ?_
    refine r_if_eq 21 dX0_common_5 (by decide) (fun c_5 => ?_) (fun c_5 => ?_)
    · skip
      have n_5 : 0 = 0 := n_eq0 (by omega) c_5
      refine r_iload_n 2 dX0_common_21 rfl rfl ?_
      refine e_iret dX0_common_22 rfl ?_
      exact ⟨rfl, rfl⟩
    · skip
      have n_5 : ¬ 0 = 0 := n_ne0 (by omega) c_5
      exact absurd n_5 (by decide)
theorem X_common {d : Nat} {h : Hp} {n : Nat} (hn : n ≤ 7) : gC d 0 0 m_X0_common [.int (nI n), .int (nI 7)] h (Ret (some (.int (nI (gcV n)))) h) := by
  rcases (show n = 0 ∨ n = 1 ∨ n = 2 ∨ n = 3 ∨ n = 4 ∨ n = 5 ∨ n = 6 ∨ n = 7 by omega) with rfl | rfl | rfl | rfl | rfl | rfl | rfl | rfl
  · exact X_common_0
  · exact X_common_1
  · exact X_common_2
  · exact X_common_3
  · exact X_common_4
  · exact X_common_5
  · exact X_common_6
  · exact X_common_7
theorem X_odds {d : Nat} {h : Hp} {S : MSt} (hX : CX h S) (w : WF S.r) {p q : Int32} : gC (d + 405) (0) (0) m_X0_odds [.ref 21, .int p, .int q] (h) (RX h (aOdds S p q)) := by
  have e_0 : aOdds S p q = (if inB p 0 (S.r 2 - 1) = true then (if inB q (nI 0) (nI 1) = true then (if toN q = 0 then nI (weekV S.r (toN p) (pv S.r (toN p) 2) 7) / nI (gcV (weekV S.r (toN p) (pv S.r (toN p) 2) 7)) else nI 7 / nI (gcV (weekV S.r (toN p) (pv S.r (toN p) 2) 7)), S) else errA S (-1000000001) 1) else errA S (-1000000001) 1) := rfl
  rw [e_0]
  have hn8 := w.n8
  have hx := hX.hx
  have hl := hX.hl
  have hb : 21 ≤ 23 ∧ 23 + 10 < 78 := by decide
  have hn : S.r 2 = nI (np S.r) := w.n
  have lw := hX.lw
  have Vr := w.V
  have K := w.K
  refine gC.ofH (ls := [some (.ref 21), some (.int p), some (.int q), none, none]) (by decide +kernel) rfl rfl rfl rfl (Nat.le_of_ble_eq_true rfl) ?_
  refine gG_h hX.lg ?_
  refine r_aload_n 0 dX0_odds_0 rfl rfl rfl ?_
  refine r_aload_n 0 dX0_odds_1 rfl rfl rfl ?_
  refine r_iload_n 1 dX0_odds_2 rfl rfl ?_
  refine r_callV_1 dX0_odds_3 kX0_103 (X_isPerson (r := S.r) hx hl) (gRecv.of hx.s21 rfl) rfl rfl (Nat.le_of_ble_eq_true rfl) ?_
  refine r_if_eq 22 dX0_odds_6 (by decide) (fun c_6 => ?_) (fun c_6 => ?_)
  · skip
    have n_6 : (inB (p) 0 (S.r 2 - 1)) = false := b2_f c_6
    first | rw [ifT n_6] | rw [ifF n_6] | skip
    refine r_iconst (v := nI 0) dX0_odds_22 rfl ?_
    refine r_iconst (v := nI 1) dX0_odds_23 rfl ?_
    refine r_need0 dX0_odds_24 rfl (by exact hx) (Nat.le_of_ble_eq_true rfl) ?_
    refine t_catch [] (0, 66, 67, 8) [] (hx).s22 rfl rfl (fun z hz => by cases hz) rfl (by decide) q126 q128 ?_
    refine r_astore_n 3 dX0_odds_67 rfl (by decide) rfl rfl ?_
    refine gG_ls (ls' := [_, _, _, _, _]) rfl ?_
    refine r_aload_n 0 dX0_odds_68 rfl rfl rfl ?_
    refine r_aload_n 3 dX0_odds_69 rfl rfl rfl ?_
    refine r_callV_1 dX0_odds_70 kX0_131 (X_finds (k := 1) (by exact hx) (by decide)) (gRecv.of hx.s21 rfl) rfl rfl (Nat.le_of_ble_eq_true rfl) ?_
    refine e_iret dX0_odds_73 rfl ?_
    exact RX.err hX.self (FrX.lg (by decide)) (by decide) (by decide) (by decide)
  · skip
    have n_6 : (inB (p) 0 (S.r 2 - 1)) = true := b2_t c_6
    first | rw [ifT n_6] | rw [ifF n_6] | skip
    obtain ⟨k, h_k, rfl⟩ := one_of w n_6
    have e_k : toN (nI k) = k := toN_nI (by omega)
    try simp only [e_k]
    refine r_iload_n 2 dX0_odds_9 rfl rfl ?_
    refine r_iconst (v := nI 0) dX0_odds_10 rfl ?_
    refine r_iconst (v := nI 1) dX0_odds_11 rfl ?_
    refine r_callS_1 dX0_odds_12 kX0_86 (X_in)  rfl rfl (Nat.le_of_ble_eq_true rfl) ?_
    refine r_if_eq 22 dX0_odds_15 (by decide) (fun c_15 => ?_) (fun c_15 => ?_)
    · skip
      have n_15 : (inB (q) (nI 0) (nI 1)) = false := b2_f c_15
      first | rw [ifT n_15] | rw [ifF n_15] | skip
      refine r_iconst (v := nI 0) dX0_odds_22 rfl ?_
      refine r_iconst (v := nI 1) dX0_odds_23 rfl ?_
      refine r_need0 dX0_odds_24 rfl (by exact hx) (Nat.le_of_ble_eq_true rfl) ?_
      refine t_catch [] (0, 66, 67, 8) [] (hx).s22 rfl rfl (fun z hz => by cases hz) rfl (by decide) q126 q128 ?_
      refine r_astore_n 3 dX0_odds_67 rfl (by decide) rfl rfl ?_
      refine gG_ls (ls' := [_, _, _, _, _]) rfl ?_
      refine r_aload_n 0 dX0_odds_68 rfl rfl rfl ?_
      refine r_aload_n 3 dX0_odds_69 rfl rfl rfl ?_
      refine r_callV_1 dX0_odds_70 kX0_131 (X_finds (k := 1) (by exact hx) (by decide)) (gRecv.of hx.s21 rfl) rfl rfl (Nat.le_of_ble_eq_true rfl) ?_
      refine e_iret dX0_odds_73 rfl ?_
      exact RX.err hX.self (FrX.lg (by decide)) (by decide) (by decide) (by decide)
    · skip
      have n_15 : (inB (q) (nI 0) (nI 1)) = true := b2_t c_15
      first | rw [ifT n_15] | rw [ifF n_15] | skip
      obtain ⟨c, h_c, rfl⟩ := inB_n (by decide) n_15
      have e_c : toN (nI c) = c := toN_nI (by omega)
      try simp only [e_c]
      refine r_iconst (v := nI 1) dX0_odds_18 rfl ?_
      refine r_goto 23 dX0_odds_19 (by decide) ?_
      refine r_iconst (v := nI 1) dX0_odds_23 rfl ?_
      refine r_need1 dX0_odds_24 rfl (by exact hx) (Nat.le_of_ble_eq_true rfl) ?_
      refine r_aload_n 0 dX0_odds_27 rfl rfl rfl ?_
      refine r_iload_n 1 dX0_odds_28 rfl rfl ?_
      refine r_aload_n 0 dX0_odds_29 rfl rfl rfl ?_
      refine r_getr (k := 1) (b := 23) dX0_odds_30 hx.s21 rfl (by decide) (Or.inl q306) (Or.inl rfl) rfl hx.r_land ?_
      refine r_getr (k := 2) (b := (23 + 2)) dX0_odds_33 hl.s0 rfl (by decide) (Or.inr ⟨_, q223⟩) (Or.inl rfl) rfl hl.r_traits ?_
      refine r_iload_n 1 dX0_odds_36 rfl rfl ?_
      refine r_ialdN (k) dX0_odds_37 hl.s2 rfl (by omega) (by decide) ?_
      refine r_eqi (show _ = (pv S.r k 2) from LG_r2 (by omega)) ?_
      refine r_callV_1l dX0_odds_38 kX0_275 (X_often (r := S.r) (p := k) (t1 := (pv S.r k 2)) (by exact hx) (by exact hl) lw (by omega)) (gRecv.of hx.s21 rfl) rfl rfl (Nat.le_of_ble_eq_true rfl) (fun g_1 => ?_)
      have hwl : (weekV S.r k ((pv S.r k 2)) 7) ≤ 7 := weekV_le 7
      have hne : ¬ nI (gcV (weekV S.r k ((pv S.r k 2)) 7)) = 0 := gcV_ne _
      refine r_istore_n 3 dX0_odds_41 rfl (by decide) rfl ?_
      refine gG_ls (ls' := [_, _, _, _, _]) rfl ?_
      refine r_iload_n 3 dX0_odds_42 rfl rfl ?_
      refine r_bipush (v := nI 7) dX0_odds_43 (by decide +kernel) ?_
      refine r_callS_1 dX0_odds_45 kX0_310 (X_common (n := (weekV S.r k ((pv S.r k 2)) 7)) (by omega))  rfl rfl (Nat.le_of_ble_eq_true rfl) ?_
      refine r_istore dX0_odds_48 (by decide) rfl ?_
      refine gG_ls (ls' := [_, _, _, _, _]) rfl ?_
      refine r_iload_n 2 dX0_odds_50 rfl rfl ?_
      refine r_if_ne 61 dX0_odds_51 (by decide) (fun c_51 => ?_) (fun c_51 => ?_)
      · skip
        have n_51 : ¬ c = 0 := n_ne0 (by omega) c_51
        first | rw [iP n_51] | rw [iN n_51] | rw [iN (Nat.not_lt.mpr n_51)] | rw [iN (Nat.not_le.mpr n_51)] | skip
        refine r_bipush (v := nI 7) dX0_odds_61 (by decide +kernel) ?_
        refine r_iload dX0_odds_63 rfl ?_
        refine r_idiv dX0_odds_65 hne ?_
        refine e_iret dX0_odds_66 rfl ?_
        exact RX.same hX.self (FrX.lg (by decide)) rfl rfl
      · skip
        have n_51 : c = 0 := n_eq0 (by omega) c_51
        first | rw [iP n_51] | rw [iN n_51] | rw [iN (Nat.not_lt.mpr n_51)] | rw [iN (Nat.not_le.mpr n_51)] | skip
        refine r_iload_n 3 dX0_odds_54 rfl rfl ?_
        refine r_iload dX0_odds_55 rfl ?_
        refine r_idiv dX0_odds_57 hne ?_
        refine r_goto 66 dX0_odds_58 (by decide) ?_
        refine e_iret dX0_odds_66 rfl ?_
        exact RX.same hX.self (FrX.lg (by decide)) rfl rfl
theorem X_law {d : Nat} {h : Hp} {S : MSt} (hX : CX h S) (w : WF S.r) {u a1 b1 c1 : Int32} : gC (d + 405) (0) (0) m_X0_law [.ref 21, .int u, .int a1, .int b1, .int c1] (h) (RX h (aLaw S u a1 b1 c1)) := by
  have e_0 : aLaw S u a1 b1 c1 = (if inB u (nI 0) (nI 1) = true then (lawV S.r (toN u) a1 b1 c1, S) else errA S (-1000000001) 1) := rfl
  rw [e_0]
  have hn8 := w.n8
  have hx := hX.hx
  have hl := hX.hl
  have hb : 21 ≤ 23 ∧ 23 + 10 < 78 := by decide
  have hn : S.r 2 = nI (np S.r) := w.n
  have lw := hX.lw
  have Vr := w.V
  have K := w.K
  refine gC.ofH (ls := [some (.ref 21), some (.int u), some (.int a1), some (.int b1), some (.int c1), none]) (by decide +kernel) rfl rfl rfl rfl (Nat.le_of_ble_eq_true rfl) ?_
  refine gG_h hX.lg ?_
  refine r_aload_n 0 dX0_law_0 rfl rfl rfl ?_
  refine r_iload_n 1 dX0_law_1 rfl rfl ?_
  refine r_iconst (v := nI 0) dX0_law_2 rfl ?_
  refine r_iconst (v := nI 1) dX0_law_3 rfl ?_
  refine r_callS_1 dX0_law_4 kX0_86 (X_in)  rfl rfl (Nat.le_of_ble_eq_true rfl) ?_
  refine r_iconst (v := nI 1) dX0_law_7 rfl ?_
  refine r_needB dX0_law_8 rfl (by exact hx) (Nat.le_of_ble_eq_true rfl) (fun n_8 => ?_) (fun n_8 => ?_)
  · skip
    first | rw [ifT n_8] | rw [ifF n_8] | skip
    obtain ⟨k, h_k, rfl⟩ := inB_n (by decide) n_8
    have e_k : toN (nI k) = k := toN_nI (by omega)
    try simp only [e_k]
    refine r_iload_n 1 dX0_law_11 rfl rfl ?_
    refine r_if_ne 29 dX0_law_12 (by decide) (fun c_12 => ?_) (fun c_12 => ?_)
    · skip
      have n_12 : ¬ k = 0 := n_ne0 (by omega) c_12
      first | rw [iP n_12] | rw [iN n_12] | rw [iN (Nat.not_lt.mpr n_12)] | rw [iN (Nat.not_le.mpr n_12)] | skip
      have e1 : k = 1 := by omega
      subst e1
      refine r_aload_n 0 dX0_law_29 rfl rfl rfl ?_
      refine r_getr (k := 1) (b := 23) dX0_law_30 hx.s21 rfl (by decide) (Or.inl q306) (Or.inl rfl) rfl hx.r_land ?_
      refine r_iload_n 2 dX0_law_33 rfl rfl ?_
      refine r_iload_n 3 dX0_law_34 rfl rfl ?_
      refine r_iload dX0_law_35 rfl ?_
      refine r_callV_1l dX0_law_37 kX0_194 (L_lendsBy hl hb lw.2) (gRecv.of hl.s0 rfl) rfl rfl (Nat.le_of_ble_eq_true rfl) (fun g_1 => ?_)
      refine e_iret dX0_law_40 rfl ?_
      exact RX.same hX.self (FrX.lg (by decide)) rfl rfl
    · skip
      have n_12 : k = 0 := n_eq0 (by omega) c_12
      first | rw [iP n_12] | rw [iN n_12] | rw [iN (Nat.not_lt.mpr n_12)] | rw [iN (Nat.not_le.mpr n_12)] | skip
      subst n_12
      refine r_aload_n 0 dX0_law_15 rfl rfl rfl ?_
      refine r_getr (k := 1) (b := 23) dX0_law_16 hx.s21 rfl (by decide) (Or.inl q306) (Or.inl rfl) rfl hx.r_land ?_
      refine r_iload_n 2 dX0_law_19 rfl rfl ?_
      refine r_iload_n 3 dX0_law_20 rfl rfl ?_
      refine r_iload dX0_law_21 rfl ?_
      refine r_callV_1l dX0_law_23 kX0_190 (L_givesBy hl hb lw.2) (gRecv.of hl.s0 rfl) rfl rfl (Nat.le_of_ble_eq_true rfl) (fun g_2 => ?_)
      refine r_goto 40 dX0_law_26 (by decide) ?_
      refine e_iret dX0_law_40 rfl ?_
      exact RX.same hX.self (FrX.lg (by decide)) rfl rfl
  · skip
    first | rw [ifT n_8] | rw [ifF n_8] | skip
    refine t_catch [] (0, 40, 41, 8) [] (hx).s22 rfl rfl (fun z hz => by cases hz) rfl (by decide) q126 q128 ?_
    refine r_astore dX0_law_41 (by decide) rfl rfl ?_
    refine gG_ls (ls' := [_, _, _, _, _, _]) rfl ?_
    refine r_aload_n 0 dX0_law_43 rfl rfl rfl ?_
    refine r_aload dX0_law_44 rfl rfl ?_
    refine r_callV_1 dX0_law_46 kX0_131 (X_finds (k := 1) (by exact hx) (by decide)) (gRecv.of hx.s21 rfl) rfl rfl (Nat.le_of_ble_eq_true rfl) ?_
    refine e_iret dX0_law_49 rfl ?_
    exact RX.err hX.self (FrX.lg (by decide)) (by decide) (by decide) (by decide)
theorem X_feed_L {d : Nat} {h : Hp} {S : MSt} (hX : CX h S) (w : WF S.r) {wd : Int64} {t n : Nat} (h3 : S.r 3 = nI t) (hle : t + n ≤ 50) {g : Row} {Q : gQ} : ∀ (k i : Nat), i ≤ n → n + 1 ≤ i + k → (gG (d + 3) (0) (0) m_X0_feed 88 [some (.ref 21), some (.long wd), none, some (.int (nI n)), some (.int (nI n))] [] (LG h 23 (feedR S.r wd t n) (-1) g) (Q)) → gG (d + 3) (0) (0) m_X0_feed 39 [some (.ref 21), some (.long wd), none, some (.int (nI n)), some (.int (nI i))] [] (LG h 23 (feedR S.r wd t i) (-1) g) (Q) := by
  intro k
  induction k with
  | zero => exact fun i h1 h2 => absurd h2 (by omega)
  | succ k ih =>
  intro i hi hk kk
  have hn8 := w.n8
  have hx := hX.hx
  have hl := hX.hl
  have hb : 21 ≤ 23 ∧ 23 + 10 < 78 := by decide
  have hn : S.r 2 = nI (np S.r) := w.n
  have lw := hX.lw
  have Vr := w.V
  have K := w.K
  refine r_iload dX0_feed_39 rfl ?_
  refine r_iload_n 3 dX0_feed_41 rfl rfl ?_
  refine r_icmp_ge 88 dX0_feed_42 (by decide) (fun c_42 => ?_) (fun c_42 => ?_)
  · skip
    have n_42 : n ≤ i := n_ge (by omega) (by omega) c_42
    have hin : i = n := by omega
    subst hin
    exact kk
  · skip
    have n_42 : i < n := n_gen (by omega) (by omega) c_42
    refine r_aload_n 0 dX0_feed_45 rfl rfl rfl ?_
    refine r_getr (k := 1) (b := 23) dX0_feed_46 hx.s21 rfl (by decide) (Or.inl q306) (Or.inl rfl) rfl hx.r_land ?_
    refine r_getr (k := 10) (b := (23 + 7)) dX0_feed_49 hl.s0 rfl (by decide) (Or.inr ⟨_, q239⟩) (Or.inl rfl) rfl hl.r_tape ?_
    refine r_aload_n 0 dX0_feed_52 rfl rfl rfl ?_
    refine r_getr (k := 1) (b := 23) dX0_feed_53 hx.s21 rfl (by decide) (Or.inl q306) (Or.inl rfl) rfl hx.r_land ?_
    refine r_geti (k := 11) dX0_feed_56 hl.s0 rfl (by decide) (Or.inr ⟨_, q241⟩) (Or.inl rfl) rfl ?_
    refine r_eqi (show _ = nI ((t + i)) from ((LG_r0 (k := 11) (i := 3) rfl).trans (feedR_3 h3 i))) ?_
    refine r_lload_n 1 dX0_feed_59 rfl rfl ?_
    refine r_bipush (v := nI 8) dX0_feed_60 (by decide +kernel) ?_
    refine r_iload dX0_feed_62 rfl ?_
    refine r_imul dX0_feed_64 ?_
    refine r_eqi (show _ = nI (8 * i) from by simp only [pk_mul, nI_add]) ?_
    refine r_lshr dX0_feed_65 ?_
    refine r_l2i dX0_feed_66 ?_
    refine r_i2b dX0_feed_67 ?_
    refine r_bastN (t + i) dX0_feed_68 hl.s7 rfl (by omega) (by decide) ?_
    refine gG_h (show _ = LG h 23 (ru (feedR S.r wd t i) (111 + (t + i)) (wbV wd i)) (-1) g from (congrArg (wI (LG h 23 (feedR S.r wd t i) (-1) g) (23 + 7) (t + i)) (wb_st wd i)).trans (LG_w7 (by omega))) ?_
    refine r_aload_n 0 dX0_feed_69 rfl rfl rfl ?_
    refine r_getr (k := 1) (b := 23) dX0_feed_70 hx.s21 rfl (by decide) (Or.inl q306) (Or.inl rfl) rfl hx.r_land ?_
    refine r_dup dX0_feed_73 rfl ?_
    refine r_geti (k := 11) dX0_feed_74 hl.s0 rfl (by decide) (Or.inr ⟨_, q241⟩) (Or.inl rfl) rfl ?_
    refine r_eqi (show _ = nI ((t + i)) from ((LG_r0 (k := 11) (i := 3) rfl).trans ((ru_n (by omega)).trans (feedR_3 h3 i)))) ?_
    refine r_iconst (v := nI 1) dX0_feed_77 rfl ?_
    refine r_iadd dX0_feed_78 ?_
    refine r_eqi (show _ = nI ((t + i + 1)) from (by simp only [nI_add])) ?_
    refine r_puti (k := 11) dX0_feed_79 hl.s0 rfl (by decide) (Or.inr ⟨_, q241⟩) (Or.inl rfl) (Or.inl rfl) rfl rfl rfl ?_
    refine gG_h (LG_w0 (k := 11) (i := 3) rfl) ?_
    refine r_iinc dX0_feed_82 rfl (by decide) rfl ?_
    refine gG_ls (ls' := [_, _, _, _, some (.int (nI ((i + 1))))]) (by rw [show (Int32.ofInt 1) = nI 1 from rfl, nI_add]; rfl) ?_
    refine r_goto 39 dX0_feed_85 (by decide) ?_
    exact ih (i + 1) (by omega) (by omega) kk
theorem X_feed {d : Nat} {h : Hp} {S : MSt} (hX : CX h S) (w : WF S.r) {wd : Int64} {c : Int32} : gC (d + 5) (0) (0) m_X0_feed [.ref 21, .long wd, .int c] (h) (RX h (aFeed S wd c)) := by
  have e_0 : aFeed S wd c = (if inB c (nI 1) (nI 8) = true then (if 50 < toN (S.r 3) + toN c then errA S (-1000000004) 4 else (nI (toN (S.r 3) + toN c), S.s_r (feedR S.r wd (toN (S.r 3)) (toN c)))) else errA S (-1000000001) 1) := rfl
  rw [e_0]
  have hn8 := w.n8
  have hx := hX.hx
  have hl := hX.hl
  have hb : 21 ≤ 23 ∧ 23 + 10 < 78 := by decide
  have hn : S.r 2 = nI (np S.r) := w.n
  have lw := hX.lw
  have Vr := w.V
  have K := w.K
  obtain ⟨t, h3, h50⟩ := w.A
  have e_t : toN (S.r 3) = t := by rw [h3]; exact toN_nI (by omega)
  rw [e_t]
  refine gC.ofH (ls := [some (.ref 21), some (.long wd), none, some (.int c), none]) (by decide +kernel) rfl rfl rfl rfl (Nat.le_of_ble_eq_true rfl) ?_
  refine gG_h hX.lg ?_
  refine r_aload_n 0 dX0_feed_0 rfl rfl rfl ?_
  refine r_iload_n 3 dX0_feed_1 rfl rfl ?_
  refine r_iconst (v := nI 1) dX0_feed_2 rfl ?_
  refine r_bipush (v := nI 8) dX0_feed_3 (by decide +kernel) ?_
  refine r_callS_1 dX0_feed_5 kX0_86 (X_in)  rfl rfl (Nat.le_of_ble_eq_true rfl) ?_
  refine r_iconst (v := nI 1) dX0_feed_8 rfl ?_
  refine r_needB dX0_feed_9 rfl (by exact hx) (Nat.le_of_ble_eq_true rfl) (fun n_9 => ?_) (fun n_9 => ?_)
  · skip
    first | rw [ifT n_9] | rw [ifF n_9] | skip
    obtain ⟨n, h_1, h_8, rfl⟩ := inB_p (by decide) n_9
    have e_n : toN (nI n) = n := toN_nI (by omega)
    rw [e_n]
    refine r_aload_n 0 dX0_feed_12 rfl rfl rfl ?_
    refine r_aload_n 0 dX0_feed_13 rfl rfl rfl ?_
    refine r_getr (k := 1) (b := 23) dX0_feed_14 hx.s21 rfl (by decide) (Or.inl q306) (Or.inl rfl) rfl hx.r_land ?_
    refine r_geti (k := 11) dX0_feed_17 hl.s0 rfl (by decide) (Or.inr ⟨_, q241⟩) (Or.inl rfl) rfl ?_
    refine r_eqi (show _ = nI (t) from ((LG_r0 (k := 11) (i := 3) rfl).trans h3)) ?_
    refine r_iload_n 3 dX0_feed_20 rfl rfl ?_
    refine r_iadd dX0_feed_21 ?_
    refine r_eqi (show _ = nI (t + n) from by simp only [pk_mul, nI_add]) ?_
    refine r_bipush (v := nI 50) dX0_feed_22 (by decide +kernel) ?_
    refine r_icmp_gt 31 dX0_feed_24 (by decide) (fun c_24 => ?_) (fun c_24 => ?_)
    · skip
      have n_24 : 50 < (t + n) := n_gt (by omega) (by omega) c_24
      first | rw [iP n_24] | rw [iN n_24] | rw [iN (Nat.not_lt.mpr n_24)] | rw [iN (Nat.not_le.mpr n_24)] | skip
      refine r_iconst (v := nI 0) dX0_feed_31 rfl ?_
      refine r_iconst (v := nI 4) dX0_feed_32 rfl ?_
      refine r_need0 dX0_feed_33 rfl (by exact hx) (Nat.le_of_ble_eq_true rfl) ?_
      refine t_catch [] (0, 95, 96, 8) [] (hx).s22 rfl rfl (fun z hz => by cases hz) rfl (by decide) q126 q128 ?_
      refine r_astore dX0_feed_96 (by decide) rfl rfl ?_
      refine gG_ls (ls' := [_, _, _, _, _]) rfl ?_
      refine r_aload_n 0 dX0_feed_98 rfl rfl rfl ?_
      refine r_aload dX0_feed_99 rfl rfl ?_
      refine r_callV_1 dX0_feed_101 kX0_131 (X_finds (k := 4) (by exact hx) (by decide)) (gRecv.of hx.s21 rfl) rfl rfl (Nat.le_of_ble_eq_true rfl) ?_
      refine e_iret dX0_feed_104 rfl ?_
      exact RX.err hX.self (FrX.lg (by decide)) (by decide) (by decide) (by decide)
    · skip
      have n_24 : (t + n) ≤ 50 := n_gtn (by omega) (by omega) c_24
      first | rw [iP n_24] | rw [iN n_24] | rw [iN (Nat.not_lt.mpr n_24)] | rw [iN (Nat.not_le.mpr n_24)] | skip
      refine r_iconst (v := nI 1) dX0_feed_27 rfl ?_
      refine r_goto 32 dX0_feed_28 (by decide) ?_
      refine r_iconst (v := nI 4) dX0_feed_32 rfl ?_
      refine r_need1 dX0_feed_33 rfl (by exact hx) (Nat.le_of_ble_eq_true rfl) ?_
      refine r_iconst (v := nI 0) dX0_feed_36 rfl ?_
      refine r_istore dX0_feed_37 (by decide) rfl ?_
      refine gG_ls (ls' := [_, _, _, _, _]) rfl ?_
      refine X_feed_L hX w h3 (by omega) (n + 1) 0 (by omega) (by omega) ?_
      refine r_aload_n 0 dX0_feed_88 rfl rfl rfl ?_
      refine r_getr (k := 1) (b := 23) dX0_feed_89 hx.s21 rfl (by decide) (Or.inl q306) (Or.inl rfl) rfl hx.r_land ?_
      refine r_geti (k := 11) dX0_feed_92 hl.s0 rfl (by decide) (Or.inr ⟨_, q241⟩) (Or.inl rfl) rfl ?_
      refine r_eqi (show _ = nI ((t + n)) from ((LG_r0 (k := 11) (i := 3) rfl).trans (feedR_3 h3 n))) ?_
      refine e_iret dX0_feed_95 rfl ?_
      exact RX.same (hX.land (lw.ru (RU.feed (by omega) n (by omega)))) (FrX.lg (by decide)) rfl rfl
  · skip
    first | rw [ifT n_9] | rw [ifF n_9] | skip
    refine t_catch [] (0, 95, 96, 8) [] (hx).s22 rfl rfl (fun z hz => by cases hz) rfl (by decide) q126 q128 ?_
    refine r_astore dX0_feed_96 (by decide) rfl rfl ?_
    refine gG_ls (ls' := [_, _, _, _, _]) rfl ?_
    refine r_aload_n 0 dX0_feed_98 rfl rfl rfl ?_
    refine r_aload dX0_feed_99 rfl rfl ?_
    refine r_callV_1 dX0_feed_101 kX0_131 (X_finds (k := 1) (by exact hx) (by decide)) (gRecv.of hx.s21 rfl) rfl rfl (Nat.le_of_ble_eq_true rfl) ?_
    refine e_iret dX0_feed_104 rfl ?_
    exact RX.err hX.self (FrX.lg (by decide)) (by decide) (by decide) (by decide)
