theorem X_person_L {d : Nat} {h : Hp} (hx : LayX (hS h) (hR h)) (hl : LayL (hS h) (hR h) 23) {r0 g : Row} {p : Nat} (hp : p < 8) {k1 k2 : Option Value} {Q : gQ} : ∀ (k i : Nat), i ≤ 8 → 9 ≤ i + k → (gG (d + 1) (0) (0) m_X0_person 161 [some (.ref 21), k1, k2, some (.int (nI p)), some (.int (nI 8))] [] (LG h 23 (zeroD r0 p (8)) (-1) g) (Q)) → gG (d + 1) (0) (0) m_X0_person 118 [some (.ref 21), k1, k2, some (.int (nI p)), some (.int (nI i))] [] (LG h 23 (zeroD r0 p (i)) (-1) g) (Q) := by
  intro k
  induction k with
  | zero => exact fun i h1 h2 => absurd h2 (by omega)
  | succ k ih =>
  intro i hi hk kk
  refine r_iload dX0_person_118 rfl ?_
  refine r_bipush (v := nI 8) dX0_person_120 (by decide +kernel) ?_
  refine r_icmp_ge 161 dX0_person_122 (by decide) (fun c_122 => ?_) (fun c_122 => ?_)
  · skip
    have n_122 : 8 ≤ i := n_ge (by omega) (by omega) c_122
    have h8 : i = 8 := by omega
    subst h8
    exact kk
  · skip
    have n_122 : i < 8 := n_gen (by omega) (by omega) c_122
    refine r_aload_n 0 dX0_person_125 rfl rfl rfl ?_
    refine r_getr (k := 1) (b := 23) dX0_person_126 hx.s21 rfl (by decide) (Or.inl q306) (Or.inl rfl) rfl hx.r_land ?_
    refine r_getr (k := 5) (b := (23 + 5)) dX0_person_129 hl.s0 rfl (by decide) (Or.inr ⟨_, q229⟩) (Or.inl rfl) rfl hl.r_owed ?_
    refine r_iload_n 3 dX0_person_132 rfl rfl ?_
    refine r_iload dX0_person_133 rfl ?_
    refine r_callS_1 dX0_person_135 kX0_127 (L_place (i := p) (j := i))  rfl rfl (Nat.le_of_ble_eq_true rfl) ?_
    refine r_iconst (v := nI 0) dX0_person_138 rfl ?_
    refine r_iastN ((8 * p + i)) dX0_person_139 hl.s5 rfl (by omega) (by decide) ?_
    refine gG_h (LG_w5 (by omega) (by omega)) ?_
    refine r_aload_n 0 dX0_person_140 rfl rfl rfl ?_
    refine r_getr (k := 1) (b := 23) dX0_person_141 hx.s21 rfl (by decide) (Or.inl q306) (Or.inl rfl) rfl hx.r_land ?_
    refine r_getr (k := 5) (b := (23 + 5)) dX0_person_144 hl.s0 rfl (by decide) (Or.inr ⟨_, q229⟩) (Or.inl rfl) rfl hl.r_owed ?_
    refine r_iload dX0_person_147 rfl ?_
    refine r_iload_n 3 dX0_person_149 rfl rfl ?_
    refine r_callS_1 dX0_person_150 kX0_127 (L_place (i := i) (j := p))  rfl rfl (Nat.le_of_ble_eq_true rfl) ?_
    refine r_iconst (v := nI 0) dX0_person_153 rfl ?_
    refine r_iastN ((8 * i + p)) dX0_person_154 hl.s5 rfl (by omega) (by decide) ?_
    refine gG_h (LG_w5 (by omega) (by omega)) ?_
    refine r_iinc dX0_person_155 rfl (by decide) rfl ?_
    refine gG_ls (ls' := [_, _, _, _, some (.int (nI ((i + 1))))]) (by rw [show (Int32.ofInt 1) = nI 1 from rfl, nI_add]; rfl) ?_
    refine r_goto 118 dX0_person_158 (by decide) ?_
    exact ih (i + 1) (by omega) (by omega) kk
theorem X_person {d : Nat} {h : Hp} {S : MSt} (hX : CX h S) (w : WF S.r) {km tr : Int32} : gC (d + 6) (1) (3) m_X0_person [.ref 21, .int km, .int tr] (h) (RX h (aPerson S km tr)) := by
  have e_0 : aPerson S km tr = (if inB km (nI 0) (nI 69) = true then (if inB tr (nI 0) (nI 15) = true then (if np S.r = 8 then errA S (-1000000004) 4 else (nI (np S.r), S.s_r (newP S.r km tr))) else errA S (-1000000001) 1) else errA S (-1000000001) 1) := rfl
  rw [e_0]
  have hn8 := w.n8
  have hx := hX.hx
  have hl := hX.hl
  have hb : 21 ≤ 23 ∧ 23 + 10 < 78 := by decide
  have hn : S.r 2 = nI (np S.r) := w.n
  have lw := hX.lw
  have Vr := w.V
  have K := w.K
  refine gC.ofH (ls := [some (.ref 21), some (.int km), some (.int tr), none, none]) (by decide +kernel) rfl rfl rfl rfl (Nat.le_of_ble_eq_true rfl) ?_
  refine gG_h hX.lg ?_
  refine r_aload_n 0 dX0_person_0 rfl rfl rfl ?_
  refine r_iload_n 1 dX0_person_1 rfl rfl ?_
  refine r_iconst (v := nI 0) dX0_person_2 rfl ?_
  refine r_bipush (v := nI 69) dX0_person_3 (by decide +kernel) ?_
  refine r_callS_1 dX0_person_5 kX0_86 (X_in)  rfl rfl (Nat.le_of_ble_eq_true rfl) ?_
  refine r_if_eq 25 dX0_person_8 (by decide) (fun c_8 => ?_) (fun c_8 => ?_)
  · skip
    have n_8 : (inB (km) (nI 0) (nI 69)) = false := b2_f c_8
    first | rw [ifT n_8] | rw [ifF n_8] | skip
    refine r_iconst (v := nI 0) dX0_person_25 rfl ?_
    refine r_iconst (v := nI 1) dX0_person_26 rfl ?_
    refine r_need0 dX0_person_27 rfl (by exact hx) (Nat.le_of_ble_eq_true rfl) ?_
    refine t_catch [] (0, 175, 176, 8) [] (hx).s22 rfl rfl (fun z hz => by cases hz) rfl (by decide) q126 q128 ?_
    refine r_astore_n 3 dX0_person_176 rfl (by decide) rfl rfl ?_
    refine gG_ls (ls' := [_, _, _, _, _]) rfl ?_
    refine r_aload_n 0 dX0_person_177 rfl rfl rfl ?_
    refine r_aload_n 3 dX0_person_178 rfl rfl rfl ?_
    refine r_callV_1 dX0_person_179 kX0_131 (X_finds (k := 1) (by exact hx) (by decide)) (gRecv.of hx.s21 rfl) rfl rfl (Nat.le_of_ble_eq_true rfl) ?_
    refine e_iret dX0_person_182 rfl ?_
    exact RX.err hX.self (FrX.lg (by decide)) (by decide) (by decide) (by decide)
  · skip
    have n_8 : (inB (km) (nI 0) (nI 69)) = true := b2_t c_8
    first | rw [ifT n_8] | rw [ifF n_8] | skip
    obtain ⟨c, h_c, rfl⟩ := inB_n (by decide) n_8
    refine r_iload_n 2 dX0_person_11 rfl rfl ?_
    refine r_iconst (v := nI 0) dX0_person_12 rfl ?_
    refine r_bipush (v := nI 15) dX0_person_13 (by decide +kernel) ?_
    refine r_callS_1 dX0_person_15 kX0_86 (X_in)  rfl rfl (Nat.le_of_ble_eq_true rfl) ?_
    refine r_if_eq 25 dX0_person_18 (by decide) (fun c_18 => ?_) (fun c_18 => ?_)
    · skip
      have n_18 : (inB (tr) (nI 0) (nI 15)) = false := b2_f c_18
      first | rw [ifT n_18] | rw [ifF n_18] | skip
      refine r_iconst (v := nI 0) dX0_person_25 rfl ?_
      refine r_iconst (v := nI 1) dX0_person_26 rfl ?_
      refine r_need0 dX0_person_27 rfl (by exact hx) (Nat.le_of_ble_eq_true rfl) ?_
      refine t_catch [] (0, 175, 176, 8) [] (hx).s22 rfl rfl (fun z hz => by cases hz) rfl (by decide) q126 q128 ?_
      refine r_astore_n 3 dX0_person_176 rfl (by decide) rfl rfl ?_
      refine gG_ls (ls' := [_, _, _, _, _]) rfl ?_
      refine r_aload_n 0 dX0_person_177 rfl rfl rfl ?_
      refine r_aload_n 3 dX0_person_178 rfl rfl rfl ?_
      refine r_callV_1 dX0_person_179 kX0_131 (X_finds (k := 1) (by exact hx) (by decide)) (gRecv.of hx.s21 rfl) rfl rfl (Nat.le_of_ble_eq_true rfl) ?_
      refine e_iret dX0_person_182 rfl ?_
      exact RX.err hX.self (FrX.lg (by decide)) (by decide) (by decide) (by decide)
    · skip
      have n_18 : (inB (tr) (nI 0) (nI 15)) = true := b2_t c_18
      first | rw [ifT n_18] | rw [ifF n_18] | skip
      refine r_iconst (v := nI 1) dX0_person_21 rfl ?_
      refine r_goto 26 dX0_person_22 (by decide) ?_
      refine r_iconst (v := nI 1) dX0_person_26 rfl ?_
      refine r_need1 dX0_person_27 rfl (by exact hx) (Nat.le_of_ble_eq_true rfl) ?_
      refine r_aload_n 0 dX0_person_30 rfl rfl rfl ?_
      refine r_aload_n 0 dX0_person_31 rfl rfl rfl ?_
      refine r_getr (k := 1) (b := 23) dX0_person_32 hx.s21 rfl (by decide) (Or.inl q306) (Or.inl rfl) rfl hx.r_land ?_
      refine r_geti (k := 0) dX0_person_35 hl.s0 rfl (by decide) (Or.inr ⟨_, q219⟩) (Or.inl rfl) rfl ?_
      refine r_eqi (show _ = nI ((np S.r)) from ((LG_r0 (k := 0) (i := 2) rfl).trans hn)) ?_
      refine r_bipush (v := nI 8) dX0_person_38 (by decide +kernel) ?_
      refine r_icmp_ge 47 dX0_person_40 (by decide) (fun c_40 => ?_) (fun c_40 => ?_)
      · skip
        have n_40 : 8 ≤ (np S.r) := n_ge (by omega) (by omega) c_40
        first | rw [iP n_40] | rw [iN n_40] | rw [iN (Nat.not_lt.mpr n_40)] | rw [iN (Nat.not_le.mpr n_40)] | skip
        rw [iP (show np S.r = 8 by omega)]
        refine r_iconst (v := nI 0) dX0_person_47 rfl ?_
        refine r_iconst (v := nI 4) dX0_person_48 rfl ?_
        refine r_need0 dX0_person_49 rfl (by exact hx) (Nat.le_of_ble_eq_true rfl) ?_
        refine t_catch [] (0, 175, 176, 8) [] (hx).s22 rfl rfl (fun z hz => by cases hz) rfl (by decide) q126 q128 ?_
        refine r_astore_n 3 dX0_person_176 rfl (by decide) rfl rfl ?_
        refine gG_ls (ls' := [_, _, _, _, _]) rfl ?_
        refine r_aload_n 0 dX0_person_177 rfl rfl rfl ?_
        refine r_aload_n 3 dX0_person_178 rfl rfl rfl ?_
        refine r_callV_1 dX0_person_179 kX0_131 (X_finds (k := 4) (by exact hx) (by decide)) (gRecv.of hx.s21 rfl) rfl rfl (Nat.le_of_ble_eq_true rfl) ?_
        refine e_iret dX0_person_182 rfl ?_
        exact RX.err hX.self (FrX.lg (by decide)) (by decide) (by decide) (by decide)
      · skip
        have n_40 : (np S.r) < 8 := n_gen (by omega) (by omega) c_40
        first | rw [iP n_40] | rw [iN n_40] | rw [iN (Nat.not_lt.mpr n_40)] | rw [iN (Nat.not_le.mpr n_40)] | skip
        rw [iN (show ¬ np S.r = 8 by omega)]
        have hlt : np S.r < 8 := by omega
        refine r_iconst (v := nI 1) dX0_person_43 rfl ?_
        refine r_goto 48 dX0_person_44 (by decide) ?_
        refine r_iconst (v := nI 4) dX0_person_48 rfl ?_
        refine r_need1 dX0_person_49 rfl (by exact hx) (Nat.le_of_ble_eq_true rfl) ?_
        refine r_aload_n 0 dX0_person_52 rfl rfl rfl ?_
        refine r_getr (k := 1) (b := 23) dX0_person_53 hx.s21 rfl (by decide) (Or.inl q306) (Or.inl rfl) rfl hx.r_land ?_
        refine r_geti (k := 0) dX0_person_56 hl.s0 rfl (by decide) (Or.inr ⟨_, q219⟩) (Or.inl rfl) rfl ?_
        refine r_eqi (show _ = nI ((np S.r)) from ((LG_r0 (k := 0) (i := 2) rfl).trans hn)) ?_
        refine r_istore_n 3 dX0_person_59 rfl (by decide) rfl ?_
        refine gG_ls (ls' := [_, _, _, _, _]) rfl ?_
        refine r_aload_n 0 dX0_person_60 rfl rfl rfl ?_
        refine r_getr (k := 1) (b := 23) dX0_person_61 hx.s21 rfl (by decide) (Or.inl q306) (Or.inl rfl) rfl hx.r_land ?_
        refine r_getr (k := 1) (b := (23 + 1)) dX0_person_64 hl.s0 rfl (by decide) (Or.inr ⟨_, q221⟩) (Or.inl rfl) rfl hl.r_person ?_
        refine r_iload_n 3 dX0_person_67 rfl rfl ?_
        refine r_iload_n 1 dX0_person_68 rfl rfl ?_
        refine r_bipush (v := nI 10) dX0_person_69 (by decide +kernel) ?_
        refine r_idiv dX0_person_71 (by decide) ?_
        refine r_eqi (show _ = nI ((c / 10)) from km_div (by omega)) ?_
        refine r_aload_n 0 dX0_person_72 rfl rfl rfl ?_
        refine r_getr (k := 5) (b := 56) dX0_person_73 hx.s21 rfl (by decide) (Or.inl q310) (Or.inl rfl) rfl hx.r_trace ?_
        refine r_iload_n 3 dX0_person_76 rfl rfl ?_
        refine r_iload_n 1 dX0_person_77 rfl rfl ?_
        refine r_bipush (v := nI 10) dX0_person_78 (by decide +kernel) ?_
        refine r_irem dX0_person_80 (by decide) ?_
        refine r_eqi (show _ = (irem (nI c) (nI 10)) from rfl) ?_
        refine gG_h hX.lg.symm ?_
        refine gG_w (mc := 0 + 1) (ms := 0 + 3) (by omega) (by omega) ?_
        refine r_callS_1c dX0_person_81 kX0_111 (X_oneOf (k := c / 10) (p := nI (np S.r)) (m := irem (nI c) (nI 10)) (by omega) hX.hN) rfl rfl (Nat.le_of_ble_eq_true rfl) ?_
        refine r_aastP dX0_person_84 ((nP_S (by have := hX.hN; omega)).trans hl.s1) rfl (by omega) (nP_pa (p := (np S.r)) hX.hN (by omega)) ?_
        have hx2 := pH_x (k := c / 10) (p := (np S.r)) (m := irem (nI c) (nI 10)) hX
        have hl2 := pH_l (k := c / 10) (p := (np S.r)) (m := irem (nI c) (nI 10)) hX
        refine gG_h (pH_lg (k := c / 10) (p := (np S.r)) (m := irem (nI c) (nI 10)) hX (nw_ix (r := S.r) (p := np S.r) (v := nI c / nI 10) (w := irem (nI c) (nI 10)) (by omega))) ?_
        refine r_aload_n 0 dX0_person_85 rfl rfl rfl ?_
        refine r_getr (k := 1) (b := 23) dX0_person_86 hx2.s21 rfl (by decide) (Or.inl q306) (Or.inl rfl) rfl hx2.r_land ?_
        refine r_getr (k := 2) (b := (23 + 2)) dX0_person_89 hl2.s0 rfl (by decide) (Or.inr ⟨_, q223⟩) (Or.inl rfl) rfl hl2.r_traits ?_
        refine r_iload_n 3 dX0_person_92 rfl rfl ?_
        refine r_iload_n 2 dX0_person_93 rfl rfl ?_
        refine r_iastN ((np S.r)) dX0_person_94 hl2.s2 rfl (by omega) (by decide) ?_
        refine gG_h (LG_w2 (by omega)) ?_
        refine r_aload_n 0 dX0_person_95 rfl rfl rfl ?_
        refine r_getr (k := 1) (b := 23) dX0_person_96 hx2.s21 rfl (by decide) (Or.inl q306) (Or.inl rfl) rfl hx2.r_land ?_
        refine r_getr (k := 3) (b := (23 + 3)) dX0_person_99 hl2.s0 rfl (by decide) (Or.inr ⟨_, q225⟩) (Or.inl rfl) rfl hl2.r_water ?_
        refine r_iload_n 3 dX0_person_102 rfl rfl ?_
        refine r_iconst (v := nI 0) dX0_person_103 rfl ?_
        refine r_iastN ((np S.r)) dX0_person_104 hl2.s3 rfl (by omega) (by decide) ?_
        refine gG_h (LG_w3 (by omega)) ?_
        refine r_aload_n 0 dX0_person_105 rfl rfl rfl ?_
        refine r_getr (k := 1) (b := 23) dX0_person_106 hx2.s21 rfl (by decide) (Or.inl q306) (Or.inl rfl) rfl hx2.r_land ?_
        refine r_getr (k := 4) (b := (23 + 4)) dX0_person_109 hl2.s0 rfl (by decide) (Or.inr ⟨_, q227⟩) (Or.inl rfl) rfl hl2.r_thirst ?_
        refine r_iload_n 3 dX0_person_112 rfl rfl ?_
        refine r_iconst (v := nI 0) dX0_person_113 rfl ?_
        refine r_iastN ((np S.r)) dX0_person_114 hl2.s4 rfl (by omega) (by decide) ?_
        refine gG_h (LG_w4 (by omega)) ?_
        refine r_iconst (v := nI 0) dX0_person_115 rfl ?_
        refine r_istore dX0_person_116 (by decide) rfl ?_
        refine gG_ls (ls' := [_, _, _, _, _]) rfl ?_
        refine X_person_L (by exact hx2) (by exact hl2) (p := np S.r) (by omega) 9 0 (by omega) (by omega) ?_
        refine r_aload_n 0 dX0_person_161 rfl rfl rfl ?_
        refine r_getr (k := 1) (b := 23) dX0_person_162 hx2.s21 rfl (by decide) (Or.inl q306) (Or.inl rfl) rfl hx2.r_land ?_
        refine r_dup dX0_person_165 rfl ?_
        refine r_geti (k := 0) dX0_person_166 hl2.s0 rfl (by decide) (Or.inr ⟨_, q219⟩) (Or.inl rfl) rfl ?_
        refine r_eqi (show _ = nI ((np S.r)) from ((LG_r0 (k := 0) (i := 2) rfl).trans ((zn2 (by omega)).trans hn))) ?_
        refine r_iconst (v := nI 1) dX0_person_169 rfl ?_
        refine r_iadd dX0_person_170 ?_
        refine r_eqi (show _ = nI ((np S.r) + 1) from by simp only [pk_mul, nI_add]) ?_
        refine r_puti (k := 0) dX0_person_171 hl2.s0 rfl (by decide) (Or.inr ⟨_, q219⟩) (Or.inl rfl) (Or.inl rfl) rfl rfl rfl ?_
        refine gG_h (LG_w0 (k := 0) (i := 2) rfl) ?_
        refine r_iload_n 3 dX0_person_174 rfl rfl ?_
        refine e_iret dX0_person_175 rfl ?_
        exact ⟨rfl, cx_newp (c := c) (tr := tr) hX (by omega) (by omega), frx_person (k := c / 10) (p := np S.r) (m := irem (nI c) (nI 10)) hX.hN⟩
theorem X_become {d : Nat} {h : Hp} {S : MSt} (hX : CX h S) (w : WF S.r) {p km : Int32} : gC (d + 409) (1) (3) m_X0_become [.ref 21, .int p, .int km] (h) (RX h (aBecome S p km)) := by
  have e_0 : aBecome S p km = (if inB p 0 (S.r 2 - 1) = true then (if inB km (nI 0) (nI 69) = true then (pv S.r (toN p) 0, S.s_r (ru (spv S.r (toN p) 1 (irem km (nI 10))) (7 + 5 * toN p) (km / nI 10))) else errA S (-1000000001) 1) else errA S (-1000000001) 1) := rfl
  rw [e_0]
  have hn8 := w.n8
  have hx := hX.hx
  have hl := hX.hl
  have hb : 21 ≤ 23 ∧ 23 + 10 < 78 := by decide
  have hn : S.r 2 = nI (np S.r) := w.n
  have lw := hX.lw
  have Vr := w.V
  have K := w.K
  refine gC.ofH (ls := [some (.ref 21), some (.int p), some (.int km), none]) (by decide +kernel) rfl rfl rfl rfl (Nat.le_of_ble_eq_true rfl) ?_
  refine gG_h hX.lg ?_
  refine r_aload_n 0 dX0_become_0 rfl rfl rfl ?_
  refine r_iload_n 1 dX0_become_1 rfl rfl ?_
  refine r_iload_n 2 dX0_become_2 rfl rfl ?_
  refine r_iconst (v := nI 0) dX0_become_3 rfl ?_
  refine r_bipush (v := nI 69) dX0_become_4 (by decide +kernel) ?_
  refine r_callS_1 dX0_become_6 kX0_86 (X_in)  rfl rfl (Nat.le_of_ble_eq_true rfl) ?_
  refine r_personAt dX0_become_9 kX0_135 (by exact hx) (by exact hl) lw w (Nat.le_of_ble_eq_true rfl) (fun k a q9 e_p h_k n_p n_c ha hq9 pa => ?_) (fun n_p => ?_) (fun n_p n_c => ?_)
  · skip
    rw [ifT n_p, ifT n_c]
    subst e_p
    have e_k : toN (nI k) = k := toN_nI (by omega)
    try simp only [e_k]
    have h79 := pa.2.2.2.1
    obtain ⟨c, h_c, rfl⟩ := inB_n (by decide) n_c
    refine r_astore_n 3 dX0_become_12 rfl (by decide) rfl rfl ?_
    refine gG_ls (ls' := [_, _, _, _]) rfl ?_
    refine r_aload_n 0 dX0_become_13 rfl rfl rfl ?_
    refine r_getr (k := 1) (b := 23) dX0_become_14 hx.s21 rfl (by decide) (Or.inl q306) (Or.inl rfl) rfl hx.r_land ?_
    refine r_getr (k := 1) (b := (23 + 1)) dX0_become_17 hl.s0 rfl (by decide) (Or.inr ⟨_, q221⟩) (Or.inl rfl) rfl hl.r_person ?_
    refine r_iload_n 1 dX0_become_20 rfl rfl ?_
    refine r_iload_n 2 dX0_become_21 rfl rfl ?_
    refine r_bipush (v := nI 10) dX0_become_22 (by decide +kernel) ?_
    refine r_idiv dX0_become_24 (by decide) ?_
    refine r_eqi (show _ = nI ((c / 10)) from km_div (by omega)) ?_
    refine r_aload_n 0 dX0_become_25 rfl rfl rfl ?_
    refine r_getr (k := 5) (b := 56) dX0_become_26 hx.s21 rfl (by decide) (Or.inl q310) (Or.inl rfl) rfl hx.r_trace ?_
    refine r_iload_n 1 dX0_become_29 rfl rfl ?_
    refine r_iload_n 2 dX0_become_30 rfl rfl ?_
    refine r_bipush (v := nI 10) dX0_become_31 (by decide +kernel) ?_
    refine r_irem dX0_become_33 (by decide) ?_
    refine r_eqi (show _ = (irem (nI c) (nI 10)) from rfl) ?_
    refine gG_h hX.lg.symm ?_
    refine gG_w (mc := 0 + 1) (ms := 0 + 3) (by omega) (by omega) ?_
    refine r_callS_1c dX0_become_34 kX0_111 (X_oneOf (k := c / 10) (p := nI k) (m := irem (nI c) (nI 10)) (by omega) hX.hN) rfl rfl (Nat.le_of_ble_eq_true rfl) ?_
    refine r_aastP dX0_become_37 ((nP_S (by have := hX.hN; omega)).trans hl.s1) rfl (by omega) (nP_pa (p := k) hX.hN (by omega)) ?_
    have hx2 := pH_x (k := c / 10) (p := k) (m := irem (nI c) (nI 10)) hX
    have hl2 := pH_l (k := c / 10) (p := k) (m := irem (nI c) (nI 10)) hX
    refine gG_h (pH_lg (k := c / 10) (p := k) (m := irem (nI c) (nI 10)) hX (bc_ix (r := S.r) (p := k) (v := irem (nI c) (nI 10)) (w := nI c / nI 10) (by omega))) ?_
    refine r_aload_n 3 dX0_become_38 rfl rfl rfl ?_
    refine r_kind_X0_139 rfl dX0_become_39 (pa_pH pa) (Nat.le_of_ble_eq_true rfl) ?_
    refine e_iret dX0_become_42 rfl ?_
    exact ⟨by rw [hq9], cx_become (c := c) (p := k) hX (by omega) (by omega), frx_person (k := c / 10) (p := k) (m := irem (nI c) (nI 10)) hX.hN⟩
  · skip
    rw [ifF n_p]
    refine t_catch [] (0, 42, 43, 8) [] (hx).s22 rfl rfl (fun z hz => by cases hz) rfl (by decide) q126 q128 ?_
    refine r_astore_n 3 dX0_become_43 rfl (by decide) rfl rfl ?_
    refine gG_ls (ls' := [_, _, _, _]) rfl ?_
    refine r_aload_n 0 dX0_become_44 rfl rfl rfl ?_
    refine r_aload_n 3 dX0_become_45 rfl rfl rfl ?_
    refine r_callV_1 dX0_become_46 kX0_131 (X_finds (k := 1) (by exact hx) (by decide)) (gRecv.of hx.s21 rfl) rfl rfl (Nat.le_of_ble_eq_true rfl) ?_
    refine e_iret dX0_become_49 rfl ?_
    exact RX.err hX.self (FrX.lg (by decide)) (by decide) (by decide) (by decide)
  · skip
    rw [ifT n_p, ifF n_c]
    refine t_catch [] (0, 42, 43, 8) [] (hx).s22 rfl rfl (fun z hz => by cases hz) rfl (by decide) q126 q128 ?_
    refine r_astore_n 3 dX0_become_43 rfl (by decide) rfl rfl ?_
    refine gG_ls (ls' := [_, _, _, _]) rfl ?_
    refine r_aload_n 0 dX0_become_44 rfl rfl rfl ?_
    refine r_aload_n 3 dX0_become_45 rfl rfl rfl ?_
    refine r_callV_1 dX0_become_46 kX0_131 (X_finds (k := 1) (by exact hx) (by decide)) (gRecv.of hx.s21 rfl) rfl rfl (Nat.le_of_ble_eq_true rfl) ?_
    refine e_iret dX0_become_49 rfl ?_
    exact RX.err hX.self (FrX.lg (by decide)) (by decide) (by decide) (by decide)
