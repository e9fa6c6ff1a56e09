theorem r_row_X0_362 {d mc ms : Nat} {M : gM} {pc : Nat} {ls : gLs} {st : List Value} {h : Hp} {Q : gQ} {a A t n : Nat} {bt : Int32} (hMo : mOwn M = RX0) (dc : decode (mC M) pc = .ok (.invokevirtual 362, 3)) (so : ShO h a A t n bt) (hcat : (st.map fun v => v.category).sum ≤ 8) (kk : gG (d + 2) mc ms M (pc + 3) ls (.ref (hN h) :: st) (bI (hM h (.inr (0, n))) (hN h) (cpG (hI h A) n)) Q) : gG (d + 2) (mc + 1) (ms + 40) M pc ls (.ref a :: st) h Q := by
  have so0 := so
  obtain ⟨h1, h2, h3, h4, h5, h6, h7, h8⟩ := so
  rcases h8 with ⟨e1, rfl, rfl⟩ | ⟨e1, rfl, rfl⟩ | ⟨e1, rfl, rfl⟩
  · exact r_callU_1c dc (by rw [hMo]; exact kX0_362_X22) (X_row so0) (gRecv.of e1 rfl) rfl rfl hcat kk
  · exact r_callU_1c dc (by rw [hMo]; exact kX0_362_X23) (X_row so0) (gRecv.of e1 rfl) rfl rfl hcat kk
  · exact r_callU_1c dc (by rw [hMo]; exact kX0_362_X24) (X_row so0) (gRecv.of e1 rfl) rfl rfl hcat kk
theorem X_move_L {d : Nat} {h : Hp} {S : MSt} (hX : CX h S) (w : WF S.r) {k l a A t z1 a2 A2 t2 z2 ci cj cn : Nat} (hk : k < 4) (hl4 : l < 4) (so : ShO h a A t z1 (S.bits k)) (so2 : ShO h a2 A2 t2 z2 (S.bits l)) (z40 : z1 ≤ 40) (z240 : z2 ≤ 40) (sv : ∀ i, i < z1 → hI h A i = S.sheets (40 * k + i)) (hb1 : ci + cn ≤ z1) (hb2 : cj + cn ≤ z2) (hnar : ∀ i, i < z1 → narV (S.bits l) (S.sheets (40 * k + i)) = S.sheets (40 * k + i)) {Q : gQ} : ∀ (q i : Nat), i ≤ cn → cn + 1 ≤ i + q → (gG (d + 5) (0) (0) m_X0_move 150 [some (.ref 21), some (.int (nI k)), some (.int (nI ci)), some (.int (nI l)), some (.int (nI cj)), some (.int (nI cn)), some (.ref a), some (.ref a2), some (.ref (hN h)), some (.int (nI cn))] [] (bI (bI (hM h (.inr (0, z1))) (hN h) (cpG (hI h A) z1)) A2 (pwF (hI (bI (hM h (.inr (0, z1))) (hN h) (cpG (hI h A) z1)) A2) (fun q => S.sheets (40 * k + ci + q)) cj (cn))) (Q)) → gG (d + 5) (0) (0) m_X0_move 120 [some (.ref 21), some (.int (nI k)), some (.int (nI ci)), some (.int (nI l)), some (.int (nI cj)), some (.int (nI cn)), some (.ref a), some (.ref a2), some (.ref (hN h)), some (.int (nI i))] [] (bI (bI (hM h (.inr (0, z1))) (hN h) (cpG (hI h A) z1)) A2 (pwF (hI (bI (hM h (.inr (0, z1))) (hN h) (cpG (hI h A) z1)) A2) (fun q => S.sheets (40 * k + ci + q)) cj (i))) (Q) := by
  intro q
  induction q with
  | zero => exact fun i h1 h2 => absurd h2 (by omega)
  | succ q ih =>
  intro i hi hk9 kk
  have ha := so.1
  have ha2 := so2.1
  have hA2 := so2.2.2.2.1
  have hA3 := so2.2.2.2.2.1
  refine r_iload dX0_move_120 rfl ?_
  refine r_iload dX0_move_122 rfl ?_
  refine r_icmp_ge 150 dX0_move_124 (by decide) (fun c_124 => ?_) (fun c_124 => ?_)
  · skip
    have n_124 : cn ≤ i := n_ge (by omega) (by omega) c_124
    have hin : i = cn := by omega
    subst hin
    exact kk
  · skip
    have n_124 : i < cn := n_gen (by omega) (by omega) c_124
    refine r_aload dX0_move_127 rfl rfl ?_
    refine r_iload dX0_move_129 rfl ?_
    refine r_iload dX0_move_131 rfl ?_
    refine r_iadd dX0_move_133 ?_
    refine r_eqi (show _ = nI ((cj + i)) from (by simp only [nI_add])) ?_
    refine r_aload dX0_move_134 rfl rfl ?_
    refine r_iload_n 2 dX0_move_136 rfl rfl ?_
    refine r_iload dX0_move_137 rfl ?_
    refine r_iadd dX0_move_139 ?_
    refine r_ialdN ((ci + i)) dX0_move_140 (hM_Sn (h := h)) (by simp only [pk_mul, nI_add]) (by omega) (by omega) ?_
    refine r_eqi (show _ = (S.sheets (40 * k + (ci + i))) from ((congrFun (bI_n (show hN h ≠ A2 by omega)) (ci + i)).trans ((congrFun (bI_s (hM h (.inr (0, z1))) (hN h) _) (ci + i)).trans ((cpG_at z1 (by omega)).trans (sv _ (by omega)))))) ?_
    refine r_put_X0_356 (i := cj + i) (by omega) rfl dX0_move_141 (show ShO (bI (bI (hM h (.inr (0, z1))) (hN h) (cpG (hI h A) z1)) A2 (pwF (hI (bI (hM h (.inr (0, z1))) (hN h) (cpG (hI h A) z1)) A2) (fun q => S.sheets (40 * k + ci + q)) cj (i))) a2 A2 t2 z2 (S.bits l) from so2.hm (F := fun _ => 0)) (Nat.le_of_ble_eq_true rfl) ?_
    rw [hnar (ci + i) (by omega)]
    refine gG_h (show _ = bI (bI (hM h (.inr (0, z1))) (hN h) (cpG (hI h A) z1)) A2 (pwF (hI (bI (hM h (.inr (0, z1))) (hN h) (cpG (hI h A) z1)) A2) (fun q => S.sheets (40 * k + ci + q)) cj (i + 1)) from by rw [wI_bI, bI_bI, bI_s, show 40 * k + (ci + i) = 40 * k + ci + i by omega]; rfl) ?_
    refine r_iinc dX0_move_144 rfl (by decide) rfl ?_
    refine gG_ls (ls' := [_, _, _, _, _, _, _, _, _, some (.int (nI ((i + 1))))]) (by rw [show (Int32.ofInt 1) = nI 1 from rfl, nI_add]; rfl) ?_
    refine r_goto 120 dX0_move_147 (by decide) ?_
    exact ih (i + 1) (by omega) (by omega) kk
theorem X_move {d : Nat} {h : Hp} {S : MSt} (hX : CX h S) (w : WF S.r) {s i t j n : Int32} (hnar : ∀ s, s < 4 → ∀ i, i < toN (S.size s) → narV (S.bits s) (S.sheets (40 * s + i)) = S.sheets (40 * s + i)) : gC (d + 6) (1) (40) m_X0_move [.ref 21, .int s, .int i, .int t, .int j, .int n] (h) (RX h (aMove S s i t j n)) := by
  have e_0 : aMove S s i t j n = (if inB s (nI 0) (nI 3) = true then (if inB t (nI 0) (nI 3) = true then (if S.bits (toN s) = 0 then errA S (-1000000002) 2 else if S.bits (toN t) = 0 then errA S (-1000000002) 2 else if S.bits (toN s) = S.bits (toN t) then (if n < 0 then errA S (-1000000001) 1 else if i < 0 then errA S (-1000000001) 1 else if j < 0 then errA S (-1000000001) 1 else if S.size (toN s) - n < i then errA S (-1000000001) 1 else if S.size (toN t) - n < j then errA S (-1000000001) 1 else (n, S.s_sheets (mvF S.sheets (40 * toN s + toN i) (40 * toN t + toN j) (toN n)))) else errA S (-1000000005) 5) else errA S (-1000000001) 1) else errA S (-1000000001) 1) := rfl
  rw [e_0]
  have hn8 := w.n8
  have hx := hX.hx
  have hl := hX.hl
  have hb : 21 ≤ 23 ∧ 23 + 10 < 78 := by decide
  have hn : S.r 2 = nI (np S.r) := w.n
  have lw := hX.lw
  have Vr := w.V
  have K := w.K
  refine gC.ofH (ls := [some (.ref 21), some (.int s), some (.int i), some (.int t), some (.int j), some (.int n), none, none, none, none]) (by decide +kernel) rfl rfl rfl rfl (Nat.le_of_ble_eq_true rfl) ?_
  refine r_aload_n 0 dX0_move_0 rfl rfl rfl ?_
  refine r_iload_n 1 dX0_move_1 rfl rfl ?_
  refine r_callS_1 dX0_move_2 kX0_255 (X_isSheet (v := s))  rfl rfl (Nat.le_of_ble_eq_true rfl) ?_
  refine r_if_eq 19 dX0_move_5 (by decide) (fun c_5 => ?_) (fun c_5 => ?_)
  · skip
    have n_5 : (inB (s) (nI 0) (nI 3)) = false := b2_f c_5
    first | rw [ifT n_5] | rw [ifF n_5] | skip
    refine r_iconst (v := nI 0) dX0_move_19 rfl ?_
    refine r_iconst (v := nI 1) dX0_move_20 rfl ?_
    refine r_need0 dX0_move_21 rfl (by exact hx) (Nat.le_of_ble_eq_true rfl) ?_
    refine t_catch [] (0, 152, 153, 8) [] (hx).s22 rfl rfl (fun z hz => by cases hz) rfl (by decide) q126 q128 ?_
    refine r_astore dX0_move_153 (by decide) rfl rfl ?_
    refine gG_ls (ls' := [_, _, _, _, _, _, _, _, _, _]) rfl ?_
    refine r_aload_n 0 dX0_move_155 rfl rfl rfl ?_
    refine r_aload dX0_move_156 rfl rfl ?_
    refine r_callV_1 dX0_move_158 kX0_131 (X_finds (k := 1) (by exact hx) (by decide)) (gRecv.of hx.s21 rfl) rfl rfl (Nat.le_of_ble_eq_true rfl) ?_
    refine e_iret dX0_move_161 rfl ?_
    exact RX.err hX FrX.r (by decide) (by decide) (by decide)
  · skip
    have n_5 : (inB (s) (nI 0) (nI 3)) = true := b2_t c_5
    first | rw [ifT n_5] | rw [ifF n_5] | skip
    obtain ⟨k, h_k, rfl⟩ := inB_n (by decide) n_5
    have e_k : toN (nI k) = k := toN_nI (by omega)
    try simp only [e_k]
    refine r_iload_n 3 dX0_move_8 rfl rfl ?_
    refine r_callS_1 dX0_move_9 kX0_255 (X_isSheet (v := t))  rfl rfl (Nat.le_of_ble_eq_true rfl) ?_
    refine r_if_eq 19 dX0_move_12 (by decide) (fun c_12 => ?_) (fun c_12 => ?_)
    · skip
      have n_12 : (inB (t) (nI 0) (nI 3)) = false := b2_f c_12
      first | rw [ifT n_12] | rw [ifF n_12] | skip
      refine r_iconst (v := nI 0) dX0_move_19 rfl ?_
      refine r_iconst (v := nI 1) dX0_move_20 rfl ?_
      refine r_need0 dX0_move_21 rfl (by exact hx) (Nat.le_of_ble_eq_true rfl) ?_
      refine t_catch [] (0, 152, 153, 8) [] (hx).s22 rfl rfl (fun z hz => by cases hz) rfl (by decide) q126 q128 ?_
      refine r_astore dX0_move_153 (by decide) rfl rfl ?_
      refine gG_ls (ls' := [_, _, _, _, _, _, _, _, _, _]) rfl ?_
      refine r_aload_n 0 dX0_move_155 rfl rfl rfl ?_
      refine r_aload dX0_move_156 rfl rfl ?_
      refine r_callV_1 dX0_move_158 kX0_131 (X_finds (k := 1) (by exact hx) (by decide)) (gRecv.of hx.s21 rfl) rfl rfl (Nat.le_of_ble_eq_true rfl) ?_
      refine e_iret dX0_move_161 rfl ?_
      exact RX.err hX FrX.r (by decide) (by decide) (by decide)
    · skip
      have n_12 : (inB (t) (nI 0) (nI 3)) = true := b2_t c_12
      first | rw [ifT n_12] | rw [ifF n_12] | skip
      obtain ⟨l, h_l, rfl⟩ := inB_n (by decide) n_12
      have e_l : toN (nI l) = l := toN_nI (by omega)
      try simp only [e_l]
      refine r_iconst (v := nI 1) dX0_move_15 rfl ?_
      refine r_goto 20 dX0_move_16 (by decide) ?_
      refine r_iconst (v := nI 1) dX0_move_20 rfl ?_
      refine r_need1 dX0_move_21 rfl (by exact hx) (Nat.le_of_ble_eq_true rfl) ?_
      refine r_aload_n 0 dX0_move_24 rfl rfl rfl ?_
      refine r_iload_n 1 dX0_move_25 rfl rfl ?_
      rcases Classical.em (S.bits k = 0) with hb0 | hb0
      · skip
        rw [iP hb0]
        refine r_sheetAt_n rfl dX0_move_26 (by exact hx) (by omega) (hX.nosh (by omega) hb0) (Nat.le_of_ble_eq_true rfl) ?_
        refine t_catch [] (0, 152, 153, 8) [] (hx).s22 rfl rfl (fun z hz => by cases hz) rfl (by decide) q126 q128 ?_
        refine r_astore dX0_move_153 (by decide) rfl rfl ?_
        refine gG_ls (ls' := [_, _, _, _, _, _, _, _, _, _]) rfl ?_
        refine r_aload_n 0 dX0_move_155 rfl rfl rfl ?_
        refine r_aload dX0_move_156 rfl rfl ?_
        refine r_callV_1 dX0_move_158 kX0_131 (X_finds (k := 2) (by exact hx) (by decide)) (gRecv.of hx.s21 rfl) rfl rfl (Nat.le_of_ble_eq_true rfl) ?_
        refine e_iret dX0_move_161 rfl ?_
        exact RX.err hX FrX.r (by decide) (by decide) (by decide)
      · skip
        rw [iN hb0]
        obtain ⟨a, A, t9, z1, s1, so, sz1, z40, sv⟩ := hX.sat (s := k) (by omega) hb0
        have ha := so.1
        refine r_sheetAt_s rfl dX0_move_26 (by exact hx) (by omega) s1 so (Nat.le_of_ble_eq_true rfl) ?_
        refine r_astore dX0_move_29 (by decide) rfl rfl ?_
        refine gG_ls (ls' := [_, _, _, _, _, _, _, _, _, _]) rfl ?_
        refine r_aload_n 0 dX0_move_31 rfl rfl rfl ?_
        refine r_iload_n 3 dX0_move_32 rfl rfl ?_
        rcases Classical.em (S.bits l = 0) with hb02 | hb02
        · skip
          rw [iP hb02]
          refine r_sheetAt_n rfl dX0_move_33 (by exact hx) (by omega) (hX.nosh (by omega) hb02) (Nat.le_of_ble_eq_true rfl) ?_
          refine t_catch [] (0, 152, 153, 8) [] (hx).s22 rfl rfl (fun z hz => by cases hz) rfl (by decide) q126 q128 ?_
          refine r_astore dX0_move_153 (by decide) rfl rfl ?_
          refine gG_ls (ls' := [_, _, _, _, _, _, _, _, _, _]) rfl ?_
          refine r_aload_n 0 dX0_move_155 rfl rfl rfl ?_
          refine r_aload dX0_move_156 rfl rfl ?_
          refine r_callV_1 dX0_move_158 kX0_131 (X_finds (k := 2) (by exact hx) (by decide)) (gRecv.of hx.s21 rfl) rfl rfl (Nat.le_of_ble_eq_true rfl) ?_
          refine e_iret dX0_move_161 rfl ?_
          exact RX.err hX FrX.r (by decide) (by decide) (by decide)
        · skip
          rw [iN hb02]
          obtain ⟨a2, A2, t2, z2, s2, so2, sz2, z240, sv2⟩ := hX.sat (s := l) (by omega) hb02
          have ha2 := so2.1
          rw [sz1, sz2]
          refine r_sheetAt_s rfl dX0_move_33 (by exact hx) (by omega) s2 so2 (Nat.le_of_ble_eq_true rfl) ?_
          refine r_astore dX0_move_36 (by decide) rfl rfl ?_
          refine gG_ls (ls' := [_, _, _, _, _, _, _, _, _, _]) rfl ?_
          refine r_aload_n 0 dX0_move_38 rfl rfl rfl ?_
          refine r_aload dX0_move_39 rfl rfl ?_
          refine r_width_X0_359 rfl dX0_move_41 so (Nat.le_of_ble_eq_true rfl) ?_
          refine r_aload dX0_move_44 rfl rfl ?_
          refine r_width_X0_359 rfl dX0_move_46 so2 (Nat.le_of_ble_eq_true rfl) ?_
          refine r_icmp_ne 56 dX0_move_49 (by decide) (fun c_49 => ?_) (fun c_49 => ?_)
          · skip
            first | rw [iP c_49] | rw [iN c_49] | rw [iN (i_le_nlt c_49)] | rw [iP (i_nle c_49)] | rw [iP (i_nlt c_49)] | rw [iN (i_lt_nle c_49)] | skip
            refine r_iconst (v := nI 0) dX0_move_56 rfl ?_
            refine r_iconst (v := nI 5) dX0_move_57 rfl ?_
            refine r_need0 dX0_move_58 rfl (by exact hx) (Nat.le_of_ble_eq_true rfl) ?_
            refine t_catch [] (0, 152, 153, 8) [] (hx).s22 rfl rfl (fun z hz => by cases hz) rfl (by decide) q126 q128 ?_
            refine r_astore dX0_move_153 (by decide) rfl rfl ?_
            refine gG_ls (ls' := [_, _, _, _, _, _, _, _, _, _]) rfl ?_
            refine r_aload_n 0 dX0_move_155 rfl rfl rfl ?_
            refine r_aload dX0_move_156 rfl rfl ?_
            refine r_callV_1 dX0_move_158 kX0_131 (X_finds (k := 5) (by exact hx) (by decide)) (gRecv.of hx.s21 rfl) rfl rfl (Nat.le_of_ble_eq_true rfl) ?_
            refine e_iret dX0_move_161 rfl ?_
            exact RX.err hX FrX.r (by decide) (by decide) (by decide)
          · skip
            first | rw [iP c_49] | rw [iN c_49] | rw [iN (i_le_nlt c_49)] | rw [iP (i_nle c_49)] | rw [iP (i_nlt c_49)] | rw [iN (i_lt_nle c_49)] | skip
            have hbb := c_49
            refine r_iconst (v := nI 1) dX0_move_52 rfl ?_
            refine r_goto 57 dX0_move_53 (by decide) ?_
            refine r_iconst (v := nI 5) dX0_move_57 rfl ?_
            refine r_need1 dX0_move_58 rfl (by exact hx) (Nat.le_of_ble_eq_true rfl) ?_
            refine r_aload_n 0 dX0_move_61 rfl rfl rfl ?_
            refine r_iload dX0_move_62 rfl ?_
            refine r_if_lt 105 dX0_move_64 (by decide) (fun c_64 => ?_) (fun c_64 => ?_)
            · skip
              first | rw [iP c_64] | rw [iN c_64] | rw [iN (i_le_nlt c_64)] | rw [iP (i_nle c_64)] | rw [iP (i_nlt c_64)] | rw [iN (i_lt_nle c_64)] | skip
              refine r_iconst (v := nI 0) dX0_move_105 rfl ?_
              refine r_iconst (v := nI 1) dX0_move_106 rfl ?_
              refine r_need0 dX0_move_107 rfl (by exact hx) (Nat.le_of_ble_eq_true rfl) ?_
              refine t_catch [] (0, 152, 153, 8) [] (hx).s22 rfl rfl (fun z hz => by cases hz) rfl (by decide) q126 q128 ?_
              refine r_astore dX0_move_153 (by decide) rfl rfl ?_
              refine gG_ls (ls' := [_, _, _, _, _, _, _, _, _, _]) rfl ?_
              refine r_aload_n 0 dX0_move_155 rfl rfl rfl ?_
              refine r_aload dX0_move_156 rfl rfl ?_
              refine r_callV_1 dX0_move_158 kX0_131 (X_finds (k := 1) (by exact hx) (by decide)) (gRecv.of hx.s21 rfl) rfl rfl (Nat.le_of_ble_eq_true rfl) ?_
              refine e_iret dX0_move_161 rfl ?_
              exact RX.err hX FrX.r (by decide) (by decide) (by decide)
            · skip
              first | rw [iP c_64] | rw [iN c_64] | rw [iN (i_le_nlt c_64)] | rw [iP (i_nle c_64)] | rw [iP (i_nlt c_64)] | rw [iN (i_lt_nle c_64)] | skip
              obtain ⟨cn, h_cn, rfl⟩ := nI_of c_64
              have e_cn : toN (nI cn) = cn := toN_nI (by omega)
              try simp only [e_cn]
              refine r_iload_n 2 dX0_move_67 rfl rfl ?_
              refine r_if_lt 105 dX0_move_68 (by decide) (fun c_68 => ?_) (fun c_68 => ?_)
              · skip
                first | rw [iP c_68] | rw [iN c_68] | rw [iN (i_le_nlt c_68)] | rw [iP (i_nle c_68)] | rw [iP (i_nlt c_68)] | rw [iN (i_lt_nle c_68)] | skip
                refine r_iconst (v := nI 0) dX0_move_105 rfl ?_
                refine r_iconst (v := nI 1) dX0_move_106 rfl ?_
                refine r_need0 dX0_move_107 rfl (by exact hx) (Nat.le_of_ble_eq_true rfl) ?_
                refine t_catch [] (0, 152, 153, 8) [] (hx).s22 rfl rfl (fun z hz => by cases hz) rfl (by decide) q126 q128 ?_
                refine r_astore dX0_move_153 (by decide) rfl rfl ?_
                refine gG_ls (ls' := [_, _, _, _, _, _, _, _, _, _]) rfl ?_
                refine r_aload_n 0 dX0_move_155 rfl rfl rfl ?_
                refine r_aload dX0_move_156 rfl rfl ?_
                refine r_callV_1 dX0_move_158 kX0_131 (X_finds (k := 1) (by exact hx) (by decide)) (gRecv.of hx.s21 rfl) rfl rfl (Nat.le_of_ble_eq_true rfl) ?_
                refine e_iret dX0_move_161 rfl ?_
                exact RX.err hX FrX.r (by decide) (by decide) (by decide)
              · skip
                first | rw [iP c_68] | rw [iN c_68] | rw [iN (i_le_nlt c_68)] | rw [iP (i_nle c_68)] | rw [iP (i_nlt c_68)] | rw [iN (i_lt_nle c_68)] | skip
                obtain ⟨ci, h_ci, rfl⟩ := nI_of c_68
                have e_ci : toN (nI ci) = ci := toN_nI (by omega)
                try simp only [e_ci]
                refine r_iload dX0_move_71 rfl ?_
                refine r_if_lt 105 dX0_move_73 (by decide) (fun c_73 => ?_) (fun c_73 => ?_)
                · skip
                  first | rw [iP c_73] | rw [iN c_73] | rw [iN (i_le_nlt c_73)] | rw [iP (i_nle c_73)] | rw [iP (i_nlt c_73)] | rw [iN (i_lt_nle c_73)] | skip
                  refine r_iconst (v := nI 0) dX0_move_105 rfl ?_
                  refine r_iconst (v := nI 1) dX0_move_106 rfl ?_
                  refine r_need0 dX0_move_107 rfl (by exact hx) (Nat.le_of_ble_eq_true rfl) ?_
                  refine t_catch [] (0, 152, 153, 8) [] (hx).s22 rfl rfl (fun z hz => by cases hz) rfl (by decide) q126 q128 ?_
                  refine r_astore dX0_move_153 (by decide) rfl rfl ?_
                  refine gG_ls (ls' := [_, _, _, _, _, _, _, _, _, _]) rfl ?_
                  refine r_aload_n 0 dX0_move_155 rfl rfl rfl ?_
                  refine r_aload dX0_move_156 rfl rfl ?_
                  refine r_callV_1 dX0_move_158 kX0_131 (X_finds (k := 1) (by exact hx) (by decide)) (gRecv.of hx.s21 rfl) rfl rfl (Nat.le_of_ble_eq_true rfl) ?_
                  refine e_iret dX0_move_161 rfl ?_
                  exact RX.err hX FrX.r (by decide) (by decide) (by decide)
                · skip
                  first | rw [iP c_73] | rw [iN c_73] | rw [iN (i_le_nlt c_73)] | rw [iP (i_nle c_73)] | rw [iP (i_nlt c_73)] | rw [iN (i_lt_nle c_73)] | skip
                  obtain ⟨cj, h_cj, rfl⟩ := nI_of c_73
                  have e_cj : toN (nI cj) = cj := toN_nI (by omega)
                  try simp only [e_cj]
                  refine r_iload_n 2 dX0_move_76 rfl rfl ?_
                  refine r_aload dX0_move_77 rfl rfl ?_
                  refine r_size_X0_234 rfl dX0_move_79 so (Nat.le_of_ble_eq_true rfl) ?_
                  refine r_iload dX0_move_82 rfl ?_
                  refine r_isub dX0_move_84 ?_
                  refine r_icmp_gt 105 dX0_move_85 (by decide) (fun c_85 => ?_) (fun c_85 => ?_)
                  · skip
                    first | rw [iP c_85] | rw [iN c_85] | rw [iN (i_le_nlt c_85)] | rw [iP (i_nle c_85)] | rw [iP (i_nlt c_85)] | rw [iN (i_lt_nle c_85)] | skip
                    refine r_iconst (v := nI 0) dX0_move_105 rfl ?_
                    refine r_iconst (v := nI 1) dX0_move_106 rfl ?_
                    refine r_need0 dX0_move_107 rfl (by exact hx) (Nat.le_of_ble_eq_true rfl) ?_
                    refine t_catch [] (0, 152, 153, 8) [] (hx).s22 rfl rfl (fun z hz => by cases hz) rfl (by decide) q126 q128 ?_
                    refine r_astore dX0_move_153 (by decide) rfl rfl ?_
                    refine gG_ls (ls' := [_, _, _, _, _, _, _, _, _, _]) rfl ?_
                    refine r_aload_n 0 dX0_move_155 rfl rfl rfl ?_
                    refine r_aload dX0_move_156 rfl rfl ?_
                    refine r_callV_1 dX0_move_158 kX0_131 (X_finds (k := 1) (by exact hx) (by decide)) (gRecv.of hx.s21 rfl) rfl rfl (Nat.le_of_ble_eq_true rfl) ?_
                    refine e_iret dX0_move_161 rfl ?_
                    exact RX.err hX FrX.r (by decide) (by decide) (by decide)
                  · skip
                    first | rw [iP c_85] | rw [iN c_85] | rw [iN (i_le_nlt c_85)] | rw [iP (i_nle c_85)] | rw [iP (i_nlt c_85)] | rw [iN (i_lt_nle c_85)] | skip
                    have hb1 : ci + cn ≤ z1 := i_sub (by omega) (by omega) (by omega) c_85
                    refine r_iload dX0_move_88 rfl ?_
                    refine r_aload dX0_move_90 rfl rfl ?_
                    refine r_size_X0_234 rfl dX0_move_92 so2 (Nat.le_of_ble_eq_true rfl) ?_
                    refine r_iload dX0_move_95 rfl ?_
                    refine r_isub dX0_move_97 ?_
                    refine r_icmp_gt 105 dX0_move_98 (by decide) (fun c_98 => ?_) (fun c_98 => ?_)
                    · skip
                      first | rw [iP c_98] | rw [iN c_98] | rw [iN (i_le_nlt c_98)] | rw [iP (i_nle c_98)] | rw [iP (i_nlt c_98)] | rw [iN (i_lt_nle c_98)] | skip
                      refine r_iconst (v := nI 0) dX0_move_105 rfl ?_
                      refine r_iconst (v := nI 1) dX0_move_106 rfl ?_
                      refine r_need0 dX0_move_107 rfl (by exact hx) (Nat.le_of_ble_eq_true rfl) ?_
                      refine t_catch [] (0, 152, 153, 8) [] (hx).s22 rfl rfl (fun z hz => by cases hz) rfl (by decide) q126 q128 ?_
                      refine r_astore dX0_move_153 (by decide) rfl rfl ?_
                      refine gG_ls (ls' := [_, _, _, _, _, _, _, _, _, _]) rfl ?_
                      refine r_aload_n 0 dX0_move_155 rfl rfl rfl ?_
                      refine r_aload dX0_move_156 rfl rfl ?_
                      refine r_callV_1 dX0_move_158 kX0_131 (X_finds (k := 1) (by exact hx) (by decide)) (gRecv.of hx.s21 rfl) rfl rfl (Nat.le_of_ble_eq_true rfl) ?_
                      refine e_iret dX0_move_161 rfl ?_
                      exact RX.err hX FrX.r (by decide) (by decide) (by decide)
                    · skip
                      first | rw [iP c_98] | rw [iN c_98] | rw [iN (i_le_nlt c_98)] | rw [iP (i_nle c_98)] | rw [iP (i_nlt c_98)] | rw [iN (i_lt_nle c_98)] | skip
                      have hb2 : cj + cn ≤ z2 := i_sub (by omega) (by omega) (by omega) c_98
                      refine r_iconst (v := nI 1) dX0_move_101 rfl ?_
                      refine r_goto 106 dX0_move_102 (by decide) ?_
                      refine r_iconst (v := nI 1) dX0_move_106 rfl ?_
                      refine r_need1 dX0_move_107 rfl (by exact hx) (Nat.le_of_ble_eq_true rfl) ?_
                      refine r_aload dX0_move_110 rfl rfl ?_
                      refine gG_w (mc := 0 + 1) (ms := 0 + 40) (by omega) (by omega) ?_
                      refine r_row_X0_362 rfl dX0_move_112 so (Nat.le_of_ble_eq_true rfl) ?_
                      have x1 : CX (bI (hM h (.inr (0, z1))) (hN h) (cpG (hI h A) z1)) S := hX.fr FrC.hm
                      obtain ⟨a3, A3, t3, z3, ⟨s3, so3, sz3, z340, sv3⟩, hput⟩ := x1.puts (s := l) (by omega) hb02
                      have ea : a3 = a2 := by have q1 : hR h (62 + l) 0 = some a3 := (congrFun (hM_R (x := .inr (0, z1)) (show 62 + l ≠ hN h by have := hX.hN; omega)) 0).symm.trans s3; rw [s2] at q1; cases q1; rfl
                      subst ea
                      have eA : A3 = A2 := by have q1 : hR h a3 0 = some A3 := (congrFun (hM_R (x := .inr (0, z1)) (show a3 ≠ hN h by have := so2.2.1; omega)) 0).symm.trans so3.2.2.1; rw [so2.2.2.1] at q1; cases q1; rfl
                      subst eA
                      have ez : z3 = z2 := by rw [sz2] at sz3; exact (n_eq (by omega) (by omega) sz3).symm
                      subst ez
                      refine r_astore dX0_move_115 (by decide) rfl rfl ?_
                      refine gG_ls (ls' := [_, _, _, _, _, _, _, _, _, _]) rfl ?_
                      refine r_iconst (v := nI 0) dX0_move_117 rfl ?_
                      refine r_istore dX0_move_118 (by decide) rfl ?_
                      refine gG_ls (ls' := [_, _, _, _, _, _, _, _, _, _]) rfl ?_
                      refine gG_h (bI_self (F := pwF (hI (bI (hM h (.inr (0, z1))) (hN h) (cpG (hI h A) z1)) A3) (fun q => S.sheets (40 * k + ci + q)) cj 0) rfl) ?_
                      refine X_move_L hX w (by omega) (by omega) so so2 z40 z240 sv hb1 hb2 (fun i hi => by rw [← hbb]; exact hnar k (by omega) i (by rw [sz1, toN_nI (by omega)]; exact hi)) (cn + 1) 0 (by omega) (by omega) ?_
                      refine r_iload dX0_move_150 rfl ?_
                      refine e_iret dX0_move_152 rfl ?_
                      exact ⟨rfl, hput _ _ (fun i hi => pwF_mv (fun q hq => rfl) cn (Nat.le_refl _) i (fun j hj => sv3 j (by omega))) (fun j hj => mvF_n cn (by omega)), (FrX.hm hX.hN).t (FrX.b (by have := so2.2.2.2.1; omega))⟩
