theorem Z21_init {d : Nat} {h : Hp} {b : Nat} (hb : 21 ≤ b) : gC (d + 1) (0) (0) m_X21_init [.ref b] (h) (Ret none h) := by
  refine gC.of (ls := [some (.ref b)]) (by decide +kernel) rfl rfl rfl rfl (Nat.le_of_ble_eq_true rfl) ?_
  refine r_aload_n 0 dX21_init_0 rfl rfl rfl ?_
  refine r_objInit dX21_init_1 kX21_1 kO_i kO_c hb (by decide) ?_
  refine e_vret dX21_init_4 rfl ?_
  exact ⟨rfl, rfl⟩
theorem ZX22_init {d : Nat} {h : Hp} {b z : Nat} (hs : hS h b = .inl 22) (h21 : 21 ≤ b) (hlt : b < hN h) (hz : z ≤ 40) : gC (d + 2) (1) (40) m_X22_init [.ref b, .int (nI z)] (h) (Ret none (wR (hM h (.inr (1, z))) b 0 (some (hN h)))) := by
  refine gC.of (ls := [some (.ref b), some (.int (nI z))]) (by decide +kernel) rfl rfl rfl rfl (Nat.le_of_ble_eq_true rfl) ?_
  refine r_aload_n 0 dX22_init_0 rfl rfl rfl ?_
  refine r_callIN_0 dX22_init_1 kX22_1 (Z21_init h21) (by omega) rfl rfl (Nat.le_of_ble_eq_true rfl) ?_
  refine r_aload_n 0 dX22_init_4 rfl rfl rfl ?_
  refine r_iload_n 1 dX22_init_5 rfl rfl ?_
  refine gG_w (mc := 0 + 1) (ms := 0 + z) (by omega) (by omega) ?_
  refine r_newa_byte (z) dX22_init_6 q217 (nI_pos (by omega)) (nI_clamp (by omega)) (by omega) ?_
  refine r_putr (k := 0) (some ((hN h))) dX22_init_8 ((hM_S (by omega)).trans hs) rfl (by decide) (Or.inl q1319) (Or.inl rfl) (Or.inr ⟨rfl, rfl, rfl, q1319⟩) rfl rfl ?_
  refine e_vret dX22_init_11 rfl ?_
  exact ⟨rfl, rfl⟩
theorem ZX23_init {d : Nat} {h : Hp} {b z : Nat} (hs : hS h b = .inl 23) (h21 : 21 ≤ b) (hlt : b < hN h) (hz : z ≤ 40) : gC (d + 2) (1) (40) m_X23_init [.ref b, .int (nI z)] (h) (Ret none (wR (hM h (.inr (2, z))) b 0 (some (hN h)))) := by
  refine gC.of (ls := [some (.ref b), some (.int (nI z))]) (by decide +kernel) rfl rfl rfl rfl (Nat.le_of_ble_eq_true rfl) ?_
  refine r_aload_n 0 dX23_init_0 rfl rfl rfl ?_
  refine r_callIN_0 dX23_init_1 kX23_1 (Z21_init h21) (by omega) rfl rfl (Nat.le_of_ble_eq_true rfl) ?_
  refine r_aload_n 0 dX23_init_4 rfl rfl rfl ?_
  refine r_iload_n 1 dX23_init_5 rfl rfl ?_
  refine gG_w (mc := 0 + 1) (ms := 0 + z) (by omega) (by omega) ?_
  refine r_newa_short (z) dX23_init_6 q1333 (nI_pos (by omega)) (nI_clamp (by omega)) (by omega) ?_
  refine r_putr (k := 0) (some ((hN h))) dX23_init_8 ((hM_S (by omega)).trans hs) rfl (by decide) (Or.inl q1329) (Or.inl rfl) (Or.inr ⟨rfl, rfl, rfl, q1329⟩) rfl rfl ?_
  refine e_vret dX23_init_11 rfl ?_
  exact ⟨rfl, rfl⟩
theorem ZX24_init {d : Nat} {h : Hp} {b z : Nat} (hs : hS h b = .inl 24) (h21 : 21 ≤ b) (hlt : b < hN h) (hz : z ≤ 40) : gC (d + 2) (1) (40) m_X24_init [.ref b, .int (nI z)] (h) (Ret none (wR (hM h (.inr (0, z))) b 0 (some (hN h)))) := by
  refine gC.of (ls := [some (.ref b), some (.int (nI z))]) (by decide +kernel) rfl rfl rfl rfl (Nat.le_of_ble_eq_true rfl) ?_
  refine r_aload_n 0 dX24_init_0 rfl rfl rfl ?_
  refine r_callIN_0 dX24_init_1 kX24_1 (Z21_init h21) (by omega) rfl rfl (Nat.le_of_ble_eq_true rfl) ?_
  refine r_aload_n 0 dX24_init_4 rfl rfl rfl ?_
  refine r_iload_n 1 dX24_init_5 rfl rfl ?_
  refine gG_w (mc := 0 + 1) (ms := 0 + z) (by omega) (by omega) ?_
  refine r_newa_int (z) dX24_init_6 q216 (nI_pos (by omega)) (nI_clamp (by omega)) (by omega) ?_
  refine r_putr (k := 0) (some ((hN h))) dX24_init_8 ((hM_S (by omega)).trans hs) rfl (by decide) (Or.inl q1340) (Or.inl rfl) (Or.inr ⟨rfl, rfl, rfl, q1340⟩) rfl rfl ?_
  refine e_vret dX24_init_11 rfl ?_
  exact ⟨rfl, rfl⟩
theorem X_isWidth {d : Nat} {h : Hp} {b : Int32} : gC (d) (0) (0) m_X0_isWidth [.int b] (h) (Ret (some (.int (b2 (w3B b)))) h) := by
  refine gC.of (ls := [some (.int b)]) (by decide +kernel) rfl rfl rfl rfl (Nat.le_of_ble_eq_true rfl) ?_
  refine r_iload_n 0 dX0_isWidth_0 rfl rfl ?_
  refine r_bipush (v := nI 8) dX0_isWidth_1 (by decide +kernel) ?_
  refine r_icmp_eq 18 dX0_isWidth_3 (by decide) (fun c_3 => ?_) (fun c_3 => ?_)
  · skip
    refine r_iconst (v := nI 1) dX0_isWidth_18 rfl ?_
    refine r_goto 23 dX0_isWidth_19 (by decide) ?_
    refine e_zret dX0_isWidth_23 rfl (by decide) ?_
    exact ⟨by rw [show w3B b = true from by unfold w3B; rw [decide_eq_true c_3]; rfl]; rfl, rfl⟩
  · skip
    refine r_iload_n 0 dX0_isWidth_6 rfl rfl ?_
    refine r_bipush (v := nI 16) dX0_isWidth_7 (by decide +kernel) ?_
    refine r_icmp_eq 18 dX0_isWidth_9 (by decide) (fun c_9 => ?_) (fun c_9 => ?_)
    · skip
      refine r_iconst (v := nI 1) dX0_isWidth_18 rfl ?_
      refine r_goto 23 dX0_isWidth_19 (by decide) ?_
      refine e_zret dX0_isWidth_23 rfl (by decide) ?_
      exact ⟨by rw [show w3B b = true from by unfold w3B; rw [decide_eq_true c_9, Bool.or_true]; rfl]; rfl, rfl⟩
    · skip
      refine r_iload_n 0 dX0_isWidth_12 rfl rfl ?_
      refine r_bipush (v := nI 32) dX0_isWidth_13 (by decide +kernel) ?_
      refine r_icmp_ne 22 dX0_isWidth_15 (by decide) (fun c_15 => ?_) (fun c_15 => ?_)
      · skip
        refine r_iconst (v := nI 0) dX0_isWidth_22 rfl ?_
        refine e_zret dX0_isWidth_23 rfl (by decide) ?_
        exact ⟨by rw [show w3B b = false from by unfold w3B; rw [decide_eq_false c_3, decide_eq_false c_9, decide_eq_false c_15]; rfl]; rfl, rfl⟩
      · skip
        refine r_iconst (v := nI 1) dX0_isWidth_18 rfl ?_
        refine r_goto 23 dX0_isWidth_19 (by decide) ?_
        refine e_zret dX0_isWidth_23 rfl (by decide) ?_
        exact ⟨by rw [show w3B b = true from by unfold w3B; rw [decide_eq_true c_15, Bool.or_true]]; rfl, rfl⟩
theorem X_sheet {d : Nat} {h : Hp} {S : MSt} (hX : CX h S) (w : WF S.r) {s b n : Int32} : gC (d + 5) (2) (50) m_X0_sheet [.ref 21, .int s, .int b, .int n] (h) (RX h (aSheet S s b n)) := by
  have e_0 : aSheet S s b n = (if inB s (nI 0) (nI 3) = true then (if widB b = true then (if b = 0 then okS S (toN s) b n else if n < 0 then errA S (-1000000003) 3 else if nI 40 < n then errA S (-1000000001) 1 else okS S (toN s) b n) else errA S (-1000000001) 1) else errA S (-1000000001) 1) := rfl
  rw [e_0]
  have hn8 := w.n8
  have hx := hX.hx
  have hl := hX.hl
  have hb : 21 ≤ 23 ∧ 23 + 10 < 78 := by decide
  have hn : S.r 2 = nI (np S.r) := w.n
  have lw := hX.lw
  have Vr := w.V
  have K := w.K
  refine gC.ofH (ls := [some (.ref 21), some (.int s), some (.int b), some (.int n), none]) (by decide +kernel) rfl rfl rfl rfl (Nat.le_of_ble_eq_true rfl) ?_
  refine r_aload_n 0 dX0_sheet_0 rfl rfl rfl ?_
  refine r_iload_n 1 dX0_sheet_1 rfl rfl ?_
  refine r_callS_1 dX0_sheet_2 kX0_255 (X_isSheet (v := s))  rfl rfl (Nat.le_of_ble_eq_true rfl) ?_
  refine r_if_eq 23 dX0_sheet_5 (by decide) (fun c_5 => ?_) (fun c_5 => ?_)
  · skip
    have n_5 : (inB (s) (nI 0) (nI 3)) = false := b2_f c_5
    first | rw [ifT n_5] | rw [ifF n_5] | skip
    refine r_iconst (v := nI 0) dX0_sheet_23 rfl ?_
    refine r_iconst (v := nI 1) dX0_sheet_24 rfl ?_
    refine r_need0 dX0_sheet_25 rfl (by exact hx) (Nat.le_of_ble_eq_true rfl) ?_
    refine t_catch [] (0, 43, 127, 8) [(44, 126, 127, 8)] (hx).s22 rfl rfl (fun z hz => by cases hz) rfl (by decide) q126 q128 ?_
    refine r_astore dX0_sheet_127 (by decide) rfl rfl ?_
    refine gG_ls (ls' := [_, _, _, _, _]) rfl ?_
    refine r_aload_n 0 dX0_sheet_129 rfl rfl rfl ?_
    refine r_aload dX0_sheet_130 rfl rfl ?_
    refine r_callV_1 dX0_sheet_132 kX0_131 (X_finds (k := 1) (by exact hx) (by decide)) (gRecv.of hx.s21 rfl) rfl rfl (Nat.le_of_ble_eq_true rfl) ?_
    refine e_iret dX0_sheet_135 rfl ?_
    exact RX.err hX FrX.r (by decide) (by decide) (by decide)
  · skip
    have n_5 : (inB (s) (nI 0) (nI 3)) = true := b2_t c_5
    first | rw [ifT n_5] | rw [ifF n_5] | skip
    obtain ⟨k, h_k, rfl⟩ := inB_n (by decide) n_5
    have e_k : toN (nI k) = k := toN_nI (by omega)
    try simp only [e_k]
    refine r_iload_n 2 dX0_sheet_8 rfl rfl ?_
    refine r_if_eq 19 dX0_sheet_9 (by decide) (fun c_9 => ?_) (fun c_9 => ?_)
    · skip
      first | rw [iP c_9] | rw [iN c_9] | rw [iN (i_le_nlt c_9)] | rw [iP (i_nle c_9)] | rw [iP (i_nlt c_9)] | rw [iN (i_lt_nle c_9)] | skip
      subst c_9
      rw [ifT (show widB 0 = true from rfl)]
      refine r_iconst (v := nI 1) dX0_sheet_19 rfl ?_
      refine r_goto 24 dX0_sheet_20 (by decide) ?_
      refine r_iconst (v := nI 1) dX0_sheet_24 rfl ?_
      refine r_need1 dX0_sheet_25 rfl (by exact hx) (Nat.le_of_ble_eq_true rfl) ?_
      refine r_iload_n 2 dX0_sheet_28 rfl rfl ?_
      refine r_if_ne 44 dX0_sheet_29 (by decide) (fun c_29 => ?_) (fun c_29 => ?_)
      · skip
        first | rw [iP c_29] | rw [iN c_29] | rw [iN (i_le_nlt c_29)] | rw [iP (i_nle c_29)] | rw [iP (i_nlt c_29)] | rw [iN (i_lt_nle c_29)] | skip
        exact absurd rfl c_29
      · skip
        first | rw [iP c_29] | rw [iN c_29] | rw [iN (i_le_nlt c_29)] | rw [iP (i_nle c_29)] | rw [iP (i_nlt c_29)] | rw [iN (i_lt_nle c_29)] | skip
        refine r_aload_n 0 dX0_sheet_32 rfl rfl rfl ?_
        refine r_getr (k := 7) (b := 59) dX0_sheet_33 hx.s21 rfl (by decide) (Or.inl q312) (Or.inl rfl) rfl hx.r_sheets ?_
        refine r_iload_n 1 dX0_sheet_36 rfl rfl ?_
        refine r_aaldN (k) (b := (62 + k)) dX0_sheet_37 hx.s59 (by decide) rfl (by omega) (by decide) (hx.shs (by omega)).2 (by omega) ?_
        refine r_null dX0_sheet_38 ?_
        refine r_putr (k := 0) (none) dX0_sheet_39 (hx.shs (by omega)).1 rfl (by decide) (Or.inr ⟨_, q300⟩) (Or.inl rfl) (Or.inl rfl) rfl rfl ?_
        refine r_iconst (v := nI 1) dX0_sheet_42 rfl ?_
        refine e_iret dX0_sheet_43 rfl ?_
        exact ⟨rfl, cx_nosheet hX (by omega), FrX.wr (by omega)⟩
    · skip
      first | rw [iP c_9] | rw [iN c_9] | rw [iN (i_le_nlt c_9)] | rw [iP (i_nle c_9)] | rw [iP (i_nlt c_9)] | rw [iN (i_lt_nle c_9)] | skip
      rw [widB_w c_9]
      refine r_iload_n 2 dX0_sheet_12 rfl rfl ?_
      refine r_callS_1 dX0_sheet_13 kX0_342 (X_isWidth (b := b))  rfl rfl (Nat.le_of_ble_eq_true rfl) ?_
      refine r_if_eq 23 dX0_sheet_16 (by decide) (fun c_16 => ?_) (fun c_16 => ?_)
      · skip
        have n_16 : (w3B b) = false := b2_f c_16
        first | rw [ifT n_16] | rw [ifF n_16] | skip
        refine r_iconst (v := nI 0) dX0_sheet_23 rfl ?_
        refine r_iconst (v := nI 1) dX0_sheet_24 rfl ?_
        refine r_need0 dX0_sheet_25 rfl (by exact hx) (Nat.le_of_ble_eq_true rfl) ?_
        refine t_catch [] (0, 43, 127, 8) [(44, 126, 127, 8)] (hx).s22 rfl rfl (fun z hz => by cases hz) rfl (by decide) q126 q128 ?_
        refine r_astore dX0_sheet_127 (by decide) rfl rfl ?_
        refine gG_ls (ls' := [_, _, _, _, _]) rfl ?_
        refine r_aload_n 0 dX0_sheet_129 rfl rfl rfl ?_
        refine r_aload dX0_sheet_130 rfl rfl ?_
        refine r_callV_1 dX0_sheet_132 kX0_131 (X_finds (k := 1) (by exact hx) (by decide)) (gRecv.of hx.s21 rfl) rfl rfl (Nat.le_of_ble_eq_true rfl) ?_
        refine e_iret dX0_sheet_135 rfl ?_
        exact RX.err hX FrX.r (by decide) (by decide) (by decide)
      · skip
        have n_16 : (w3B b) = true := b2_t c_16
        first | rw [ifT n_16] | rw [ifF n_16] | skip
        refine r_iconst (v := nI 1) dX0_sheet_19 rfl ?_
        refine r_goto 24 dX0_sheet_20 (by decide) ?_
        refine r_iconst (v := nI 1) dX0_sheet_24 rfl ?_
        refine r_need1 dX0_sheet_25 rfl (by exact hx) (Nat.le_of_ble_eq_true rfl) ?_
        refine r_iload_n 2 dX0_sheet_28 rfl rfl ?_
        refine r_if_ne 44 dX0_sheet_29 (by decide) (fun c_29 => ?_) (fun c_29 => ?_)
        · skip
          first | rw [iP c_29] | rw [iN c_29] | rw [iN (i_le_nlt c_29)] | rw [iP (i_nle c_29)] | rw [iP (i_nlt c_29)] | rw [iN (i_lt_nle c_29)] | skip
          refine r_aload_n 0 dX0_sheet_44 rfl rfl rfl ?_
          refine r_iload_n 3 dX0_sheet_45 rfl rfl ?_
          refine r_if_lt 53 dX0_sheet_46 (by decide) (fun c_46 => ?_) (fun c_46 => ?_)
          · skip
            first | rw [iP c_46] | rw [iN c_46] | rw [iN (i_le_nlt c_46)] | rw [iP (i_nle c_46)] | rw [iP (i_nlt c_46)] | rw [iN (i_lt_nle c_46)] | skip
            refine r_iconst (v := nI 0) dX0_sheet_53 rfl ?_
            refine r_iconst (v := nI 3) dX0_sheet_54 rfl ?_
            refine r_need0 dX0_sheet_55 rfl (by exact hx) (Nat.le_of_ble_eq_true rfl) ?_
            refine t_catch [(0, 43, 127, 8)] (44, 126, 127, 8) [] (hx).s22 rfl rfl (fun z hz => by simp only [List.mem_cons, List.not_mem_nil, or_false] at hz; subst hz; exact Or.inl rfl) rfl (by decide) q126 q128 ?_
            refine r_astore dX0_sheet_127 (by decide) rfl rfl ?_
            refine gG_ls (ls' := [_, _, _, _, _]) rfl ?_
            refine r_aload_n 0 dX0_sheet_129 rfl rfl rfl ?_
            refine r_aload dX0_sheet_130 rfl rfl ?_
            refine r_callV_1 dX0_sheet_132 kX0_131 (X_finds (k := 3) (by exact hx) (by decide)) (gRecv.of hx.s21 rfl) rfl rfl (Nat.le_of_ble_eq_true rfl) ?_
            refine e_iret dX0_sheet_135 rfl ?_
            exact RX.err hX FrX.r (by decide) (by decide) (by decide)
          · skip
            first | rw [iP c_46] | rw [iN c_46] | rw [iN (i_le_nlt c_46)] | rw [iP (i_nle c_46)] | rw [iP (i_nlt c_46)] | rw [iN (i_lt_nle c_46)] | skip
            refine r_iconst (v := nI 1) dX0_sheet_49 rfl ?_
            refine r_goto 54 dX0_sheet_50 (by decide) ?_
            refine r_iconst (v := nI 3) dX0_sheet_54 rfl ?_
            refine r_need1 dX0_sheet_55 rfl (by exact hx) (Nat.le_of_ble_eq_true rfl) ?_
            refine r_aload_n 0 dX0_sheet_58 rfl rfl rfl ?_
            refine r_iload_n 3 dX0_sheet_59 rfl rfl ?_
            refine r_bipush (v := nI 40) dX0_sheet_60 (by decide +kernel) ?_
            refine r_icmp_gt 69 dX0_sheet_62 (by decide) (fun c_62 => ?_) (fun c_62 => ?_)
            · skip
              first | rw [iP c_62] | rw [iN c_62] | rw [iN (i_le_nlt c_62)] | rw [iP (i_nle c_62)] | rw [iP (i_nlt c_62)] | rw [iN (i_lt_nle c_62)] | skip
              refine r_iconst (v := nI 0) dX0_sheet_69 rfl ?_
              refine r_iconst (v := nI 1) dX0_sheet_70 rfl ?_
              refine r_need0 dX0_sheet_71 rfl (by exact hx) (Nat.le_of_ble_eq_true rfl) ?_
              refine t_catch [(0, 43, 127, 8)] (44, 126, 127, 8) [] (hx).s22 rfl rfl (fun z hz => by simp only [List.mem_cons, List.not_mem_nil, or_false] at hz; subst hz; exact Or.inl rfl) rfl (by decide) q126 q128 ?_
              refine r_astore dX0_sheet_127 (by decide) rfl rfl ?_
              refine gG_ls (ls' := [_, _, _, _, _]) rfl ?_
              refine r_aload_n 0 dX0_sheet_129 rfl rfl rfl ?_
              refine r_aload dX0_sheet_130 rfl rfl ?_
              refine r_callV_1 dX0_sheet_132 kX0_131 (X_finds (k := 1) (by exact hx) (by decide)) (gRecv.of hx.s21 rfl) rfl rfl (Nat.le_of_ble_eq_true rfl) ?_
              refine e_iret dX0_sheet_135 rfl ?_
              exact RX.err hX FrX.r (by decide) (by decide) (by decide)
            · skip
              first | rw [iP c_62] | rw [iN c_62] | rw [iN (i_le_nlt c_62)] | rw [iP (i_nle c_62)] | rw [iP (i_nlt c_62)] | rw [iN (i_lt_nle c_62)] | skip
              obtain ⟨z, hz31, rfl⟩ := nI_of (i_le_nlt (i_nlt c_46))
              have hz40 : z ≤ 40 := n_gtn (by omega) (by decide) c_62
              refine r_iconst (v := nI 1) dX0_sheet_65 rfl ?_
              refine r_goto 70 dX0_sheet_66 (by decide) ?_
              refine r_iconst (v := nI 1) dX0_sheet_70 rfl ?_
              refine r_need1 dX0_sheet_71 rfl (by exact hx) (Nat.le_of_ble_eq_true rfl) ?_
              refine r_aload_n 0 dX0_sheet_74 rfl rfl rfl ?_
              refine r_getr (k := 7) (b := 59) dX0_sheet_75 hx.s21 rfl (by decide) (Or.inl q312) (Or.inl rfl) rfl hx.r_sheets ?_
              refine r_iload_n 1 dX0_sheet_78 rfl rfl ?_
              refine r_aaldN (k) (b := (62 + k)) dX0_sheet_79 hx.s59 (by decide) rfl (by omega) (by decide) (hx.shs (by omega)).2 (by omega) ?_
              refine r_iload_n 2 dX0_sheet_80 rfl rfl ?_
              refine r_bipush (v := nI 8) dX0_sheet_81 (by decide +kernel) ?_
              refine r_icmp_ne 97 dX0_sheet_83 (by decide) (fun c_83 => ?_) (fun c_83 => ?_)
              · skip
                first | rw [iP c_83] | rw [iN c_83] | rw [iN (i_le_nlt c_83)] | rw [iP (i_nle c_83)] | rw [iP (i_nlt c_83)] | rw [iN (i_lt_nle c_83)] | skip
                refine r_iload_n 2 dX0_sheet_97 rfl rfl ?_
                refine r_bipush (v := nI 16) dX0_sheet_98 (by decide +kernel) ?_
                refine r_icmp_ne 114 dX0_sheet_100 (by decide) (fun c_100 => ?_) (fun c_100 => ?_)
                · skip
                  first | rw [iP c_100] | rw [iN c_100] | rw [iN (i_le_nlt c_100)] | rw [iP (i_nle c_100)] | rw [iP (i_nlt c_100)] | rw [iN (i_lt_nle c_100)] | skip
                  have e32 := w3B_is n_16 c_83 c_100
                  subst e32
                  refine gG_w (mc := 1 + 1) (ms := 40 + 1) (by omega) (by omega) ?_
                  refine r_new (ci := 24) dX0_sheet_114 rfl (by decide) q1334 q1335 q117 ?_
                  refine r_dup dX0_sheet_117 rfl ?_
                  refine r_iload_n 3 dX0_sheet_118 rfl rfl ?_
                  refine r_callI_0c (mc := 0) (ms := 0) (mc1 := 1) (ms1 := 40) dX0_sheet_119 kX0_355 (ZX24_init (z := z) hM_Sn (by have := hX.hN; omega) (by show hN h < hN h + 1; omega) (by omega)) (by have := hX.hN; omega) rfl rfl (Nat.le_of_ble_eq_true rfl) ?_
                  refine r_putr (k := 0) (some (hN h)) dX0_sheet_122 ((hM_S (x := .inr (0, z)) (h := hM h (.inl 24)) (show 62 + k ≠ hN h + 1 by have := hX.hN; omega)).trans ((hM_S (by have := hX.hN; omega)).trans (hx.shs (by omega)).1)) rfl (by decide) (Or.inr ⟨_, q300⟩) (Or.inl rfl) (Or.inl rfl) rfl rfl ?_
                  refine gG_h (show _ = nsH h k 24 0 z from rfl) ?_
                  refine r_iconst (v := nI 1) dX0_sheet_125 rfl ?_
                  refine e_iret dX0_sheet_126 rfl ?_
                  exact ⟨rfl, cx_newsheet hX (by omega) (by omega) (Or.inr (Or.inr ⟨rfl, rfl, rfl⟩)), FrX.ns hX.hN (by omega)⟩
                · skip
                  first | rw [iP c_100] | rw [iN c_100] | rw [iN (i_le_nlt c_100)] | rw [iP (i_nle c_100)] | rw [iP (i_nlt c_100)] | rw [iN (i_lt_nle c_100)] | skip
                  subst c_100
                  refine gG_w (mc := 1 + 1) (ms := 40 + 1) (by omega) (by omega) ?_
                  refine r_new (ci := 23) dX0_sheet_103 rfl (by decide) q1323 q1324 q116 ?_
                  refine r_dup dX0_sheet_106 rfl ?_
                  refine r_iload_n 3 dX0_sheet_107 rfl rfl ?_
                  refine r_callI_0c (mc := 0) (ms := 0) (mc1 := 1) (ms1 := 40) dX0_sheet_108 kX0_352 (ZX23_init (z := z) hM_Sn (by have := hX.hN; omega) (by show hN h < hN h + 1; omega) (by omega)) (by have := hX.hN; omega) rfl rfl (Nat.le_of_ble_eq_true rfl) ?_
                  refine r_goto 122 dX0_sheet_111 (by decide) ?_
                  refine r_putr (k := 0) (some (hN h)) dX0_sheet_122 ((hM_S (x := .inr (2, z)) (h := hM h (.inl 23)) (show 62 + k ≠ hN h + 1 by have := hX.hN; omega)).trans ((hM_S (by have := hX.hN; omega)).trans (hx.shs (by omega)).1)) rfl (by decide) (Or.inr ⟨_, q300⟩) (Or.inl rfl) (Or.inl rfl) rfl rfl ?_
                  refine gG_h (show _ = nsH h k 23 2 z from rfl) ?_
                  refine r_iconst (v := nI 1) dX0_sheet_125 rfl ?_
                  refine e_iret dX0_sheet_126 rfl ?_
                  exact ⟨rfl, cx_newsheet hX (by omega) (by omega) (Or.inr (Or.inl ⟨rfl, rfl, rfl⟩)), FrX.ns hX.hN (by omega)⟩
              · skip
                first | rw [iP c_83] | rw [iN c_83] | rw [iN (i_le_nlt c_83)] | rw [iP (i_nle c_83)] | rw [iP (i_nlt c_83)] | rw [iN (i_lt_nle c_83)] | skip
                subst c_83
                refine gG_w (mc := 1 + 1) (ms := 40 + 1) (by omega) (by omega) ?_
                refine r_new (ci := 22) dX0_sheet_86 rfl (by decide) q1310 q1311 q115 ?_
                refine r_dup dX0_sheet_89 rfl ?_
                refine r_iload_n 3 dX0_sheet_90 rfl rfl ?_
                refine r_callI_0c (mc := 0) (ms := 0) (mc1 := 1) (ms1 := 40) dX0_sheet_91 kX0_347 (ZX22_init (z := z) hM_Sn (by have := hX.hN; omega) (by show hN h < hN h + 1; omega) (by omega)) (by have := hX.hN; omega) rfl rfl (Nat.le_of_ble_eq_true rfl) ?_
                refine r_goto 122 dX0_sheet_94 (by decide) ?_
                refine r_putr (k := 0) (some (hN h)) dX0_sheet_122 ((hM_S (x := .inr (1, z)) (h := hM h (.inl 22)) (show 62 + k ≠ hN h + 1 by have := hX.hN; omega)).trans ((hM_S (by have := hX.hN; omega)).trans (hx.shs (by omega)).1)) rfl (by decide) (Or.inr ⟨_, q300⟩) (Or.inl rfl) (Or.inl rfl) rfl rfl ?_
                refine gG_h (show _ = nsH h k 22 1 z from rfl) ?_
                refine r_iconst (v := nI 1) dX0_sheet_125 rfl ?_
                refine e_iret dX0_sheet_126 rfl ?_
                exact ⟨rfl, cx_newsheet hX (by omega) (by omega) (Or.inl ⟨rfl, rfl, rfl⟩), FrX.ns hX.hN (by omega)⟩
        · skip
          first | rw [iP c_29] | rw [iN c_29] | rw [iN (i_le_nlt c_29)] | rw [iP (i_nle c_29)] | rw [iP (i_nlt c_29)] | rw [iN (i_lt_nle c_29)] | skip
          exact absurd c_29 c_9
theorem X_row_L {d : Nat} {h : Hp} {a A t n : Nat} {bt : Int32} (so : ShO h a A t n bt) {Q : gQ} : ∀ (k i : Nat), i ≤ n → n + 1 ≤ i + k → (gG (d + 1) (0) (0) m_X21_row 29 [some (.ref a), some (.ref (hN h)), some (.int (nI n))] [] (bI (hM h (.inr (0, n))) (hN h) (cpG (hI h A) (n))) (Q)) → gG (d + 1) (0) (0) m_X21_row 9 [some (.ref a), some (.ref (hN h)), some (.int (nI i))] [] (bI (hM h (.inr (0, n))) (hN h) (cpG (hI h A) (i))) (Q) := by
  intro k
  induction k with
  | zero => exact fun i h1 h2 => absurd h2 (by omega)
  | succ k ih =>
  intro i hi hk kk
  have ha := so.1
  have ha2 := so.2.1
  have hA := so.2.2.2.1
  have hA2 := so.2.2.2.2.1
  have n40 := so.2.2.2.2.2.2.1
  refine r_iload_n 2 dX21_row_9 rfl rfl ?_
  refine r_aload_n 1 dX21_row_10 rfl rfl rfl ?_
  refine r_alen dX21_row_11 hM_Sn (by decide) ?_
  refine r_eqi (show _ = nI (n) from rfl) ?_
  refine r_icmp_ge 29 dX21_row_12 (by decide) (fun c_12 => ?_) (fun c_12 => ?_)
  · skip
    have n_12 : n ≤ i := n_ge (by omega) (by omega) c_12
    have hin : i = n := by omega
    subst hin
    exact kk
  · skip
    have n_12 : i < n := n_gen (by omega) (by omega) c_12
    refine r_aload_n 1 dX21_row_15 rfl rfl rfl ?_
    refine r_iload_n 2 dX21_row_16 rfl rfl ?_
    refine r_aload_n 0 dX21_row_17 rfl rfl rfl ?_
    refine r_iload_n 2 dX21_row_18 rfl rfl ?_
    refine r_get_X21_13 (by omega) rfl dX21_row_19 so.hm (Nat.le_of_ble_eq_true rfl) ?_
    refine r_eqi (show _ = hI h A i from congrFun ((bI_n (show A ≠ hN h by omega)).trans (hM_I (by omega))) i) ?_
    refine r_iastN (i) dX21_row_22 hM_Sn rfl (by omega) (by omega) ?_
    refine gG_h (show _ = bI (hM h (.inr (0, n))) (hN h) (cpG (hI h A) (i + 1)) from by rw [wI_bI, bI_bI, bI_s]; rfl) ?_
    refine r_iinc dX21_row_23 rfl (by decide) rfl ?_
    refine gG_ls (ls' := [_, _, some (.int (nI ((i + 1))))]) (by rw [show (Int32.ofInt 1) = nI 1 from rfl, nI_add]; rfl) ?_
    refine r_goto 9 dX21_row_26 (by decide) ?_
    exact ih (i + 1) (by omega) (by omega) kk
theorem X_row {d : Nat} {h : Hp} {a A t n : Nat} {bt : Int32} (so : ShO h a A t n bt) : gC (d + 1) (1) (40) m_X21_row [.ref a] (h) (Ret (some (.ref (hN h))) (bI (hM h (.inr (0, n))) (hN h) (cpG (hI h A) (n)))) := by
  refine gC.of (ls := [some (.ref a), none, none]) (by decide +kernel) rfl rfl rfl rfl (Nat.le_of_ble_eq_true rfl) ?_
  have ha := so.1
  have ha2 := so.2.1
  have n40 := so.2.2.2.2.2.2.1
  refine r_aload_n 0 dX21_row_0 rfl rfl rfl ?_
  refine r_size_X21_7 rfl dX21_row_1 so (Nat.le_of_ble_eq_true rfl) ?_
  refine gG_w (mc := 0 + 1) (ms := 0 + n) (by omega) (by omega) ?_
  refine r_newa_int (n) dX21_row_4 q216 (nI_pos (by omega)) (nI_clamp (by omega)) (by omega) ?_
  refine r_astore_n 1 dX21_row_6 rfl (by decide) rfl rfl ?_
  refine gG_ls (ls' := [_, _, _]) rfl ?_
  refine r_iconst (v := nI 0) dX21_row_7 rfl ?_
  refine r_istore_n 2 dX21_row_8 rfl (by decide) rfl ?_
  refine gG_ls (ls' := [_, _, _]) rfl ?_
  refine gG_h (bI_self (show hI (hM h (.inr (0, n))) (hN h) = cpG (hI h A) 0 from hM_In)) ?_
  refine X_row_L so (n + 1) 0 (by omega) (by omega) ?_
  refine r_aload_n 1 dX21_row_29 rfl rfl rfl ?_
  refine e_aret dX21_row_30 rfl (Or.inr ⟨_, rfl⟩) rfl ?_
  exact ⟨rfl, rfl⟩
