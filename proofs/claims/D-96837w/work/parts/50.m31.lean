/-! the constructors, stage by stage -/
abbrev HV : Type := (Nat → Nat ⊕ (Nat × Nat)) × (Nat → Nat → Int32) × (Nat → Nat → Option Nat) × Nat × (Nat → Int32)
def c0 (V : HV) : Hp := (21, V.1, V.2.1, V.2.2.1, V.2.2.2)
theorem gG_hs {d mc ms : Nat} {M : gM} {pc : Nat} {ls : gLs} {st : List Value} {h : Hp} {Q : gQ} (h' : Hp) (st' : List Value) (e1 : h = h') (e2 : st = st') (kk : gG d mc ms M pc ls st' h' Q) : gG d mc ms M pc ls st h Q := by
  subst e1; subst e2; exact kk
def c1 (V : HV) : Hp := hM (c0 V) (.inl 0)
def c2 (V : HV) : Hp := hM (c1 V) (.inl 1)
def c3 (V : HV) : Hp := wR (c2 V) 22 0 (some 22)
def c4 (V : HV) : Hp := wR (c3 V) 22 1 (some 19)
def c5 (V : HV) : Hp := wR (c4 V) 22 2 (some 20)
def c6 (V : HV) : Hp := wR (c5 V) 22 1 (none)
def c7 (V : HV) : Hp := wR (c6 V) 22 3 (none)
def c8 (V : HV) : Hp := wR (c7 V) 22 0 (none)
def c9 (V : HV) : Hp := wR (c8 V) 22 2 (none)
theorem N_J0_init_2_22 {d : Nat} {V : HV} : gC (d + 1) (0) (0) m_J0_init_2 [.ref 22, .null, .null, .int (nI 0), .int (nI 0)] (c2 V) (Ret none (c9 V)) := by
  refine gC.of (ls := [some (.ref 22), some .null, some .null, some (.int (nI 0)), some (.int (nI 0))]) (by decide +kernel) rfl rfl rfl rfl (Nat.le_of_ble_eq_true rfl) ?_
  refine r_aload_n 0 dJ0_init_2_0 rfl rfl rfl ?_
  refine r_objInit dJ0_init_2_1 kJ0_1 kO_i kO_c (by decide) (by decide) ?_
  refine r_aload_n 0 dJ0_init_2_4 rfl rfl rfl ?_
  refine r_aload_n 0 dJ0_init_2_5 rfl rfl rfl ?_
  refine r_putr (k := 0) (some (22)) dJ0_init_2_6 (show hS (c2 V) 22 = .inl 1 from rfl) rfl (by decide) (Or.inl q182) (Or.inl rfl) (Or.inl rfl) rfl rfl ?_
  refine gG_hs (c3 V) [] rfl rfl ?_
  refine r_aload_n 0 dJ0_init_2_9 rfl rfl rfl ?_
  refine r_getsU dJ0_init_2_10 q152 ?_
  refine r_putr (k := 1) (some (19)) dJ0_init_2_13 (show hS (c3 V) 22 = .inl 1 from rfl) rfl (by decide) (Or.inl q183) (Or.inl rfl) (Or.inl rfl) rfl rfl ?_
  refine gG_hs (c4 V) [] rfl rfl ?_
  refine r_aload_n 0 dJ0_init_2_16 rfl rfl rfl ?_
  refine r_getsN dJ0_init_2_17 q154 ?_
  refine r_putr (k := 2) (some (20)) dJ0_init_2_20 (show hS (c4 V) 22 = .inl 1 from rfl) rfl (by decide) (Or.inl q184) (Or.inl rfl) (Or.inl rfl) rfl rfl ?_
  refine gG_hs (c5 V) [] rfl rfl ?_
  refine r_iload dJ0_init_2_23 rfl ?_
  refine r_if_eq 36 dJ0_init_2_25 (by decide) (fun c_25 => ?_) (fun c_25 => ?_)
  · skip
    have n_25 : 0 = 0 := n_eq0 (by omega) c_25
    refine r_aload_n 0 dJ0_init_2_36 rfl rfl rfl ?_
    refine r_null dJ0_init_2_37 ?_
    refine r_putr (k := 1) (none) dJ0_init_2_38 (show hS (c5 V) 22 = .inl 1 from rfl) rfl (by decide) (Or.inl q183) (Or.inl rfl) (Or.inl rfl) rfl rfl ?_
    refine gG_hs (c6 V) [] rfl rfl ?_
    refine r_aload_n 0 dJ0_init_2_41 rfl rfl rfl ?_
    refine r_aload_n 1 dJ0_init_2_42 rfl rfl rfl ?_
    refine r_putr (k := 3) (none) dJ0_init_2_43 (show hS (c6 V) 22 = .inl 1 from rfl) rfl (by decide) (Or.inl q181) (Or.inl rfl) (Or.inl rfl) rfl rfl ?_
    refine gG_hs (c7 V) [] rfl rfl ?_
    refine r_aload_n 0 dJ0_init_2_46 rfl rfl rfl ?_
    refine r_aload_n 2 dJ0_init_2_47 rfl rfl rfl ?_
    refine r_putr (k := 0) (none) dJ0_init_2_48 (show hS (c7 V) 22 = .inl 1 from rfl) rfl (by decide) (Or.inl q182) (Or.inl rfl) (Or.inl rfl) rfl rfl ?_
    refine gG_hs (c8 V) [] rfl rfl ?_
    refine r_iload_n 3 dJ0_init_2_51 rfl rfl ?_
    refine r_if_ne 60 dJ0_init_2_52 (by decide) (fun c_52 => ?_) (fun c_52 => ?_)
    · skip
      have n_52 : ¬ 0 = 0 := n_ne0 (by omega) c_52
      exact absurd n_52 (by decide)
    · skip
      have n_52 : 0 = 0 := n_eq0 (by omega) c_52
      refine r_aload_n 0 dJ0_init_2_55 rfl rfl rfl ?_
      refine r_null dJ0_init_2_56 ?_
      refine r_putr (k := 2) (none) dJ0_init_2_57 (show hS (c8 V) 22 = .inl 1 from rfl) rfl (by decide) (Or.inl q184) (Or.inl rfl) (Or.inl rfl) rfl rfl ?_
      refine gG_hs (c9 V) [] rfl rfl ?_
      refine e_vret dJ0_init_2_60 rfl ?_
      exact ⟨rfl, rfl⟩
  · skip
    have n_25 : ¬ 0 = 0 := n_ne0 (by omega) c_25
    exact absurd n_25 (by decide)
theorem N_J1_init_22 {d : Nat} {V : HV} : gC (d + 2) (0) (0) m_J1_init [.ref 22, .null, .null, .int (nI 0), .int (nI 0)] (c2 V) (Ret none (c9 V)) := by
  refine gC.of (ls := [some (.ref 22), some .null, some .null, some (.int (nI 0)), some (.int (nI 0))]) (by decide +kernel) rfl rfl rfl rfl (Nat.le_of_ble_eq_true rfl) ?_
  refine r_aload_n 0 dJ1_init_0 rfl rfl rfl ?_
  refine r_aload_n 1 dJ1_init_1 rfl rfl rfl ?_
  refine r_aload_n 2 dJ1_init_2 rfl rfl rfl ?_
  refine r_iload_n 3 dJ1_init_3 rfl rfl ?_
  refine r_iload dJ1_init_4 rfl ?_
  refine r_callI_0 dJ1_init_6 kJ1_16 (N_J0_init_2_22) (by decide) rfl rfl (Nat.le_of_ble_eq_true rfl) ?_
  refine e_vret dJ1_init_9 rfl ?_
  exact ⟨rfl, rfl⟩
theorem N_J2_init_22 {d : Nat} {V : HV} : gC (d + 3) (0) (0) m_J2_init [.ref 22, .null, .null, .int (nI 0), .int (nI 0)] (c2 V) (Ret none (c9 V)) := by
  refine gC.of (ls := [some (.ref 22), some .null, some .null, some (.int (nI 0)), some (.int (nI 0))]) (by decide +kernel) rfl rfl rfl rfl (Nat.le_of_ble_eq_true rfl) ?_
  refine r_aload_n 0 dJ2_init_0 rfl rfl rfl ?_
  refine r_aload_n 1 dJ2_init_1 rfl rfl rfl ?_
  refine r_aload_n 2 dJ2_init_2 rfl rfl rfl ?_
  refine r_iload_n 3 dJ2_init_3 rfl rfl ?_
  refine r_iload dJ2_init_4 rfl ?_
  refine r_callI_0 dJ2_init_6 kJ2_16 (N_J1_init_22) (by decide) rfl rfl (Nat.le_of_ble_eq_true rfl) ?_
  refine e_vret dJ2_init_9 rfl ?_
  exact ⟨rfl, rfl⟩
theorem N_X1_init_22 {d : Nat} {V : HV} : gC (d + 4) (0) (0) m_X1_init [.ref 22] (c2 V) (Ret none (c9 V)) := by
  refine gC.of (ls := [some (.ref 22)]) (by decide +kernel) rfl rfl rfl rfl (Nat.le_of_ble_eq_true rfl) ?_
  refine r_aload_n 0 dX1_init_0 rfl rfl rfl ?_
  refine r_null dX1_init_1 ?_
  refine r_null dX1_init_2 ?_
  refine r_iconst (v := nI 0) dX1_init_3 rfl ?_
  refine r_iconst (v := nI 0) dX1_init_4 rfl ?_
  refine r_callI_0 dX1_init_5 kX1_1 (N_J2_init_22) (by decide) rfl rfl (Nat.le_of_ble_eq_true rfl) ?_
  refine e_vret dX1_init_8 rfl ?_
  exact ⟨rfl, rfl⟩
def c10 (V : HV) : Hp := wR (c9 V) 21 0 (some 22)
def c11 (V : HV) : Hp := hM (c10 V) (.inl 2)
def c12 (V : HV) : Hp := hM (c11 V) (.inr (4, 8))
def c13 (V : HV) : Hp := wR (c12 V) 23 1 (some 24)
def c14 (V : HV) : Hp := hM (c13 V) (.inr (0, 8))
def c15 (V : HV) : Hp := wR (c14 V) 23 2 (some 25)
def c16 (V : HV) : Hp := hM (c15 V) (.inr (0, 8))
def c17 (V : HV) : Hp := wR (c16 V) 23 3 (some 26)
def c18 (V : HV) : Hp := hM (c17 V) (.inr (0, 8))
def c19 (V : HV) : Hp := wR (c18 V) 23 4 (some 27)
def c20 (V : HV) : Hp := hM (c19 V) (.inr (0, 64))
def c21 (V : HV) : Hp := wR (c20 V) 23 5 (some 28)
def c22 (V : HV) : Hp := wI (c21 V) 23 7 ((-1))
def c23 (V : HV) : Hp := hM (c22 V) (.inr (5, 2))
def c24 (V : HV) : Hp := wR (c23 V) 23 8 (some 29)
def c25 (V : HV) : Hp := wI (c24 V) 23 9 (nI 1)
def c26 (V : HV) : Hp := hM (c25 V) (.inr (1, 50))
def c27 (V : HV) : Hp := wR (c26 V) 23 10 (some 30)
def c28 (V : HV) : Hp := hM (c27 V) (.inr (0, 20))
def c29 (V : HV) : Hp := wR (c28 V) 23 12 (some 31)
def c30 (V : HV) : Hp := hM (c29 V) (.inl 3)
def c31 (V : HV) : Hp := hM (c30 V) (.inr (0, 128))
def c32 (V : HV) : Hp := wR (c31 V) 32 0 (some 33)
theorem N_X3_init_32 {d : Nat} {V : HV} : gC (d + 1) (1) (128) m_X3_init [.ref 32] (c30 V) (Ret none (c32 V)) := by
  refine gC.of (ls := [some (.ref 32)]) (by decide +kernel) rfl rfl rfl rfl (Nat.le_of_ble_eq_true rfl) ?_
  refine r_aload_n 0 dX3_init_0 rfl rfl rfl ?_
  refine r_objInit dX3_init_1 kX3_1 kO_i kO_c (by decide) (by decide) ?_
  refine r_aload_n 0 dX3_init_4 rfl rfl rfl ?_
  refine r_sipush (v := nI 128) dX3_init_5 (by decide +kernel) ?_
  refine r_newa_int (128) dX3_init_8 q216 (by decide) (by decide) (by decide) ?_
  refine gG_hs (c31 V) [.ref 33, .ref 32] rfl rfl ?_
  refine r_putr (k := 0) (some (33)) dX3_init_10 (show hS (c31 V) 32 = .inl 3 from rfl) rfl (by decide) (Or.inl q211) (Or.inl rfl) (Or.inr ⟨rfl, rfl, rfl, q211⟩) rfl rfl ?_
  refine gG_hs (c32 V) [] rfl rfl ?_
  refine e_vret dX3_init_13 rfl ?_
  exact ⟨rfl, rfl⟩
def c33 (V : HV) : Hp := wR (c32 V) 23 14 (some 32)
theorem N_X2_init_23 {d : Nat} {V : HV} : gC (d + 2) (10) (297) m_X2_init [.ref 23] (c11 V) (Ret none (c33 V)) := by
  refine gC.of (ls := [some (.ref 23)]) (by decide +kernel) rfl rfl rfl rfl (Nat.le_of_ble_eq_true rfl) ?_
  refine r_aload_n 0 dX2_init_0 rfl rfl rfl ?_
  refine r_objInit dX2_init_1 kX2_3 kO_i kO_c (by decide) (by decide) ?_
  refine r_aload_n 0 dX2_init_4 rfl rfl rfl ?_
  refine r_bipush (v := nI 8) dX2_init_5 (by decide +kernel) ?_
  refine r_newr (8) 4 (EC := RX7) dX2_init_7 (Or.inl ⟨rfl, rfl⟩) q201 (by decide) (by decide) (by decide) ?_
  refine gG_hs (c12 V) [.ref 24, .ref 23] rfl rfl ?_
  refine r_putr (k := 1) (some (24)) dX2_init_10 (show hS (c12 V) 23 = .inl 2 from rfl) rfl (by decide) (Or.inl q220) (Or.inl rfl) (Or.inr ⟨rfl, rfl, rfl, q220⟩) rfl rfl ?_
  refine gG_hs (c13 V) [] rfl rfl ?_
  refine r_aload_n 0 dX2_init_13 rfl rfl rfl ?_
  refine r_bipush (v := nI 8) dX2_init_14 (by decide +kernel) ?_
  refine r_newa_int (8) dX2_init_16 q216 (by decide) (by decide) (by decide) ?_
  refine gG_hs (c14 V) [.ref 25, .ref 23] rfl rfl ?_
  refine r_putr (k := 2) (some (25)) dX2_init_18 (show hS (c14 V) 23 = .inl 2 from rfl) rfl (by decide) (Or.inl q222) (Or.inl rfl) (Or.inr ⟨rfl, rfl, rfl, q222⟩) rfl rfl ?_
  refine gG_hs (c15 V) [] rfl rfl ?_
  refine r_aload_n 0 dX2_init_21 rfl rfl rfl ?_
  refine r_bipush (v := nI 8) dX2_init_22 (by decide +kernel) ?_
  refine r_newa_int (8) dX2_init_24 q216 (by decide) (by decide) (by decide) ?_
  refine gG_hs (c16 V) [.ref 26, .ref 23] rfl rfl ?_
  refine r_putr (k := 3) (some (26)) dX2_init_26 (show hS (c16 V) 23 = .inl 2 from rfl) rfl (by decide) (Or.inl q224) (Or.inl rfl) (Or.inr ⟨rfl, rfl, rfl, q224⟩) rfl rfl ?_
  refine gG_hs (c17 V) [] rfl rfl ?_
  refine r_aload_n 0 dX2_init_29 rfl rfl rfl ?_
  refine r_bipush (v := nI 8) dX2_init_30 (by decide +kernel) ?_
  refine r_newa_int (8) dX2_init_32 q216 (by decide) (by decide) (by decide) ?_
  refine gG_hs (c18 V) [.ref 27, .ref 23] rfl rfl ?_
  refine r_putr (k := 4) (some (27)) dX2_init_34 (show hS (c18 V) 23 = .inl 2 from rfl) rfl (by decide) (Or.inl q226) (Or.inl rfl) (Or.inr ⟨rfl, rfl, rfl, q226⟩) rfl rfl ?_
  refine gG_hs (c19 V) [] rfl rfl ?_
  refine r_aload_n 0 dX2_init_37 rfl rfl rfl ?_
  refine r_bipush (v := nI 64) dX2_init_38 (by decide +kernel) ?_
  refine r_newa_int (64) dX2_init_40 q216 (by decide) (by decide) (by decide) ?_
  refine gG_hs (c20 V) [.ref 28, .ref 23] rfl rfl ?_
  refine r_putr (k := 5) (some (28)) dX2_init_42 (show hS (c20 V) 23 = .inl 2 from rfl) rfl (by decide) (Or.inl q228) (Or.inl rfl) (Or.inr ⟨rfl, rfl, rfl, q228⟩) rfl rfl ?_
  refine gG_hs (c21 V) [] rfl rfl ?_
  refine r_aload_n 0 dX2_init_45 rfl rfl rfl ?_
  refine r_iconst (v := (-1)) dX2_init_46 (by decide +kernel) ?_
  refine r_puti (k := 7) dX2_init_47 (show hS (c21 V) 23 = .inl 2 from rfl) rfl (by decide) (Or.inl q232) (Or.inl rfl) (Or.inl rfl) rfl rfl rfl ?_
  refine gG_hs (c22 V) [] rfl rfl ?_
  refine r_aload_n 0 dX2_init_50 rfl rfl rfl ?_
  refine r_iconst (v := nI 2) dX2_init_51 rfl ?_
  refine r_newr (2) 5 (EC := RX14) dX2_init_52 (Or.inr (Or.inl ⟨rfl, rfl⟩)) q203 (by decide) (by decide) (by decide) ?_
  refine gG_hs (c23 V) [.ref 29, .ref 23] rfl rfl ?_
  refine r_putr (k := 8) (some (29)) dX2_init_55 (show hS (c23 V) 23 = .inl 2 from rfl) rfl (by decide) (Or.inl q234) (Or.inl rfl) (Or.inr ⟨rfl, rfl, rfl, q234⟩) rfl rfl ?_
  refine gG_hs (c24 V) [] rfl rfl ?_
  refine r_aload_n 0 dX2_init_58 rfl rfl rfl ?_
  refine r_iconst (v := nI 1) dX2_init_59 rfl ?_
  refine r_puti (k := 9) dX2_init_60 (show hS (c24 V) 23 = .inl 2 from rfl) rfl (by decide) (Or.inl q236) (Or.inl rfl) (Or.inl rfl) rfl rfl rfl ?_
  refine gG_hs (c25 V) [] rfl rfl ?_
  refine r_aload_n 0 dX2_init_63 rfl rfl rfl ?_
  refine r_bipush (v := nI 50) dX2_init_64 (by decide +kernel) ?_
  refine r_newa_byte (50) dX2_init_66 q217 (by decide) (by decide) (by decide) ?_
  refine gG_hs (c26 V) [.ref 30, .ref 23] rfl rfl ?_
  refine r_putr (k := 10) (some (30)) dX2_init_68 (show hS (c26 V) 23 = .inl 2 from rfl) rfl (by decide) (Or.inl q238) (Or.inl rfl) (Or.inr ⟨rfl, rfl, rfl, q238⟩) rfl rfl ?_
  refine gG_hs (c27 V) [] rfl rfl ?_
  refine r_aload_n 0 dX2_init_71 rfl rfl rfl ?_
  refine r_bipush (v := nI 20) dX2_init_72 (by decide +kernel) ?_
  refine r_newa_int (20) dX2_init_74 q216 (by decide) (by decide) (by decide) ?_
  refine gG_hs (c28 V) [.ref 31, .ref 23] rfl rfl ?_
  refine r_putr (k := 12) (some (31)) dX2_init_76 (show hS (c28 V) 23 = .inl 2 from rfl) rfl (by decide) (Or.inl q242) (Or.inl rfl) (Or.inr ⟨rfl, rfl, rfl, q242⟩) rfl rfl ?_
  refine gG_hs (c29 V) [] rfl rfl ?_
  refine r_aload_n 0 dX2_init_79 rfl rfl rfl ?_
  refine r_new (ci := 3) (N := 1) dX2_init_80 rfl (by decide) q205 q206 q88 ?_
  refine gG_hs (c30 V) [.ref 32, .ref 23] rfl rfl ?_
  refine r_dup dX2_init_83 rfl ?_
  refine r_callIN_0c (mc1 := 1) (ms1 := 128) dX2_init_84 kX2_52 (N_X3_init_32) (by decide) rfl rfl (Nat.le_of_ble_eq_true rfl) ?_
  refine r_putr (k := 14) (some (32)) dX2_init_87 (show hS (c32 V) 23 = .inl 2 from rfl) rfl (by decide) (Or.inl q246) (Or.inl rfl) (Or.inr ⟨rfl, rfl, rfl, q246⟩) rfl rfl ?_
  refine gG_hs (c33 V) [] rfl rfl ?_
  refine e_vret dX2_init_90 rfl ?_
  exact ⟨rfl, rfl⟩
def c34 (V : HV) : Hp := wR (c33 V) 21 1 (some 23)
def c35 (V : HV) : Hp := hM (c34 V) (.inl 2)
def c36 (V : HV) : Hp := hM (c35 V) (.inr (4, 8))
def c37 (V : HV) : Hp := wR (c36 V) 34 1 (some 35)
def c38 (V : HV) : Hp := hM (c37 V) (.inr (0, 8))
def c39 (V : HV) : Hp := wR (c38 V) 34 2 (some 36)
def c40 (V : HV) : Hp := hM (c39 V) (.inr (0, 8))
def c41 (V : HV) : Hp := wR (c40 V) 34 3 (some 37)
def c42 (V : HV) : Hp := hM (c41 V) (.inr (0, 8))
def c43 (V : HV) : Hp := wR (c42 V) 34 4 (some 38)
def c44 (V : HV) : Hp := hM (c43 V) (.inr (0, 64))
def c45 (V : HV) : Hp := wR (c44 V) 34 5 (some 39)
def c46 (V : HV) : Hp := wI (c45 V) 34 7 ((-1))
def c47 (V : HV) : Hp := hM (c46 V) (.inr (5, 2))
def c48 (V : HV) : Hp := wR (c47 V) 34 8 (some 40)
def c49 (V : HV) : Hp := wI (c48 V) 34 9 (nI 1)
def c50 (V : HV) : Hp := hM (c49 V) (.inr (1, 50))
def c51 (V : HV) : Hp := wR (c50 V) 34 10 (some 41)
def c52 (V : HV) : Hp := hM (c51 V) (.inr (0, 20))
def c53 (V : HV) : Hp := wR (c52 V) 34 12 (some 42)
def c54 (V : HV) : Hp := hM (c53 V) (.inl 3)
def c55 (V : HV) : Hp := hM (c54 V) (.inr (0, 128))
def c56 (V : HV) : Hp := wR (c55 V) 43 0 (some 44)
theorem N_X3_init_43 {d : Nat} {V : HV} : gC (d + 1) (1) (128) m_X3_init [.ref 43] (c54 V) (Ret none (c56 V)) := by
  refine gC.of (ls := [some (.ref 43)]) (by decide +kernel) rfl rfl rfl rfl (Nat.le_of_ble_eq_true rfl) ?_
  refine r_aload_n 0 dX3_init_0 rfl rfl rfl ?_
  refine r_objInit dX3_init_1 kX3_1 kO_i kO_c (by decide) (by decide) ?_
  refine r_aload_n 0 dX3_init_4 rfl rfl rfl ?_
  refine r_sipush (v := nI 128) dX3_init_5 (by decide +kernel) ?_
  refine r_newa_int (128) dX3_init_8 q216 (by decide) (by decide) (by decide) ?_
  refine gG_hs (c55 V) [.ref 44, .ref 43] rfl rfl ?_
  refine r_putr (k := 0) (some (44)) dX3_init_10 (show hS (c55 V) 43 = .inl 3 from rfl) rfl (by decide) (Or.inl q211) (Or.inl rfl) (Or.inr ⟨rfl, rfl, rfl, q211⟩) rfl rfl ?_
  refine gG_hs (c56 V) [] rfl rfl ?_
  refine e_vret dX3_init_13 rfl ?_
  exact ⟨rfl, rfl⟩
def c57 (V : HV) : Hp := wR (c56 V) 34 14 (some 43)
theorem N_X2_init_34 {d : Nat} {V : HV} : gC (d + 2) (10) (297) m_X2_init [.ref 34] (c35 V) (Ret none (c57 V)) := by
  refine gC.of (ls := [some (.ref 34)]) (by decide +kernel) rfl rfl rfl rfl (Nat.le_of_ble_eq_true rfl) ?_
  refine r_aload_n 0 dX2_init_0 rfl rfl rfl ?_
  refine r_objInit dX2_init_1 kX2_3 kO_i kO_c (by decide) (by decide) ?_
  refine r_aload_n 0 dX2_init_4 rfl rfl rfl ?_
  refine r_bipush (v := nI 8) dX2_init_5 (by decide +kernel) ?_
  refine r_newr (8) 4 (EC := RX7) dX2_init_7 (Or.inl ⟨rfl, rfl⟩) q201 (by decide) (by decide) (by decide) ?_
  refine gG_hs (c36 V) [.ref 35, .ref 34] rfl rfl ?_
  refine r_putr (k := 1) (some (35)) dX2_init_10 (show hS (c36 V) 34 = .inl 2 from rfl) rfl (by decide) (Or.inl q220) (Or.inl rfl) (Or.inr ⟨rfl, rfl, rfl, q220⟩) rfl rfl ?_
  refine gG_hs (c37 V) [] rfl rfl ?_
  refine r_aload_n 0 dX2_init_13 rfl rfl rfl ?_
  refine r_bipush (v := nI 8) dX2_init_14 (by decide +kernel) ?_
  refine r_newa_int (8) dX2_init_16 q216 (by decide) (by decide) (by decide) ?_
  refine gG_hs (c38 V) [.ref 36, .ref 34] rfl rfl ?_
  refine r_putr (k := 2) (some (36)) dX2_init_18 (show hS (c38 V) 34 = .inl 2 from rfl) rfl (by decide) (Or.inl q222) (Or.inl rfl) (Or.inr ⟨rfl, rfl, rfl, q222⟩) rfl rfl ?_
  refine gG_hs (c39 V) [] rfl rfl ?_
  refine r_aload_n 0 dX2_init_21 rfl rfl rfl ?_
  refine r_bipush (v := nI 8) dX2_init_22 (by decide +kernel) ?_
  refine r_newa_int (8) dX2_init_24 q216 (by decide) (by decide) (by decide) ?_
  refine gG_hs (c40 V) [.ref 37, .ref 34] rfl rfl ?_
  refine r_putr (k := 3) (some (37)) dX2_init_26 (show hS (c40 V) 34 = .inl 2 from rfl) rfl (by decide) (Or.inl q224) (Or.inl rfl) (Or.inr ⟨rfl, rfl, rfl, q224⟩) rfl rfl ?_
  refine gG_hs (c41 V) [] rfl rfl ?_
  refine r_aload_n 0 dX2_init_29 rfl rfl rfl ?_
  refine r_bipush (v := nI 8) dX2_init_30 (by decide +kernel) ?_
  refine r_newa_int (8) dX2_init_32 q216 (by decide) (by decide) (by decide) ?_
  refine gG_hs (c42 V) [.ref 38, .ref 34] rfl rfl ?_
  refine r_putr (k := 4) (some (38)) dX2_init_34 (show hS (c42 V) 34 = .inl 2 from rfl) rfl (by decide) (Or.inl q226) (Or.inl rfl) (Or.inr ⟨rfl, rfl, rfl, q226⟩) rfl rfl ?_
  refine gG_hs (c43 V) [] rfl rfl ?_
  refine r_aload_n 0 dX2_init_37 rfl rfl rfl ?_
  refine r_bipush (v := nI 64) dX2_init_38 (by decide +kernel) ?_
  refine r_newa_int (64) dX2_init_40 q216 (by decide) (by decide) (by decide) ?_
  refine gG_hs (c44 V) [.ref 39, .ref 34] rfl rfl ?_
  refine r_putr (k := 5) (some (39)) dX2_init_42 (show hS (c44 V) 34 = .inl 2 from rfl) rfl (by decide) (Or.inl q228) (Or.inl rfl) (Or.inr ⟨rfl, rfl, rfl, q228⟩) rfl rfl ?_
  refine gG_hs (c45 V) [] rfl rfl ?_
  refine r_aload_n 0 dX2_init_45 rfl rfl rfl ?_
  refine r_iconst (v := (-1)) dX2_init_46 (by decide +kernel) ?_
  refine r_puti (k := 7) dX2_init_47 (show hS (c45 V) 34 = .inl 2 from rfl) rfl (by decide) (Or.inl q232) (Or.inl rfl) (Or.inl rfl) rfl rfl rfl ?_
  refine gG_hs (c46 V) [] rfl rfl ?_
  refine r_aload_n 0 dX2_init_50 rfl rfl rfl ?_
  refine r_iconst (v := nI 2) dX2_init_51 rfl ?_
  refine r_newr (2) 5 (EC := RX14) dX2_init_52 (Or.inr (Or.inl ⟨rfl, rfl⟩)) q203 (by decide) (by decide) (by decide) ?_
  refine gG_hs (c47 V) [.ref 40, .ref 34] rfl rfl ?_
  refine r_putr (k := 8) (some (40)) dX2_init_55 (show hS (c47 V) 34 = .inl 2 from rfl) rfl (by decide) (Or.inl q234) (Or.inl rfl) (Or.inr ⟨rfl, rfl, rfl, q234⟩) rfl rfl ?_
  refine gG_hs (c48 V) [] rfl rfl ?_
  refine r_aload_n 0 dX2_init_58 rfl rfl rfl ?_
  refine r_iconst (v := nI 1) dX2_init_59 rfl ?_
  refine r_puti (k := 9) dX2_init_60 (show hS (c48 V) 34 = .inl 2 from rfl) rfl (by decide) (Or.inl q236) (Or.inl rfl) (Or.inl rfl) rfl rfl rfl ?_
  refine gG_hs (c49 V) [] rfl rfl ?_
  refine r_aload_n 0 dX2_init_63 rfl rfl rfl ?_
  refine r_bipush (v := nI 50) dX2_init_64 (by decide +kernel) ?_
  refine r_newa_byte (50) dX2_init_66 q217 (by decide) (by decide) (by decide) ?_
  refine gG_hs (c50 V) [.ref 41, .ref 34] rfl rfl ?_
  refine r_putr (k := 10) (some (41)) dX2_init_68 (show hS (c50 V) 34 = .inl 2 from rfl) rfl (by decide) (Or.inl q238) (Or.inl rfl) (Or.inr ⟨rfl, rfl, rfl, q238⟩) rfl rfl ?_
  refine gG_hs (c51 V) [] rfl rfl ?_
  refine r_aload_n 0 dX2_init_71 rfl rfl rfl ?_
  refine r_bipush (v := nI 20) dX2_init_72 (by decide +kernel) ?_
  refine r_newa_int (20) dX2_init_74 q216 (by decide) (by decide) (by decide) ?_
  refine gG_hs (c52 V) [.ref 42, .ref 34] rfl rfl ?_
  refine r_putr (k := 12) (some (42)) dX2_init_76 (show hS (c52 V) 34 = .inl 2 from rfl) rfl (by decide) (Or.inl q242) (Or.inl rfl) (Or.inr ⟨rfl, rfl, rfl, q242⟩) rfl rfl ?_
  refine gG_hs (c53 V) [] rfl rfl ?_
  refine r_aload_n 0 dX2_init_79 rfl rfl rfl ?_
  refine r_new (ci := 3) (N := 1) dX2_init_80 rfl (by decide) q205 q206 q88 ?_
  refine gG_hs (c54 V) [.ref 43, .ref 34] rfl rfl ?_
  refine r_dup dX2_init_83 rfl ?_
  refine r_callIN_0c (mc1 := 1) (ms1 := 128) dX2_init_84 kX2_52 (N_X3_init_43) (by decide) rfl rfl (Nat.le_of_ble_eq_true rfl) ?_
  refine r_putr (k := 14) (some (43)) dX2_init_87 (show hS (c56 V) 34 = .inl 2 from rfl) rfl (by decide) (Or.inl q246) (Or.inl rfl) (Or.inr ⟨rfl, rfl, rfl, q246⟩) rfl rfl ?_
  refine gG_hs (c57 V) [] rfl rfl ?_
  refine e_vret dX2_init_90 rfl ?_
  exact ⟨rfl, rfl⟩
def c58 (V : HV) : Hp := wR (c57 V) 21 2 (some 34)
def c59 (V : HV) : Hp := hM (c58 V) (.inl 2)
def c60 (V : HV) : Hp := hM (c59 V) (.inr (4, 8))
def c61 (V : HV) : Hp := wR (c60 V) 45 1 (some 46)
def c62 (V : HV) : Hp := hM (c61 V) (.inr (0, 8))
def c63 (V : HV) : Hp := wR (c62 V) 45 2 (some 47)
def c64 (V : HV) : Hp := hM (c63 V) (.inr (0, 8))
def c65 (V : HV) : Hp := wR (c64 V) 45 3 (some 48)
def c66 (V : HV) : Hp := hM (c65 V) (.inr (0, 8))
def c67 (V : HV) : Hp := wR (c66 V) 45 4 (some 49)
def c68 (V : HV) : Hp := hM (c67 V) (.inr (0, 64))
def c69 (V : HV) : Hp := wR (c68 V) 45 5 (some 50)
def c70 (V : HV) : Hp := wI (c69 V) 45 7 ((-1))
def c71 (V : HV) : Hp := hM (c70 V) (.inr (5, 2))
def c72 (V : HV) : Hp := wR (c71 V) 45 8 (some 51)
def c73 (V : HV) : Hp := wI (c72 V) 45 9 (nI 1)
def c74 (V : HV) : Hp := hM (c73 V) (.inr (1, 50))
def c75 (V : HV) : Hp := wR (c74 V) 45 10 (some 52)
def c76 (V : HV) : Hp := hM (c75 V) (.inr (0, 20))
def c77 (V : HV) : Hp := wR (c76 V) 45 12 (some 53)
def c78 (V : HV) : Hp := hM (c77 V) (.inl 3)
def c79 (V : HV) : Hp := hM (c78 V) (.inr (0, 128))
def c80 (V : HV) : Hp := wR (c79 V) 54 0 (some 55)
theorem N_X3_init_54 {d : Nat} {V : HV} : gC (d + 1) (1) (128) m_X3_init [.ref 54] (c78 V) (Ret none (c80 V)) := by
  refine gC.of (ls := [some (.ref 54)]) (by decide +kernel) rfl rfl rfl rfl (Nat.le_of_ble_eq_true rfl) ?_
  refine r_aload_n 0 dX3_init_0 rfl rfl rfl ?_
  refine r_objInit dX3_init_1 kX3_1 kO_i kO_c (by decide) (by decide) ?_
  refine r_aload_n 0 dX3_init_4 rfl rfl rfl ?_
  refine r_sipush (v := nI 128) dX3_init_5 (by decide +kernel) ?_
  refine r_newa_int (128) dX3_init_8 q216 (by decide) (by decide) (by decide) ?_
  refine gG_hs (c79 V) [.ref 55, .ref 54] rfl rfl ?_
  refine r_putr (k := 0) (some (55)) dX3_init_10 (show hS (c79 V) 54 = .inl 3 from rfl) rfl (by decide) (Or.inl q211) (Or.inl rfl) (Or.inr ⟨rfl, rfl, rfl, q211⟩) rfl rfl ?_
  refine gG_hs (c80 V) [] rfl rfl ?_
  refine e_vret dX3_init_13 rfl ?_
  exact ⟨rfl, rfl⟩
def c81 (V : HV) : Hp := wR (c80 V) 45 14 (some 54)
theorem N_X2_init_45 {d : Nat} {V : HV} : gC (d + 2) (10) (297) m_X2_init [.ref 45] (c59 V) (Ret none (c81 V)) := by
  refine gC.of (ls := [some (.ref 45)]) (by decide +kernel) rfl rfl rfl rfl (Nat.le_of_ble_eq_true rfl) ?_
  refine r_aload_n 0 dX2_init_0 rfl rfl rfl ?_
  refine r_objInit dX2_init_1 kX2_3 kO_i kO_c (by decide) (by decide) ?_
  refine r_aload_n 0 dX2_init_4 rfl rfl rfl ?_
  refine r_bipush (v := nI 8) dX2_init_5 (by decide +kernel) ?_
  refine r_newr (8) 4 (EC := RX7) dX2_init_7 (Or.inl ⟨rfl, rfl⟩) q201 (by decide) (by decide) (by decide) ?_
  refine gG_hs (c60 V) [.ref 46, .ref 45] rfl rfl ?_
  refine r_putr (k := 1) (some (46)) dX2_init_10 (show hS (c60 V) 45 = .inl 2 from rfl) rfl (by decide) (Or.inl q220) (Or.inl rfl) (Or.inr ⟨rfl, rfl, rfl, q220⟩) rfl rfl ?_
  refine gG_hs (c61 V) [] rfl rfl ?_
  refine r_aload_n 0 dX2_init_13 rfl rfl rfl ?_
  refine r_bipush (v := nI 8) dX2_init_14 (by decide +kernel) ?_
  refine r_newa_int (8) dX2_init_16 q216 (by decide) (by decide) (by decide) ?_
  refine gG_hs (c62 V) [.ref 47, .ref 45] rfl rfl ?_
  refine r_putr (k := 2) (some (47)) dX2_init_18 (show hS (c62 V) 45 = .inl 2 from rfl) rfl (by decide) (Or.inl q222) (Or.inl rfl) (Or.inr ⟨rfl, rfl, rfl, q222⟩) rfl rfl ?_
  refine gG_hs (c63 V) [] rfl rfl ?_
  refine r_aload_n 0 dX2_init_21 rfl rfl rfl ?_
  refine r_bipush (v := nI 8) dX2_init_22 (by decide +kernel) ?_
  refine r_newa_int (8) dX2_init_24 q216 (by decide) (by decide) (by decide) ?_
  refine gG_hs (c64 V) [.ref 48, .ref 45] rfl rfl ?_
  refine r_putr (k := 3) (some (48)) dX2_init_26 (show hS (c64 V) 45 = .inl 2 from rfl) rfl (by decide) (Or.inl q224) (Or.inl rfl) (Or.inr ⟨rfl, rfl, rfl, q224⟩) rfl rfl ?_
  refine gG_hs (c65 V) [] rfl rfl ?_
  refine r_aload_n 0 dX2_init_29 rfl rfl rfl ?_
  refine r_bipush (v := nI 8) dX2_init_30 (by decide +kernel) ?_
  refine r_newa_int (8) dX2_init_32 q216 (by decide) (by decide) (by decide) ?_
  refine gG_hs (c66 V) [.ref 49, .ref 45] rfl rfl ?_
  refine r_putr (k := 4) (some (49)) dX2_init_34 (show hS (c66 V) 45 = .inl 2 from rfl) rfl (by decide) (Or.inl q226) (Or.inl rfl) (Or.inr ⟨rfl, rfl, rfl, q226⟩) rfl rfl ?_
  refine gG_hs (c67 V) [] rfl rfl ?_
  refine r_aload_n 0 dX2_init_37 rfl rfl rfl ?_
  refine r_bipush (v := nI 64) dX2_init_38 (by decide +kernel) ?_
  refine r_newa_int (64) dX2_init_40 q216 (by decide) (by decide) (by decide) ?_
  refine gG_hs (c68 V) [.ref 50, .ref 45] rfl rfl ?_
  refine r_putr (k := 5) (some (50)) dX2_init_42 (show hS (c68 V) 45 = .inl 2 from rfl) rfl (by decide) (Or.inl q228) (Or.inl rfl) (Or.inr ⟨rfl, rfl, rfl, q228⟩) rfl rfl ?_
  refine gG_hs (c69 V) [] rfl rfl ?_
  refine r_aload_n 0 dX2_init_45 rfl rfl rfl ?_
  refine r_iconst (v := (-1)) dX2_init_46 (by decide +kernel) ?_
  refine r_puti (k := 7) dX2_init_47 (show hS (c69 V) 45 = .inl 2 from rfl) rfl (by decide) (Or.inl q232) (Or.inl rfl) (Or.inl rfl) rfl rfl rfl ?_
  refine gG_hs (c70 V) [] rfl rfl ?_
  refine r_aload_n 0 dX2_init_50 rfl rfl rfl ?_
  refine r_iconst (v := nI 2) dX2_init_51 rfl ?_
  refine r_newr (2) 5 (EC := RX14) dX2_init_52 (Or.inr (Or.inl ⟨rfl, rfl⟩)) q203 (by decide) (by decide) (by decide) ?_
  refine gG_hs (c71 V) [.ref 51, .ref 45] rfl rfl ?_
  refine r_putr (k := 8) (some (51)) dX2_init_55 (show hS (c71 V) 45 = .inl 2 from rfl) rfl (by decide) (Or.inl q234) (Or.inl rfl) (Or.inr ⟨rfl, rfl, rfl, q234⟩) rfl rfl ?_
  refine gG_hs (c72 V) [] rfl rfl ?_
  refine r_aload_n 0 dX2_init_58 rfl rfl rfl ?_
  refine r_iconst (v := nI 1) dX2_init_59 rfl ?_
  refine r_puti (k := 9) dX2_init_60 (show hS (c72 V) 45 = .inl 2 from rfl) rfl (by decide) (Or.inl q236) (Or.inl rfl) (Or.inl rfl) rfl rfl rfl ?_
  refine gG_hs (c73 V) [] rfl rfl ?_
  refine r_aload_n 0 dX2_init_63 rfl rfl rfl ?_
  refine r_bipush (v := nI 50) dX2_init_64 (by decide +kernel) ?_
  refine r_newa_byte (50) dX2_init_66 q217 (by decide) (by decide) (by decide) ?_
  refine gG_hs (c74 V) [.ref 52, .ref 45] rfl rfl ?_
  refine r_putr (k := 10) (some (52)) dX2_init_68 (show hS (c74 V) 45 = .inl 2 from rfl) rfl (by decide) (Or.inl q238) (Or.inl rfl) (Or.inr ⟨rfl, rfl, rfl, q238⟩) rfl rfl ?_
  refine gG_hs (c75 V) [] rfl rfl ?_
  refine r_aload_n 0 dX2_init_71 rfl rfl rfl ?_
  refine r_bipush (v := nI 20) dX2_init_72 (by decide +kernel) ?_
  refine r_newa_int (20) dX2_init_74 q216 (by decide) (by decide) (by decide) ?_
  refine gG_hs (c76 V) [.ref 53, .ref 45] rfl rfl ?_
  refine r_putr (k := 12) (some (53)) dX2_init_76 (show hS (c76 V) 45 = .inl 2 from rfl) rfl (by decide) (Or.inl q242) (Or.inl rfl) (Or.inr ⟨rfl, rfl, rfl, q242⟩) rfl rfl ?_
  refine gG_hs (c77 V) [] rfl rfl ?_
  refine r_aload_n 0 dX2_init_79 rfl rfl rfl ?_
  refine r_new (ci := 3) (N := 1) dX2_init_80 rfl (by decide) q205 q206 q88 ?_
  refine gG_hs (c78 V) [.ref 54, .ref 45] rfl rfl ?_
  refine r_dup dX2_init_83 rfl ?_
  refine r_callIN_0c (mc1 := 1) (ms1 := 128) dX2_init_84 kX2_52 (N_X3_init_54) (by decide) rfl rfl (Nat.le_of_ble_eq_true rfl) ?_
  refine r_putr (k := 14) (some (54)) dX2_init_87 (show hS (c80 V) 45 = .inl 2 from rfl) rfl (by decide) (Or.inl q246) (Or.inl rfl) (Or.inr ⟨rfl, rfl, rfl, q246⟩) rfl rfl ?_
  refine gG_hs (c81 V) [] rfl rfl ?_
  refine e_vret dX2_init_90 rfl ?_
  exact ⟨rfl, rfl⟩
def c82 (V : HV) : Hp := wR (c81 V) 21 3 (some 45)
def c83 (V : HV) : Hp := hM (c82 V) (.inl 4)
def c84 (V : HV) : Hp := hM (c83 V) (.inr (0, 40))
def c85 (V : HV) : Hp := wR (c84 V) 56 0 (some 57)
theorem N_X4_init_56 {d : Nat} {V : HV} : gC (d + 1) (1) (40) m_X4_init [.ref 56] (c83 V) (Ret none (c85 V)) := by
  refine gC.of (ls := [some (.ref 56)]) (by decide +kernel) rfl rfl rfl rfl (Nat.le_of_ble_eq_true rfl) ?_
  refine r_aload_n 0 dX4_init_0 rfl rfl rfl ?_
  refine r_objInit dX4_init_1 kX4_3 kO_i kO_c (by decide) (by decide) ?_
  refine r_aload_n 0 dX4_init_4 rfl rfl rfl ?_
  refine r_bipush (v := nI 40) dX4_init_5 (by decide +kernel) ?_
  refine r_newa_int (40) dX4_init_7 q216 (by decide) (by decide) (by decide) ?_
  refine gG_hs (c84 V) [.ref 57, .ref 56] rfl rfl ?_
  refine r_putr (k := 0) (some (57)) dX4_init_9 (show hS (c84 V) 56 = .inl 4 from rfl) rfl (by decide) (Or.inl q284) (Or.inl rfl) (Or.inr ⟨rfl, rfl, rfl, q284⟩) rfl rfl ?_
  refine gG_hs (c85 V) [] rfl rfl ?_
  refine e_vret dX4_init_12 rfl ?_
  exact ⟨rfl, rfl⟩
def c86 (V : HV) : Hp := wR (c85 V) 21 5 (some 56)
def c87 (V : HV) : Hp := hM (c86 V) (.inr (0, 6))
def c88 (V : HV) : Hp := wR (c87 V) 21 6 (some 58)
def c89 (V : HV) : Hp := hM (c88 V) (.inr (6, 4))
def c90 (V : HV) : Hp := wR (c89 V) 21 7 (some 59)
def c91 (V : HV) : Hp := hM (c90 V) (.inr (3, 256))
def c92 (V : HV) : Hp := wR (c91 V) 21 8 (some 60)
def c93 (V : HV) : Hp := hM (c92 V) (.inr (0, 8))
def c94 (V : HV) : Hp := wR (c93 V) 21 9 (some 61)
def c95 (V : HV) : Hp := hM (c94 V) (.inl 5)
theorem N_X5_init_62 {d : Nat} {V : HV} : gC (d + 1) (0) (0) m_X5_init [.ref 62] (c95 V) (Ret none (c95 V)) := by
  refine gC.of (ls := [some (.ref 62)]) (by decide +kernel) rfl rfl rfl rfl (Nat.le_of_ble_eq_true rfl) ?_
  refine r_aload_n 0 dX5_init_0 rfl rfl rfl ?_
  refine r_objInit dX5_init_1 kX5_1 kO_i kO_c (by decide) (by decide) ?_
  refine e_vret dX5_init_4 rfl ?_
  exact ⟨rfl, rfl⟩
def c96 (V : HV) : Hp := wR (c95 V) 59 0 (some 62)
def c97 (V : HV) : Hp := hM (c96 V) (.inl 5)
theorem N_X5_init_63 {d : Nat} {V : HV} : gC (d + 1) (0) (0) m_X5_init [.ref 63] (c97 V) (Ret none (c97 V)) := by
  refine gC.of (ls := [some (.ref 63)]) (by decide +kernel) rfl rfl rfl rfl (Nat.le_of_ble_eq_true rfl) ?_
  refine r_aload_n 0 dX5_init_0 rfl rfl rfl ?_
  refine r_objInit dX5_init_1 kX5_1 kO_i kO_c (by decide) (by decide) ?_
  refine e_vret dX5_init_4 rfl ?_
  exact ⟨rfl, rfl⟩
def c98 (V : HV) : Hp := wR (c97 V) 59 1 (some 63)
def c99 (V : HV) : Hp := hM (c98 V) (.inl 5)
theorem N_X5_init_64 {d : Nat} {V : HV} : gC (d + 1) (0) (0) m_X5_init [.ref 64] (c99 V) (Ret none (c99 V)) := by
  refine gC.of (ls := [some (.ref 64)]) (by decide +kernel) rfl rfl rfl rfl (Nat.le_of_ble_eq_true rfl) ?_
  refine r_aload_n 0 dX5_init_0 rfl rfl rfl ?_
  refine r_objInit dX5_init_1 kX5_1 kO_i kO_c (by decide) (by decide) ?_
  refine e_vret dX5_init_4 rfl ?_
  exact ⟨rfl, rfl⟩
def c100 (V : HV) : Hp := wR (c99 V) 59 2 (some 64)
def c101 (V : HV) : Hp := hM (c100 V) (.inl 5)
theorem N_X5_init_65 {d : Nat} {V : HV} : gC (d + 1) (0) (0) m_X5_init [.ref 65] (c101 V) (Ret none (c101 V)) := by
  refine gC.of (ls := [some (.ref 65)]) (by decide +kernel) rfl rfl rfl rfl (Nat.le_of_ble_eq_true rfl) ?_
  refine r_aload_n 0 dX5_init_0 rfl rfl rfl ?_
  refine r_objInit dX5_init_1 kX5_1 kO_i kO_c (by decide) (by decide) ?_
  refine e_vret dX5_init_4 rfl ?_
  exact ⟨rfl, rfl⟩
def c102 (V : HV) : Hp := wR (c101 V) 59 3 (some 65)
theorem N_X0_init_21 {d : Nat} {V : HV} : gC (d + 6) (45) (2000) m_X0_init [.ref 21] (c1 V) (Ret none (c102 V)) := by
  refine gC.of (ls := [some (.ref 21), none]) (by decide +kernel) rfl rfl rfl rfl (Nat.le_of_ble_eq_true rfl) ?_
  refine r_aload_n 0 dX0_init_0 rfl rfl rfl ?_
  refine r_objInit dX0_init_1 kX0_37 kO_i kO_c (by decide) (by decide) ?_
  refine r_aload_n 0 dX0_init_4 rfl rfl rfl ?_
  refine r_new (ci := 1) (N := 7) dX0_init_5 rfl (by decide) q126 q127 q86 ?_
  refine gG_hs (c2 V) [.ref 22, .ref 21] rfl rfl ?_
  refine r_dup dX0_init_8 rfl ?_
  refine r_callI_0 dX0_init_9 kX0_42 (N_X1_init_22) (by decide) rfl rfl (Nat.le_of_ble_eq_true rfl) ?_
  refine r_putr (k := 0) (some (22)) dX0_init_12 (show hS (c9 V) 21 = .inl 0 from rfl) rfl (by decide) (Or.inl q305) (Or.inl rfl) (Or.inr ⟨rfl, rfl, rfl, q305⟩) rfl rfl ?_
  refine gG_hs (c10 V) [] rfl rfl ?_
  refine r_aload_n 0 dX0_init_15 rfl rfl rfl ?_
  refine r_new (ci := 2) (N := 15) dX0_init_16 rfl (by decide) q195 q196 q87 ?_
  refine gG_hs (c11 V) [.ref 23, .ref 21] rfl rfl ?_
  refine r_dup dX0_init_19 rfl ?_
  refine r_callIN_0c (mc1 := 10) (ms1 := 297) dX0_init_20 kX0_45 (N_X2_init_23) (by decide) rfl rfl (Nat.le_of_ble_eq_true rfl) ?_
  refine r_putr (k := 1) (some (23)) dX0_init_23 (show hS (c33 V) 21 = .inl 0 from rfl) rfl (by decide) (Or.inl q306) (Or.inl rfl) (Or.inr ⟨rfl, rfl, rfl, q306⟩) rfl rfl ?_
  refine gG_hs (c34 V) [] rfl rfl ?_
  refine r_aload_n 0 dX0_init_26 rfl rfl rfl ?_
  refine r_new (ci := 2) (N := 15) dX0_init_27 rfl (by decide) q195 q196 q87 ?_
  refine gG_hs (c35 V) [.ref 34, .ref 21] rfl rfl ?_
  refine r_dup dX0_init_30 rfl ?_
  refine r_callIN_0c (mc1 := 10) (ms1 := 297) dX0_init_31 kX0_45 (N_X2_init_34) (by decide) rfl rfl (Nat.le_of_ble_eq_true rfl) ?_
  refine r_putr (k := 2) (some (34)) dX0_init_34 (show hS (c57 V) 21 = .inl 0 from rfl) rfl (by decide) (Or.inl q307) (Or.inl rfl) (Or.inr ⟨rfl, rfl, rfl, q307⟩) rfl rfl ?_
  refine gG_hs (c58 V) [] rfl rfl ?_
  refine r_aload_n 0 dX0_init_37 rfl rfl rfl ?_
  refine r_new (ci := 2) (N := 15) dX0_init_38 rfl (by decide) q195 q196 q87 ?_
  refine gG_hs (c59 V) [.ref 45, .ref 21] rfl rfl ?_
  refine r_dup dX0_init_41 rfl ?_
  refine r_callIN_0c (mc1 := 10) (ms1 := 297) dX0_init_42 kX0_45 (N_X2_init_45) (by decide) rfl rfl (Nat.le_of_ble_eq_true rfl) ?_
  refine r_putr (k := 3) (some (45)) dX0_init_45 (show hS (c81 V) 21 = .inl 0 from rfl) rfl (by decide) (Or.inl q308) (Or.inl rfl) (Or.inr ⟨rfl, rfl, rfl, q308⟩) rfl rfl ?_
  refine gG_hs (c82 V) [] rfl rfl ?_
  refine r_aload_n 0 dX0_init_48 rfl rfl rfl ?_
  refine r_new (ci := 4) (N := 2) dX0_init_49 rfl (by decide) q278 q279 q89 ?_
  refine gG_hs (c83 V) [.ref 56, .ref 21] rfl rfl ?_
  refine r_dup dX0_init_52 rfl ?_
  refine r_callIN_0c (mc1 := 1) (ms1 := 40) dX0_init_53 kX0_58 (N_X4_init_56) (by decide) rfl rfl (Nat.le_of_ble_eq_true rfl) ?_
  refine r_putr (k := 5) (some (56)) dX0_init_56 (show hS (c85 V) 21 = .inl 0 from rfl) rfl (by decide) (Or.inl q310) (Or.inl rfl) (Or.inr ⟨rfl, rfl, rfl, q310⟩) rfl rfl ?_
  refine gG_hs (c86 V) [] rfl rfl ?_
  refine r_aload_n 0 dX0_init_59 rfl rfl rfl ?_
  refine r_bipush (v := nI 6) dX0_init_60 (by decide +kernel) ?_
  refine r_newa_int (6) dX0_init_62 q216 (by decide) (by decide) (by decide) ?_
  refine gG_hs (c87 V) [.ref 58, .ref 21] rfl rfl ?_
  refine r_putr (k := 6) (some (58)) dX0_init_64 (show hS (c87 V) 21 = .inl 0 from rfl) rfl (by decide) (Or.inl q311) (Or.inl rfl) (Or.inr ⟨rfl, rfl, rfl, q311⟩) rfl rfl ?_
  refine gG_hs (c88 V) [] rfl rfl ?_
  refine r_aload_n 0 dX0_init_67 rfl rfl rfl ?_
  refine r_iconst (v := nI 4) dX0_init_68 rfl ?_
  refine r_newr (4) 6 (EC := RX5) dX0_init_69 (Or.inr (Or.inr ⟨rfl, rfl⟩)) q293 (by decide) (by decide) (by decide) ?_
  refine gG_hs (c89 V) [.ref 59, .ref 21] rfl rfl ?_
  refine r_putr (k := 7) (some (59)) dX0_init_72 (show hS (c89 V) 21 = .inl 0 from rfl) rfl (by decide) (Or.inl q312) (Or.inl rfl) (Or.inr ⟨rfl, rfl, rfl, q312⟩) rfl rfl ?_
  refine gG_hs (c90 V) [] rfl rfl ?_
  refine r_aload_n 0 dX0_init_75 rfl rfl rfl ?_
  refine r_sipush (v := nI 256) dX0_init_76 (by decide +kernel) ?_
  refine r_newa_boolean (256) dX0_init_79 q304 (by decide) (by decide) (by decide) ?_
  refine gG_hs (c91 V) [.ref 60, .ref 21] rfl rfl ?_
  refine r_putr (k := 8) (some (60)) dX0_init_81 (show hS (c91 V) 21 = .inl 0 from rfl) rfl (by decide) (Or.inl q313) (Or.inl rfl) (Or.inr ⟨rfl, rfl, rfl, q313⟩) rfl rfl ?_
  refine gG_hs (c92 V) [] rfl rfl ?_
  refine r_aload_n 0 dX0_init_84 rfl rfl rfl ?_
  refine r_bipush (v := nI 8) dX0_init_85 (by decide +kernel) ?_
  refine r_newa_int (8) dX0_init_87 q216 (by decide) (by decide) (by decide) ?_
  refine gG_hs (c93 V) [.ref 61, .ref 21] rfl rfl ?_
  refine r_putr (k := 9) (some (61)) dX0_init_89 (show hS (c93 V) 21 = .inl 0 from rfl) rfl (by decide) (Or.inl q314) (Or.inl rfl) (Or.inr ⟨rfl, rfl, rfl, q314⟩) rfl rfl ?_
  refine gG_hs (c94 V) [] rfl rfl ?_
  refine r_iconst (v := nI 0) dX0_init_92 rfl ?_
  refine r_istore_n 1 dX0_init_93 rfl (by decide) rfl ?_
  refine gG_ls (ls' := [_, _]) rfl ?_
  refine r_iload_n 1 dX0_init_94 rfl rfl ?_
  refine r_iconst (v := nI 4) dX0_init_95 rfl ?_
  refine r_icmp_ge 118 dX0_init_96 (by decide) (fun c_96 => ?_) (fun c_96 => ?_)
  · skip
    have n_96 : 4 ≤ 0 := n_ge (by omega) (by omega) c_96
    exact absurd n_96 (by decide)
  · skip
    have n_96 : 0 < 4 := n_gen (by omega) (by omega) c_96
    refine r_aload_n 0 dX0_init_99 rfl rfl rfl ?_
    refine r_getr (k := 7) (b := 59) dX0_init_100 (show hS (c94 V) 21 = .inl 0 from rfl) rfl (by decide) (Or.inl q312) (Or.inl rfl) rfl rfl ?_
    refine r_iload_n 1 dX0_init_103 rfl rfl ?_
    refine r_new (ci := 5) (N := 1) dX0_init_104 rfl (by decide) q293 q295 q90 ?_
    refine gG_hs (c95 V) [.ref 62, .int (nI 0), .ref 59] rfl rfl ?_
    refine r_dup dX0_init_107 rfl ?_
    refine r_callIN_0 dX0_init_108 kX0_80 (N_X5_init_62) (by decide) rfl rfl (Nat.le_of_ble_eq_true rfl) ?_
    refine r_aastN 0 dX0_init_111 (show hS (c95 V) 59 = .inr (6, 4) from rfl) (Or.inr (Or.inr ⟨rfl, rfl⟩)) rfl (by decide) (by decide) (show hS (c95 V) 62 = .inl 5 from rfl) rfl (Or.inl rfl) ?_
    refine gG_hs (c96 V) [] rfl rfl ?_
    refine r_iinc dX0_init_112 rfl (by decide) rfl ?_
    refine gG_ls (ls' := [_, some (.int (nI 1))]) (by rw [show (Int32.ofInt 1) = nI 1 from rfl, nI_add]; rfl) ?_
    refine r_goto 94 dX0_init_115 (by decide) ?_
    refine r_iload_n 1 dX0_init_94 rfl rfl ?_
    refine r_iconst (v := nI 4) dX0_init_95 rfl ?_
    refine r_icmp_ge 118 dX0_init_96 (by decide) (fun c_96 => ?_) (fun c_96 => ?_)
    · skip
      have n_96 : 4 ≤ 1 := n_ge (by omega) (by omega) c_96
      exact absurd n_96 (by decide)
    · skip
      have n_96 : 1 < 4 := n_gen (by omega) (by omega) c_96
      refine r_aload_n 0 dX0_init_99 rfl rfl rfl ?_
      refine r_getr (k := 7) (b := 59) dX0_init_100 (show hS (c96 V) 21 = .inl 0 from rfl) rfl (by decide) (Or.inl q312) (Or.inl rfl) rfl rfl ?_
      refine r_iload_n 1 dX0_init_103 rfl rfl ?_
      refine r_new (ci := 5) (N := 1) dX0_init_104 rfl (by decide) q293 q295 q90 ?_
      refine gG_hs (c97 V) [.ref 63, .int (nI 1), .ref 59] rfl rfl ?_
      refine r_dup dX0_init_107 rfl ?_
      refine r_callIN_0 dX0_init_108 kX0_80 (N_X5_init_63) (by decide) rfl rfl (Nat.le_of_ble_eq_true rfl) ?_
      refine r_aastN 1 dX0_init_111 (show hS (c97 V) 59 = .inr (6, 4) from rfl) (Or.inr (Or.inr ⟨rfl, rfl⟩)) rfl (by decide) (by decide) (show hS (c97 V) 63 = .inl 5 from rfl) rfl (Or.inl rfl) ?_
      refine gG_hs (c98 V) [] rfl rfl ?_
      refine r_iinc dX0_init_112 rfl (by decide) rfl ?_
      refine gG_ls (ls' := [_, some (.int (nI 2))]) (by rw [show (Int32.ofInt 1) = nI 1 from rfl, nI_add]; rfl) ?_
      refine r_goto 94 dX0_init_115 (by decide) ?_
      refine r_iload_n 1 dX0_init_94 rfl rfl ?_
      refine r_iconst (v := nI 4) dX0_init_95 rfl ?_
      refine r_icmp_ge 118 dX0_init_96 (by decide) (fun c_96 => ?_) (fun c_96 => ?_)
      · skip
        have n_96 : 4 ≤ 2 := n_ge (by omega) (by omega) c_96
        exact absurd n_96 (by decide)
      · skip
        have n_96 : 2 < 4 := n_gen (by omega) (by omega) c_96
        refine r_aload_n 0 dX0_init_99 rfl rfl rfl ?_
        refine r_getr (k := 7) (b := 59) dX0_init_100 (show hS (c98 V) 21 = .inl 0 from rfl) rfl (by decide) (Or.inl q312) (Or.inl rfl) rfl rfl ?_
        refine r_iload_n 1 dX0_init_103 rfl rfl ?_
        refine r_new (ci := 5) (N := 1) dX0_init_104 rfl (by decide) q293 q295 q90 ?_
        refine gG_hs (c99 V) [.ref 64, .int (nI 2), .ref 59] rfl rfl ?_
        refine r_dup dX0_init_107 rfl ?_
        refine r_callIN_0 dX0_init_108 kX0_80 (N_X5_init_64) (by decide) rfl rfl (Nat.le_of_ble_eq_true rfl) ?_
        refine r_aastN 2 dX0_init_111 (show hS (c99 V) 59 = .inr (6, 4) from rfl) (Or.inr (Or.inr ⟨rfl, rfl⟩)) rfl (by decide) (by decide) (show hS (c99 V) 64 = .inl 5 from rfl) rfl (Or.inl rfl) ?_
        refine gG_hs (c100 V) [] rfl rfl ?_
        refine r_iinc dX0_init_112 rfl (by decide) rfl ?_
        refine gG_ls (ls' := [_, some (.int (nI 3))]) (by rw [show (Int32.ofInt 1) = nI 1 from rfl, nI_add]; rfl) ?_
        refine r_goto 94 dX0_init_115 (by decide) ?_
        refine r_iload_n 1 dX0_init_94 rfl rfl ?_
        refine r_iconst (v := nI 4) dX0_init_95 rfl ?_
        refine r_icmp_ge 118 dX0_init_96 (by decide) (fun c_96 => ?_) (fun c_96 => ?_)
        · skip
          have n_96 : 4 ≤ 3 := n_ge (by omega) (by omega) c_96
          exact absurd n_96 (by decide)
        · skip
          have n_96 : 3 < 4 := n_gen (by omega) (by omega) c_96
          refine r_aload_n 0 dX0_init_99 rfl rfl rfl ?_
          refine r_getr (k := 7) (b := 59) dX0_init_100 (show hS (c100 V) 21 = .inl 0 from rfl) rfl (by decide) (Or.inl q312) (Or.inl rfl) rfl rfl ?_
          refine r_iload_n 1 dX0_init_103 rfl rfl ?_
          refine r_new (ci := 5) (N := 1) dX0_init_104 rfl (by decide) q293 q295 q90 ?_
          refine gG_hs (c101 V) [.ref 65, .int (nI 3), .ref 59] rfl rfl ?_
          refine r_dup dX0_init_107 rfl ?_
          refine r_callIN_0 dX0_init_108 kX0_80 (N_X5_init_65) (by decide) rfl rfl (Nat.le_of_ble_eq_true rfl) ?_
          refine r_aastN 3 dX0_init_111 (show hS (c101 V) 59 = .inr (6, 4) from rfl) (Or.inr (Or.inr ⟨rfl, rfl⟩)) rfl (by decide) (by decide) (show hS (c101 V) 65 = .inl 5 from rfl) rfl (Or.inl rfl) ?_
          refine gG_hs (c102 V) [] rfl rfl ?_
          refine r_iinc dX0_init_112 rfl (by decide) rfl ?_
          refine gG_ls (ls' := [_, some (.int (nI 4))]) (by rw [show (Int32.ofInt 1) = nI 1 from rfl, nI_add]; rfl) ?_
          refine r_goto 94 dX0_init_115 (by decide) ?_
          refine r_iload_n 1 dX0_init_94 rfl rfl ?_
          refine r_iconst (v := nI 4) dX0_init_95 rfl ?_
          refine r_icmp_ge 118 dX0_init_96 (by decide) (fun c_96 => ?_) (fun c_96 => ?_)
          · skip
            have n_96 : 4 ≤ 4 := n_ge (by omega) (by omega) c_96
            refine e_vret dX0_init_118 rfl ?_
            exact ⟨rfl, rfl⟩
          · skip
            have n_96 : 4 < 4 := n_gen (by omega) (by omega) c_96
            exact absurd n_96 (by decide)
def c103 (V : HV) : Hp := hM (c102 V) (.inl 6)
def c104 (V : HV) : Hp := hM (c103 V) (.inr (0, 281))
def c105 (V : HV) : Hp := wR (c104 V) 66 0 (some 67)
def c106 (V : HV) : Hp := hM (c105 V) (.inr (0, 281))
def c107 (V : HV) : Hp := wR (c106 V) 66 1 (some 68)
def c108 (V : HV) : Hp := hM (c107 V) (.inr (0, 281))
def c109 (V : HV) : Hp := wR (c108 V) 66 2 (some 69)
def c110 (V : HV) : Hp := hM (c109 V) (.inr (0, 281))
def c111 (V : HV) : Hp := wR (c110 V) 66 3 (some 70)
def c112 (V : HV) : Hp := hM (c111 V) (.inr (0, 6))
def c113 (V : HV) : Hp := wR (c112 V) 66 6 (some 71)
def c114 (V : HV) : Hp := wI (c113 V) 66 15 ((-1))
def c115 (V : HV) : Hp := hM (c114 V) (.inr (0, 4))
def c116 (V : HV) : Hp := wR (c115 V) 66 19 (some 72)
def c117 (V : HV) : Hp := hM (c116 V) (.inr (0, 4))
def c118 (V : HV) : Hp := wR (c117 V) 66 20 (some 73)
def c119 (V : HV) : Hp := hM (c118 V) (.inr (0, 160))
def c120 (V : HV) : Hp := wR (c119 V) 66 21 (some 74)
def c121 (V : HV) : Hp := hM (c120 V) (.inr (0, 40))
def c122 (V : HV) : Hp := wR (c121 V) 66 22 (some 75)
def c123 (V : HV) : Hp := hM (c122 V) (.inr (0, 8))
def c124 (V : HV) : Hp := wR (c123 V) 66 23 (some 76)
def c125 (V : HV) : Hp := hM (c124 V) (.inr (0, 40))
def c126 (V : HV) : Hp := wR (c125 V) 66 24 (some 77)
def c127 (V : HV) : Hp := wI (c126 V) 67 1 (nI 1)
def c128 (V : HV) : Hp := wI (c127 V) 67 5 ((-1))
def c129 (V : HV) : Hp := wI (c128 V) 67 6 ((-1))
theorem N_X6_init_66 {d : Nat} {V : HV} : gC (d + 2) (11) (1386) m_X6_init [.ref 66] (c103 V) (Ret none (c129 V)) := by
  refine gC.of (ls := [some (.ref 66)]) (by decide +kernel) rfl rfl rfl rfl (Nat.le_of_ble_eq_true rfl) ?_
  refine r_aload_n 0 dX6_init_0 rfl rfl rfl ?_
  refine r_objInit dX6_init_1 kX6_1 kO_i kO_c (by decide) (by decide) ?_
  refine r_aload_n 0 dX6_init_4 rfl rfl rfl ?_
  refine r_sipush (v := nI 281) dX6_init_5 (by decide +kernel) ?_
  refine r_newa_int (281) dX6_init_8 q216 (by decide) (by decide) (by decide) ?_
  refine gG_hs (c104 V) [.ref 67, .ref 66] rfl rfl ?_
  refine r_putr (k := 0) (some (67)) dX6_init_10 (show hS (c104 V) 66 = .inl 6 from rfl) rfl (by decide) (Or.inl q1416) (Or.inl rfl) (Or.inr ⟨rfl, rfl, rfl, q1416⟩) rfl rfl ?_
  refine gG_hs (c105 V) [] rfl rfl ?_
  refine r_aload_n 0 dX6_init_13 rfl rfl rfl ?_
  refine r_sipush (v := nI 281) dX6_init_14 (by decide +kernel) ?_
  refine r_newa_int (281) dX6_init_17 q216 (by decide) (by decide) (by decide) ?_
  refine gG_hs (c106 V) [.ref 68, .ref 66] rfl rfl ?_
  refine r_putr (k := 1) (some (68)) dX6_init_19 (show hS (c106 V) 66 = .inl 6 from rfl) rfl (by decide) (Or.inl q1417) (Or.inl rfl) (Or.inr ⟨rfl, rfl, rfl, q1417⟩) rfl rfl ?_
  refine gG_hs (c107 V) [] rfl rfl ?_
  refine r_aload_n 0 dX6_init_22 rfl rfl rfl ?_
  refine r_sipush (v := nI 281) dX6_init_23 (by decide +kernel) ?_
  refine r_newa_int (281) dX6_init_26 q216 (by decide) (by decide) (by decide) ?_
  refine gG_hs (c108 V) [.ref 69, .ref 66] rfl rfl ?_
  refine r_putr (k := 2) (some (69)) dX6_init_28 (show hS (c108 V) 66 = .inl 6 from rfl) rfl (by decide) (Or.inl q1418) (Or.inl rfl) (Or.inr ⟨rfl, rfl, rfl, q1418⟩) rfl rfl ?_
  refine gG_hs (c109 V) [] rfl rfl ?_
  refine r_aload_n 0 dX6_init_31 rfl rfl rfl ?_
  refine r_sipush (v := nI 281) dX6_init_32 (by decide +kernel) ?_
  refine r_newa_int (281) dX6_init_35 q216 (by decide) (by decide) (by decide) ?_
  refine gG_hs (c110 V) [.ref 70, .ref 66] rfl rfl ?_
  refine r_putr (k := 3) (some (70)) dX6_init_37 (show hS (c110 V) 66 = .inl 6 from rfl) rfl (by decide) (Or.inl q1419) (Or.inl rfl) (Or.inr ⟨rfl, rfl, rfl, q1419⟩) rfl rfl ?_
  refine gG_hs (c111 V) [] rfl rfl ?_
  refine r_aload_n 0 dX6_init_40 rfl rfl rfl ?_
  refine r_bipush (v := nI 6) dX6_init_41 (by decide +kernel) ?_
  refine r_newa_int (6) dX6_init_43 q216 (by decide) (by decide) (by decide) ?_
  refine gG_hs (c112 V) [.ref 71, .ref 66] rfl rfl ?_
  refine r_putr (k := 6) (some (71)) dX6_init_45 (show hS (c112 V) 66 = .inl 6 from rfl) rfl (by decide) (Or.inl q1422) (Or.inl rfl) (Or.inr ⟨rfl, rfl, rfl, q1422⟩) rfl rfl ?_
  refine gG_hs (c113 V) [] rfl rfl ?_
  refine r_aload_n 0 dX6_init_48 rfl rfl rfl ?_
  refine r_iconst (v := (-1)) dX6_init_49 (by decide +kernel) ?_
  refine r_puti (k := 15) dX6_init_50 (show hS (c113 V) 66 = .inl 6 from rfl) rfl (by decide) (Or.inl q1431) (Or.inl rfl) (Or.inl rfl) rfl rfl rfl ?_
  refine gG_hs (c114 V) [] rfl rfl ?_
  refine r_aload_n 0 dX6_init_53 rfl rfl rfl ?_
  refine r_iconst (v := nI 4) dX6_init_54 rfl ?_
  refine r_newa_int (4) dX6_init_55 q216 (by decide) (by decide) (by decide) ?_
  refine gG_hs (c115 V) [.ref 72, .ref 66] rfl rfl ?_
  refine r_putr (k := 19) (some (72)) dX6_init_57 (show hS (c115 V) 66 = .inl 6 from rfl) rfl (by decide) (Or.inl q1435) (Or.inl rfl) (Or.inr ⟨rfl, rfl, rfl, q1435⟩) rfl rfl ?_
  refine gG_hs (c116 V) [] rfl rfl ?_
  refine r_aload_n 0 dX6_init_60 rfl rfl rfl ?_
  refine r_iconst (v := nI 4) dX6_init_61 rfl ?_
  refine r_newa_int (4) dX6_init_62 q216 (by decide) (by decide) (by decide) ?_
  refine gG_hs (c117 V) [.ref 73, .ref 66] rfl rfl ?_
  refine r_putr (k := 20) (some (73)) dX6_init_64 (show hS (c117 V) 66 = .inl 6 from rfl) rfl (by decide) (Or.inl q1436) (Or.inl rfl) (Or.inr ⟨rfl, rfl, rfl, q1436⟩) rfl rfl ?_
  refine gG_hs (c118 V) [] rfl rfl ?_
  refine r_aload_n 0 dX6_init_67 rfl rfl rfl ?_
  refine r_sipush (v := nI 160) dX6_init_68 (by decide +kernel) ?_
  refine r_newa_int (160) dX6_init_71 q216 (by decide) (by decide) (by decide) ?_
  refine gG_hs (c119 V) [.ref 74, .ref 66] rfl rfl ?_
  refine r_putr (k := 21) (some (74)) dX6_init_73 (show hS (c119 V) 66 = .inl 6 from rfl) rfl (by decide) (Or.inl q1437) (Or.inl rfl) (Or.inr ⟨rfl, rfl, rfl, q1437⟩) rfl rfl ?_
  refine gG_hs (c120 V) [] rfl rfl ?_
  refine r_aload_n 0 dX6_init_76 rfl rfl rfl ?_
  refine r_bipush (v := nI 40) dX6_init_77 (by decide +kernel) ?_
  refine r_newa_int (40) dX6_init_79 q216 (by decide) (by decide) (by decide) ?_
  refine gG_hs (c121 V) [.ref 75, .ref 66] rfl rfl ?_
  refine r_putr (k := 22) (some (75)) dX6_init_81 (show hS (c121 V) 66 = .inl 6 from rfl) rfl (by decide) (Or.inl q1438) (Or.inl rfl) (Or.inr ⟨rfl, rfl, rfl, q1438⟩) rfl rfl ?_
  refine gG_hs (c122 V) [] rfl rfl ?_
  refine r_aload_n 0 dX6_init_84 rfl rfl rfl ?_
  refine r_bipush (v := nI 8) dX6_init_85 (by decide +kernel) ?_
  refine r_newa_int (8) dX6_init_87 q216 (by decide) (by decide) (by decide) ?_
  refine gG_hs (c123 V) [.ref 76, .ref 66] rfl rfl ?_
  refine r_putr (k := 23) (some (76)) dX6_init_89 (show hS (c123 V) 66 = .inl 6 from rfl) rfl (by decide) (Or.inl q1439) (Or.inl rfl) (Or.inr ⟨rfl, rfl, rfl, q1439⟩) rfl rfl ?_
  refine gG_hs (c124 V) [] rfl rfl ?_
  refine r_aload_n 0 dX6_init_92 rfl rfl rfl ?_
  refine r_bipush (v := nI 40) dX6_init_93 (by decide +kernel) ?_
  refine r_newa_int (40) dX6_init_95 q216 (by decide) (by decide) (by decide) ?_
  refine gG_hs (c125 V) [.ref 77, .ref 66] rfl rfl ?_
  refine r_putr (k := 24) (some (77)) dX6_init_97 (show hS (c125 V) 66 = .inl 6 from rfl) rfl (by decide) (Or.inl q1440) (Or.inl rfl) (Or.inr ⟨rfl, rfl, rfl, q1440⟩) rfl rfl ?_
  refine gG_hs (c126 V) [] rfl rfl ?_
  refine r_aload_n 0 dX6_init_100 rfl rfl rfl ?_
  refine r_getr (k := 0) (b := 67) dX6_init_101 (show hS (c126 V) 66 = .inl 6 from rfl) rfl (by decide) (Or.inl q1416) (Or.inl rfl) rfl rfl ?_
  refine r_iconst (v := nI 1) dX6_init_104 rfl ?_
  refine r_iconst (v := nI 1) dX6_init_105 rfl ?_
  refine r_iastN (1) dX6_init_106 (show hS (c126 V) 67 = .inr (0, 281) from rfl) rfl (by omega) (by decide) ?_
  refine gG_hs (c127 V) [] rfl rfl ?_
  refine r_aload_n 0 dX6_init_107 rfl rfl rfl ?_
  refine r_getr (k := 0) (b := 67) dX6_init_108 (show hS (c127 V) 66 = .inl 6 from rfl) rfl (by decide) (Or.inl q1416) (Or.inl rfl) rfl rfl ?_
  refine r_iconst (v := nI 5) dX6_init_111 rfl ?_
  refine r_iconst (v := (-1)) dX6_init_112 (by decide +kernel) ?_
  refine r_iastN (5) dX6_init_113 (show hS (c127 V) 67 = .inr (0, 281) from rfl) rfl (by omega) (by decide) ?_
  refine gG_hs (c128 V) [] rfl rfl ?_
  refine r_aload_n 0 dX6_init_114 rfl rfl rfl ?_
  refine r_getr (k := 0) (b := 67) dX6_init_115 (show hS (c128 V) 66 = .inl 6 from rfl) rfl (by decide) (Or.inl q1416) (Or.inl rfl) rfl rfl ?_
  refine r_bipush (v := nI 6) dX6_init_118 (by decide +kernel) ?_
  refine r_iconst (v := (-1)) dX6_init_120 (by decide +kernel) ?_
  refine r_iastN (6) dX6_init_121 (show hS (c128 V) 67 = .inr (0, 281) from rfl) rfl (by omega) (by decide) ?_
  refine gG_hs (c129 V) [] rfl rfl ?_
  refine e_vret dX6_init_122 rfl ?_
  exact ⟨rfl, rfl⟩
theorem c_N {V : HV} : hN (c129 V) = 78 := rfl
