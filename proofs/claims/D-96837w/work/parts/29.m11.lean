theorem M_bits_L {d : Nat} {h : Hp} {x0 : Int32} {Q : gQ} : ∀ (k : Nat) (v : Int32) (n : Nat), doneB k v = true → n + k ≤ 100 → (∀ y, gG (d) (0) (0) m_X6_bits 20 [some (.int x0), some (.int (nI (bitF k v n))), y] [] (h) (Q)) → gG (d) (0) (0) m_X6_bits 4 [some (.int x0), some (.int (nI n)), some (.int v)] [] (h) (Q) := by
  intro k
  induction k with
  | zero =>
    intro v n hd hk kk
    refine r_iload_n 2 dX6_bits_4 rfl rfl ?_
    refine r_if_eq 20 dX6_bits_5 (by decide) (fun c_5 => ?_) (fun c_5 => ?_)
    · skip
      exact kk _
    · skip
      exact absurd (of_decide_eq_true hd) c_5
  | succ k ih =>
  intro v n hd hk kk
  refine r_iload_n 2 dX6_bits_4 rfl rfl ?_
  refine r_if_eq 20 dX6_bits_5 (by decide) (fun c_5 => ?_) (fun c_5 => ?_)
  · skip
    rw [show bitF (k + 1) v n = n from if_pos c_5] at kk
    exact kk _
  · skip
    rw [show bitF (k + 1) v n = bitF k (v &&& (v - nI 1)) (n + 1) from if_neg c_5] at kk
    refine r_iinc dX6_bits_8 rfl (by decide) rfl ?_
    refine gG_ls (ls' := [_, some (.int (nI ((n + 1)))), _]) (by rw [show (Int32.ofInt 1) = nI 1 from rfl, nI_add]; rfl) ?_
    refine r_iload_n 2 dX6_bits_11 rfl rfl ?_
    refine r_iload_n 2 dX6_bits_12 rfl rfl ?_
    refine r_iconst (v := nI 1) dX6_bits_13 rfl ?_
    refine r_isub dX6_bits_14 ?_
    refine r_iand dX6_bits_15 ?_
    refine r_istore_n 2 dX6_bits_16 rfl (by decide) rfl ?_
    refine gG_ls (ls' := [_, _, _]) rfl ?_
    refine r_goto 4 dX6_bits_17 (by decide) ?_
    exact ih _ (n + 1) (doneB_s hd c_5) (by omega) kk
theorem M_bits {d : Nat} {h : Hp} {s : Nat} (hs : s < 256) : gC (d) (0) (0) m_X6_bits [.int (nI s)] (h) (Ret (some (.int (nI (bitN s)))) h) := by
  refine gC.of (ls := [some (.int (nI s)), none, none]) (by decide +kernel) rfl rfl rfl rfl (Nat.le_of_ble_eq_true rfl) ?_
  refine r_iconst (v := nI 0) dX6_bits_0 rfl ?_
  refine r_istore_n 1 dX6_bits_1 rfl (by decide) rfl ?_
  refine gG_ls (ls' := [_, _, _]) rfl ?_
  refine r_iload_n 0 dX6_bits_2 rfl rfl ?_
  refine r_istore_n 2 dX6_bits_3 rfl (by decide) rfl ?_
  refine gG_ls (ls' := [_, _, _]) rfl ?_
  refine M_bits_L 9 (nI s) 0 (doneB_256 s hs) (by omega) (fun y => ?_)
  refine r_iload_n 1 dX6_bits_20 rfl rfl ?_
  refine e_iret dX6_bits_21 rfl ?_
  exact ⟨rfl, rfl⟩
theorem M_cover_L0 {d : Nat} {h : Hp} (hm : LayM (hS h) (hR h)) {r o : Row} {n : Nat} (hK : RowK r) (hn : r 2 = nI n) (hn8 : n ≤ 8) {x1 : Int32} {Q : gQ} : ∀ (k i : Nat), i ≤ n → n + 1 ≤ i + k → (gG (d + 2) (0) (0) m_X6_cover 33 [some (.ref 66), some (.int x1), some (.int (drkS r (n))), some (.int (nI n)), none, none, none] [] (MH h r o) (Q)) → gG (d + 2) (0) (0) m_X6_cover 9 [some (.ref 66), some (.int x1), some (.int (drkS r (i))), some (.int (nI i)), none, none, none] [] (MH h r o) (Q) := by
  intro k
  induction k with
  | zero => exact fun i h1 h2 => absurd h2 (by omega)
  | succ k ih =>
  intro i hi hk kk
  refine r_iload_n 3 dX6_cover_9 rfl rfl ?_
  refine r_aload_n 0 dX6_cover_10 rfl rfl rfl ?_
  refine r_getr (k := 0) (b := 67) dX6_cover_11 hm.s66 rfl (by decide) (Or.inl q1416) (Or.inl rfl) rfl hm.r_row ?_
  refine r_iconst (v := nI 2) dX6_cover_14 rfl ?_
  refine r_ialdN (2) dX6_cover_15 hm.s67 rfl (by omega) (by decide) ?_
  refine r_eqi (show _ = nI (n) from hn) ?_
  refine r_icmp_ge 33 dX6_cover_16 (by decide) (fun c_16 => ?_) (fun c_16 => ?_)
  · skip
    have n_16 : n ≤ i := n_ge (by omega) (by omega) c_16
    have hin : i = n := by omega
    subst hin
    exact kk
  · skip
    have n_16 : i < n := n_gen (by omega) (by omega) c_16
    obtain ⟨k9, m9, hk, h7, -, -⟩ := hK i (by omega)
    refine r_iload_n 2 dX6_cover_19 rfl rfl ?_
    refine r_aload_n 0 dX6_cover_20 rfl rfl rfl ?_
    refine r_iload_n 3 dX6_cover_21 rfl rfl ?_
    refine r_callV_1 dX6_cover_22 kX6_69 (M_drinks (p := i) hm (by omega) hk h7) (gRecv.of hm.s66 rfl) rfl rfl (Nat.le_of_ble_eq_true rfl) ?_
    rw [show drinkV k9 = drinkV (kindN r i) from by rw [kindN_of hk h7]]
    refine r_iadd dX6_cover_25 ?_
    refine r_istore_n 2 dX6_cover_26 rfl (by decide) rfl ?_
    refine gG_ls (ls' := [_, _, _, _, _, _, _]) rfl ?_
    refine r_iinc dX6_cover_27 rfl (by decide) rfl ?_
    refine gG_ls (ls' := [_, _, _, some (.int (nI ((i + 1)))), _, _, _]) (by rw [show (Int32.ofInt 1) = nI 1 from rfl, nI_add]; rfl) ?_
    refine r_goto 9 dX6_cover_30 (by decide) ?_
    exact ih (i + 1) (by omega) (by omega) kk
theorem M_cover_L1 {d : Nat} {h : Hp} (hm : LayM (hS h) (hR h)) {r o : Row} {n : Nat} (hK : RowK r) (hn : r 2 = nI n) (hn8 : n ≤ 8) {x1 x2 x3 : Option Value} {s : Nat} (hs : s < 256) {Q : gQ} : ∀ (k i : Nat), i ≤ n → n + 1 ≤ i + k → (gG (d + 2) (0) (0) m_X6_cover 100 [some (.ref 66), x1, x2, x3, some (.int (nI s)), some (.int (filS r s (n))), some (.int (nI n))] [] (MH h r o) (Q)) → gG (d + 2) (0) (0) m_X6_cover 57 [some (.ref 66), x1, x2, x3, some (.int (nI s)), some (.int (filS r s (i))), some (.int (nI i))] [] (MH h r o) (Q) := by
  intro k
  induction k with
  | zero => exact fun i h1 h2 => absurd h2 (by omega)
  | succ k ih =>
  intro i hi hk kk
  refine r_iload dX6_cover_57 rfl ?_
  refine r_aload_n 0 dX6_cover_59 rfl rfl rfl ?_
  refine r_getr (k := 0) (b := 67) dX6_cover_60 hm.s66 rfl (by decide) (Or.inl q1416) (Or.inl rfl) rfl hm.r_row ?_
  refine r_iconst (v := nI 2) dX6_cover_63 rfl ?_
  refine r_ialdN (2) dX6_cover_64 hm.s67 rfl (by omega) (by decide) ?_
  refine r_eqi (show _ = nI (n) from hn) ?_
  refine r_icmp_ge 100 dX6_cover_65 (by decide) (fun c_65 => ?_) (fun c_65 => ?_)
  · skip
    have n_65 : n ≤ i := n_ge (by omega) (by omega) c_65
    have hin : i = n := by omega
    subst hin
    exact kk
  · skip
    have n_65 : i < n := n_gen (by omega) (by omega) c_65
    refine r_iload dX6_cover_68 rfl ?_
    refine r_iload dX6_cover_70 rfl ?_
    refine r_iload dX6_cover_72 rfl ?_
    refine r_ishr dX6_cover_74 ?_
    refine r_iconst (v := nI 1) dX6_cover_75 rfl ?_
    refine r_iand dX6_cover_76 ?_
    refine r_iconst (v := nI 1) dX6_cover_77 rfl ?_
    refine r_icmp_ne 90 dX6_cover_78 (by decide) (fun c_78 => ?_) (fun c_78 => ?_)
    · skip
      refine r_iconst (v := nI 0) dX6_cover_90 rfl ?_
      refine r_iadd dX6_cover_91 ?_
      refine r_istore dX6_cover_92 (by decide) rfl ?_
      refine gG_ls (ls' := [_, _, _, _, _, _, _]) rfl ?_
      refine r_iinc dX6_cover_94 rfl (by decide) rfl ?_
      refine gG_ls (ls' := [_, _, _, _, _, _, some (.int (nI ((i + 1))))]) (by rw [show (Int32.ofInt 1) = nI 1 from rfl, nI_add]; rfl) ?_
      refine r_goto 57 dX6_cover_97 (by decide) ?_
      refine gG_ls (ls' := [_, _, _, _, _, some (.int (filS r s (i + 1))), _]) (by rw [filS_f c_78]) ?_
      exact ih (i + 1) (by omega) (by omega) kk
    · skip
      obtain ⟨k9, m9, hk, h7, -, -⟩ := hK i (by omega)
      refine r_aload_n 0 dX6_cover_81 rfl rfl rfl ?_
      refine r_iload dX6_cover_82 rfl ?_
      refine r_callV_1 dX6_cover_84 kX6_66 (M_fills (p := i) hm (by omega) hk h7) (gRecv.of hm.s66 rfl) rfl rfl (Nat.le_of_ble_eq_true rfl) ?_
      rw [show fillV k9 (pv r i 1) = fillV (kindN r i) (pv r i 1) from by rw [kindN_of hk h7]]
      refine r_goto 91 dX6_cover_87 (by decide) ?_
      refine r_iadd dX6_cover_91 ?_
      refine r_istore dX6_cover_92 (by decide) rfl ?_
      refine gG_ls (ls' := [_, _, _, _, _, _, _]) rfl ?_
      refine r_iinc dX6_cover_94 rfl (by decide) rfl ?_
      refine gG_ls (ls' := [_, _, _, _, _, _, some (.int (nI ((i + 1))))]) (by rw [show (Int32.ofInt 1) = nI 1 from rfl, nI_add]; rfl) ?_
      refine r_goto 57 dX6_cover_97 (by decide) ?_
      refine gG_ls (ls' := [_, _, _, _, _, some (.int (filS r s (i + 1))), _]) (by rw [filS_t c_78]) ?_
      exact ih (i + 1) (by omega) (by omega) kk
theorem M_cover_L2 {d : Nat} {h : Hp} (hm : LayM (hS h) (hR h)) {r o : Row} {n : Nat} (hK : RowK r) (hn : r 2 = nI n) (hn8 : n ≤ 8) {g t : Int32} {T : Nat} (hT : T ≤ 256) (hsh : nI 1 <<< (nI n &&& 31) = nI T) {Q : gQ} : ∀ (k i : Nat) (y5 y6 : Option Value), i ≤ T → T + 1 ≤ i + k → (∀ y5 y6, gG (d + 2) (0) (0) m_X6_cover 140 [some (.ref 66), some (.int g), some (.int t), some (.int (frI (covF (coOk r g t n) (T)))), some (.int (nI T)), y5, y6] [] (MH h r o) (Q)) → gG (d + 2) (0) (0) m_X6_cover 38 [some (.ref 66), some (.int g), some (.int t), some (.int (frI (covF (coOk r g t n) (i)))), some (.int (nI i)), y5, y6] [] (MH h r o) (Q) := by
  intro k
  induction k with
  | zero => exact fun i y5 y6 h1 h2 => absurd h2 (by omega)
  | succ k ih =>
  intro i y5 y6 hi hk kk
  refine r_iload dX6_cover_38 rfl ?_
  refine r_iconst (v := nI 1) dX6_cover_40 rfl ?_
  refine r_aload_n 0 dX6_cover_41 rfl rfl rfl ?_
  refine r_getr (k := 0) (b := 67) dX6_cover_42 hm.s66 rfl (by decide) (Or.inl q1416) (Or.inl rfl) rfl hm.r_row ?_
  refine r_iconst (v := nI 2) dX6_cover_45 rfl ?_
  refine r_ialdN (2) dX6_cover_46 hm.s67 rfl (by omega) (by decide) ?_
  refine r_eqi (show _ = nI (n) from hn) ?_
  refine r_ishl dX6_cover_47 ?_
  refine r_eqi (show _ = nI (T) from hsh) ?_
  refine r_icmp_ge 140 dX6_cover_48 (by decide) (fun c_48 => ?_) (fun c_48 => ?_)
  · skip
    have n_48 : T ≤ i := n_ge (by omega) (by omega) c_48
    have hin : i = T := by omega
    subst hin
    exact kk _ _
  · skip
    have n_48 : i < T := n_gen (by omega) (by omega) c_48
    refine r_iconst (v := nI 0) dX6_cover_51 rfl ?_
    refine r_istore dX6_cover_52 (by decide) rfl ?_
    refine gG_ls (ls' := [_, _, _, _, _, _, _]) rfl ?_
    refine r_iconst (v := nI 0) dX6_cover_54 rfl ?_
    refine r_istore dX6_cover_55 (by decide) rfl ?_
    refine gG_ls (ls' := [_, _, _, _, _, _, _]) rfl ?_
    refine M_cover_L1 hm hK hn hn8 (s := i) (by omega) (n + 1) 0 (by omega) (by omega) ?_
    refine r_iload dX6_cover_100 rfl ?_
    refine r_iload_n 1 dX6_cover_102 rfl rfl ?_
    refine r_iconst (v := (-1)) dX6_cover_103 (by decide +kernel) ?_
    refine r_ixor dX6_cover_104 ?_
    refine r_iand dX6_cover_105 ?_
    refine r_if_ne 134 dX6_cover_106 (by decide) (fun c_106 => ?_) (fun c_106 => ?_)
    · skip
      refine r_iinc dX6_cover_134 rfl (by decide) rfl ?_
      refine gG_ls (ls' := [_, _, _, _, some (.int (nI ((i + 1)))), _, _]) (by rw [show (Int32.ofInt 1) = nI 1 from rfl, nI_add]; rfl) ?_
      refine r_goto 38 dX6_cover_137 (by decide) ?_
      refine gG_ls (ls' := [_, _, _, some (.int (frI (covF (coOk r g t n) (i + 1)))), _, _, _]) (by rw [covF_n (coOk_f1 c_106)]) ?_
      exact ih (i + 1) _ _ (by omega) (by omega) kk
    · skip
      refine r_iload dX6_cover_109 rfl ?_
      refine r_iload_n 2 dX6_cover_111 rfl rfl ?_
      refine r_icmp_lt 134 dX6_cover_112 (by decide) (fun c_112 => ?_) (fun c_112 => ?_)
      · skip
        refine r_iinc dX6_cover_134 rfl (by decide) rfl ?_
        refine gG_ls (ls' := [_, _, _, _, some (.int (nI ((i + 1)))), _, _]) (by rw [show (Int32.ofInt 1) = nI 1 from rfl, nI_add]; rfl) ?_
        refine r_goto 38 dX6_cover_137 (by decide) ?_
        refine gG_ls (ls' := [_, _, _, some (.int (frI (covF (coOk r g t n) (i + 1)))), _, _, _]) (by rw [covF_n (coOk_f2 c_112)]) ?_
        exact ih (i + 1) _ _ (by omega) (by omega) kk
      · skip
        rcases hb : covF (coOk r g t n) i with _ | b
        · skip
          have hfr : frI none = -1 := rfl
          rw [hfr]
          refine r_iload_n 3 dX6_cover_115 rfl rfl ?_
          refine r_if_lt 131 dX6_cover_116 (by decide) (fun c_116 => ?_) (fun c_116 => ?_)
          · skip
            refine r_iload dX6_cover_131 rfl ?_
            refine r_istore_n 3 dX6_cover_133 rfl (by decide) rfl ?_
            refine gG_ls (ls' := [_, _, _, _, _, _, _]) rfl ?_
            refine r_iinc dX6_cover_134 rfl (by decide) rfl ?_
            refine gG_ls (ls' := [_, _, _, _, some (.int (nI ((i + 1)))), _, _]) (by rw [show (Int32.ofInt 1) = nI 1 from rfl, nI_add]; rfl) ?_
            refine r_goto 38 dX6_cover_137 (by decide) ?_
            refine gG_ls (ls' := [_, _, _, some (.int (frI (covF (coOk r g t n) (i + 1)))), _, _, _]) (by rw [covF_1 (coOk_t c_106 (i_le_nlt (i_nlt c_112))) hb]; rfl) ?_
            exact ih (i + 1) _ _ (by omega) (by omega) kk
          · skip
            exact absurd (by decide) c_116
        · skip
          have hfr : frI (some b) = nI b := rfl
          rw [hfr]
          have hbs : b < i := covF_lt hb
          refine r_iload_n 3 dX6_cover_115 rfl rfl ?_
          refine r_if_lt 131 dX6_cover_116 (by decide) (fun c_116 => ?_) (fun c_116 => ?_)
          · skip
            have n_116 : False := n_lt0 (by omega) c_116
            exact n_116.elim
          · skip
            have n_116 : True := n_lt0n (by omega) c_116
            refine r_iload dX6_cover_119 rfl ?_
            refine r_callS_1 dX6_cover_121 kX6_243 (M_bits (s := i) (by omega))  rfl rfl (Nat.le_of_ble_eq_true rfl) ?_
            refine r_iload_n 3 dX6_cover_124 rfl rfl ?_
            refine r_callS_1 dX6_cover_125 kX6_243 (M_bits (s := b) (by omega))  rfl rfl (Nat.le_of_ble_eq_true rfl) ?_
            have hb1 := bitN_le (s := i)
            have hb2 := bitN_le (s := b)
            refine r_icmp_ge 134 dX6_cover_128 (by decide) (fun c_128 => ?_) (fun c_128 => ?_)
            · skip
              have n_128 : (bitN b) ≤ (bitN i) := n_ge (by omega) (by omega) c_128
              refine r_iinc dX6_cover_134 rfl (by decide) rfl ?_
              refine gG_ls (ls' := [_, _, _, _, some (.int (nI ((i + 1)))), _, _]) (by rw [show (Int32.ofInt 1) = nI 1 from rfl, nI_add]; rfl) ?_
              refine r_goto 38 dX6_cover_137 (by decide) ?_
              refine gG_ls (ls' := [_, _, _, some (.int (frI (covF (coOk r g t n) (i + 1)))), _, _, _]) (by rw [covF_3 hb (Nat.not_lt.mpr n_128), hb]; rfl) ?_
              exact ih (i + 1) _ _ (by omega) (by omega) kk
            · skip
              have n_128 : (bitN i) < (bitN b) := n_gen (by omega) (by omega) c_128
              refine r_iload dX6_cover_131 rfl ?_
              refine r_istore_n 3 dX6_cover_133 rfl (by decide) rfl ?_
              refine gG_ls (ls' := [_, _, _, _, _, _, _]) rfl ?_
              refine r_iinc dX6_cover_134 rfl (by decide) rfl ?_
              refine gG_ls (ls' := [_, _, _, _, some (.int (nI ((i + 1)))), _, _]) (by rw [show (Int32.ofInt 1) = nI 1 from rfl, nI_add]; rfl) ?_
              refine r_goto 38 dX6_cover_137 (by decide) ?_
              refine gG_ls (ls' := [_, _, _, some (.int (frI (covF (coOk r g t n) (i + 1)))), _, _, _]) (by rw [covF_2 (coOk_t c_106 c_112) hb n_128]; rfl) ?_
              exact ih (i + 1) _ _ (by omega) (by omega) kk
theorem A_cover {d : Nat} {h : Hp} (hm : LayM (hS h) (hR h)) {r o : Row} (w : WF r) (ho : o 15 = -1)  : gC (d + 421) (0) (0) m_X6_cover [.ref 66] (MH h r o) (RA h (aCover (mS h r o))) := by
  have e_0 : aCover (mS h r o) = (coA (mS h r o) (coX r)) := rfl
  rw [e_0]
  have hn8 := w.n8
  obtain ⟨hsh, hT⟩ := shl_n (np r) w.n8
  have hcx0 : coX r = covF (coOk r (givenSet r (np r)) (drkS r (np r)) (np r)) (2 ^ np r) := rfl
  obtain ⟨T, hTe⟩ : ∃ T, 2 ^ np r = T := ⟨_, rfl⟩
  rw [hTe] at hsh hT hcx0
  refine gC.of (ls := [some (.ref 66), none, none, none, none, none, none]) (by decide +kernel) rfl rfl rfl rfl (Nat.le_of_ble_eq_true rfl) ?_
  refine r_aload_n 0 dX6_cover_0 rfl rfl rfl ?_
  refine r_callV_1m dX6_cover_1 kX6_240 (M_givenSet (n := np r) hm w.T w.n w.n8) (gRecv.of hm.s66 rfl) rfl rfl (Nat.le_of_ble_eq_true rfl) (fun o_1 j_1 => ?_)
  refine r_istore_n 1 dX6_cover_4 rfl (by decide) rfl ?_
  refine gG_ls (ls' := [_, _, _, _, _, _, _]) rfl ?_
  refine r_iconst (v := nI 0) dX6_cover_5 rfl ?_
  refine r_istore_n 2 dX6_cover_6 rfl (by decide) rfl ?_
  refine gG_ls (ls' := [_, _, _, _, _, _, _]) rfl ?_
  refine r_iconst (v := nI 0) dX6_cover_7 rfl ?_
  refine r_istore_n 3 dX6_cover_8 rfl (by decide) rfl ?_
  refine gG_ls (ls' := [_, _, _, _, _, _, _]) rfl ?_
  refine M_cover_L0 hm w.K w.n w.n8 (np r + 1) 0 (by omega) (by omega) ?_
  refine r_iconst (v := (-1)) dX6_cover_33 (by decide +kernel) ?_
  refine r_istore_n 3 dX6_cover_34 rfl (by decide) rfl ?_
  refine gG_ls (ls' := [_, _, _, _, _, _, _]) rfl ?_
  refine r_iconst (v := nI 0) dX6_cover_35 rfl ?_
  refine r_istore dX6_cover_36 (by decide) rfl ?_
  refine gG_ls (ls' := [_, _, _, _, _, _, _]) rfl ?_
  refine M_cover_L2 hm w.K w.n w.n8 (g := (givenSet r (np r))) (t := (drkS r (np r))) hT hsh (T + 1) 0 _ _ (by omega) (by omega) (fun y5 y6 => ?_)
  rcases hb : covF (coOk r (givenSet r (np r)) (drkS r (np r)) (np r)) T with _ | b
  · skip
    have hfr : frI none = -1 := rfl
    rw [hfr]
    rw [hcx0.trans hb]
    rw [show coA (mS h r o) none = errA (mS h r o) (-1000000002) 2 from rfl]
    refine r_iload_n 3 dX6_cover_140 rfl rfl ?_
    refine r_if_ge 153 dX6_cover_141 (by decide) (fun c_141 => ?_) (fun c_141 => ?_)
    · skip
      first | rw [iP c_141] | rw [iN c_141] | rw [iN (i_le_nlt c_141)] | rw [iP (i_nle c_141)] | rw [iP (i_nlt c_141)] | rw [iN (i_lt_nle c_141)] | skip
      exact absurd c_141 (by decide)
    · skip
      first | rw [iP c_141] | rw [iN c_141] | rw [iN (i_le_nlt c_141)] | rw [iP (i_nle c_141)] | rw [iP (i_nlt c_141)] | rw [iN (i_lt_nle c_141)] | skip
      refine r_aload_n 0 dX6_cover_144 rfl rfl rfl ?_
      refine r_ldc (v := -1000000002) dX6_cover_145 q1735 ?_
      refine r_callV_1 dX6_cover_147 kX6_53 (M_errs hm (e := (-1000000002 : Int32)) 2 (by decide +kernel) (by decide)) (gRecv.of hm.s66 rfl) rfl rfl (Nat.le_of_ble_eq_true rfl) ?_
      refine r_goto 154 dX6_cover_150 (by decide) ?_
      refine e_iret dX6_cover_154 rfl ?_
      exact RA.mk ((Jo.r).t j_1) ho ((FrM.r).b (by decide)) (rfl) (rfl)
  · skip
    have hfr : frI (some b) = nI b := rfl
    rw [hfr]
    have hbs : b < T := covF_lt hb
    rw [hcx0.trans hb]
    refine r_iload_n 3 dX6_cover_140 rfl rfl ?_
    refine r_if_ge 153 dX6_cover_141 (by decide) (fun c_141 => ?_) (fun c_141 => ?_)
    · skip
      have n_141 : True := n_ge0 (by omega) c_141
      first | rw [iP n_141] | rw [iN n_141] | rw [iN (Nat.not_lt.mpr n_141)] | rw [iN (Nat.not_le.mpr n_141)] | skip
      refine r_iload_n 3 dX6_cover_153 rfl rfl ?_
      refine e_iret dX6_cover_154 rfl ?_
      exact RA.mk ((Jo.r).t j_1) ho (FrM.r) (rfl) (rfl)
    · skip
      have n_141 : False := n_ge0n (by omega) c_141
      first | rw [iP n_141] | rw [iN n_141] | rw [iN (Nat.not_lt.mpr n_141)] | rw [iN (Nat.not_le.mpr n_141)] | skip
      exact n_141.elim
theorem M_gives {d : Nat} {h : Hp} {u t : Int32} : gC (d) (0) (0) m_X6_gives [.int u, .int t] (h) (Ret (some (.int (b2 (givB u t)))) h) := by
  refine gC.of (ls := [some (.int u), some (.int t)]) (by decide +kernel) rfl rfl rfl rfl (Nat.le_of_ble_eq_true rfl) ?_
  refine r_iload_n 0 dX6_gives_0 rfl rfl ?_
  refine r_iconst (v := nI 4) dX6_gives_1 rfl ?_
  refine r_ishr dX6_gives_2 ?_
  refine r_iload_n 1 dX6_gives_3 rfl rfl ?_
  refine r_iand dX6_gives_4 ?_
  refine r_iload_n 0 dX6_gives_5 rfl rfl ?_
  refine r_bipush (v := nI 15) dX6_gives_6 (by decide +kernel) ?_
  refine r_iand dX6_gives_8 ?_
  refine r_icmp_ne 16 dX6_gives_9 (by decide) (fun c_9 => ?_) (fun c_9 => ?_)
  · skip
    refine r_iconst (v := nI 0) dX6_gives_16 rfl ?_
    refine e_zret dX6_gives_17 rfl (by decide) ?_
    exact ⟨by rw [show givB u t = false from decide_eq_false c_9]; rfl, rfl⟩
  · skip
    refine r_iconst (v := nI 1) dX6_gives_12 rfl ?_
    refine r_goto 17 dX6_gives_13 (by decide) ?_
    refine e_zret dX6_gives_17 rfl (by decide) ?_
    exact ⟨by rw [show givB u t = true from decide_eq_true c_9]; rfl, rfl⟩
theorem M_fits_L {d : Nat} {h : Hp} (hm : LayM (hS h) (hR h)) {r o : Row} {n s z : Nat} {u : Int32} (hn : r 2 = nI n) (hn8 : n ≤ 8) (hs : s < 4) (hzz : hI h 73 s = nI z) (hz4 : z ≤ 40) {Q : gQ} : ∀ (k i : Nat) (y : Option Value), i ≤ n → i ≤ z → 41 ≤ i + k → (∀ (i9 : Nat) (y : Option Value), gG (d + 1) (0) (0) m_X6_fits 109 [some (.ref 66), some (.int (nI s)), some (.int u), some (.int (b2 (fitA (ruB u) (ftP r (hI h 74) s u) (min n z)))), some (.int (nI i9)), y] [] (MH h r o) (Q)) → gG (d + 1) (0) (0) m_X6_fits 22 [some (.ref 66), some (.int (nI s)), some (.int u), some (.int (b2 (fitA (ruB u) (ftP r (hI h 74) s u) i))), some (.int (nI i)), y] [] (MH h r o) (Q) := by
  intro k
  induction k with
  | zero => exact fun i y h1 h2 h3 => absurd h3 (by omega)
  | succ k ih =>
  intro i y hi hiz hk kk
  refine r_iload dX6_fits_22 rfl ?_
  refine r_aload_n 0 dX6_fits_24 rfl rfl rfl ?_
  refine r_getr (k := 0) (b := 67) dX6_fits_25 hm.s66 rfl (by decide) (Or.inl q1416) (Or.inl rfl) rfl hm.r_row ?_
  refine r_iconst (v := nI 2) dX6_fits_28 rfl ?_
  refine r_ialdN (2) dX6_fits_29 hm.s67 rfl (by omega) (by decide) ?_
  refine r_eqi (show _ = nI (n) from hn) ?_
  refine r_icmp_ge 109 dX6_fits_30 (by decide) (fun c_30 => ?_) (fun c_30 => ?_)
  · skip
    have n_30 : n ≤ i := n_ge (by omega) (by omega) c_30
    refine gG_ls (ls' := [_, _, _, some (.int (b2 (fitA (ruB u) (ftP r (hI h 74) s u) (min n z)))), _, _]) (by rw [show min n z = i from by omega]) ?_
    exact kk _ _
  · skip
    have n_30 : i < n := n_gen (by omega) (by omega) c_30
    refine r_iload dX6_fits_33 rfl ?_
    refine r_aload_n 0 dX6_fits_35 rfl rfl rfl ?_
    refine r_getr (k := 20) (b := 73) dX6_fits_36 hm.s66 rfl (by decide) (Or.inl q1436) (Or.inl rfl) rfl hm.r_sizeOf ?_
    refine r_iload_n 1 dX6_fits_39 rfl rfl ?_
    refine r_ialdN (s) dX6_fits_40 hm.s73 rfl (by omega) (by decide) ?_
    refine r_eqi (show _ = nI (z) from hzz) ?_
    refine r_icmp_ge 109 dX6_fits_41 (by decide) (fun c_41 => ?_) (fun c_41 => ?_)
    · skip
      have n_41 : z ≤ i := n_ge (by omega) (by omega) c_41
      refine gG_ls (ls' := [_, _, _, some (.int (b2 (fitA (ruB u) (ftP r (hI h 74) s u) (min n z)))), _, _]) (by rw [show min n z = i from by omega]) ?_
      exact kk _ _
    · skip
      have n_41 : i < z := n_gen (by omega) (by omega) c_41
      refine r_iload_n 3 dX6_fits_44 rfl rfl ?_
      refine r_if_eq 109 dX6_fits_45 (by decide) (fun c_45 => ?_) (fun c_45 => ?_)
      · skip
        have n_45 : (fitA (ruB u) (ftP r (hI h 74) s u) i) = false := b2_f c_45
        refine gG_ls (ls' := [_, _, _, some (.int (b2 (fitA (ruB u) (ftP r (hI h 74) s u) (min n z)))), _, _]) (by rw [fitA_f n_45 (min n z) (by omega), n_45]) ?_
        exact kk _ _
      · skip
        have n_45 : (fitA (ruB u) (ftP r (hI h 74) s u) i) = true := b2_t c_45
        refine r_aload_n 0 dX6_fits_48 rfl rfl rfl ?_
        refine r_getr (k := 21) (b := 74) dX6_fits_49 hm.s66 rfl (by decide) (Or.inl q1437) (Or.inl rfl) rfl hm.r_sheets ?_
        refine r_bipush (v := nI 40) dX6_fits_52 (by decide +kernel) ?_
        refine r_iload_n 1 dX6_fits_54 rfl rfl ?_
        refine r_imul dX6_fits_55 ?_
        refine r_eqi (show _ = nI (40 * s) from by simp only [pk_mul, nI_add]) ?_
        refine r_iload dX6_fits_56 rfl ?_
        refine r_iadd dX6_fits_58 ?_
        refine r_ialdN (((40 * s) + i)) dX6_fits_59 hm.s74 (by simp only [pk_mul, nI_add]) (by omega) (by decide) ?_
        refine r_eqi (show _ = (hI h 74 (40 * s + i)) from rfl) ?_
        refine r_istore dX6_fits_60 (by decide) rfl ?_
        refine gG_ls (ls' := [_, _, _, _, _, _]) rfl ?_
        refine r_iload dX6_fits_62 rfl ?_
        refine r_iconst (v := nI 0) dX6_fits_64 rfl ?_
        refine r_iconst (v := nI 1) dX6_fits_65 rfl ?_
        refine r_callS_1 dX6_fits_66 kX6_48 (M_in)  rfl rfl (Nat.le_of_ble_eq_true rfl) ?_
        refine r_if_eq 97 dX6_fits_69 (by decide) (fun c_69 => ?_) (fun c_69 => ?_)
        · skip
          have n_69 : (inB (hI h 74 (40 * s + i)) (nI 0) (nI 1)) = false := b2_f c_69
          refine r_iconst (v := nI 1) dX6_fits_97 rfl ?_
          refine r_goto 102 dX6_fits_98 (by decide) ?_
          refine r_istore_n 3 dX6_fits_102 rfl (by decide) rfl ?_
          refine gG_ls (ls' := [_, _, _, _, _, _]) rfl ?_
          refine r_iinc dX6_fits_103 rfl (by decide) rfl ?_
          refine gG_ls (ls' := [_, _, _, _, some (.int (nI ((i + 1)))), _]) (by rw [show (Int32.ofInt 1) = nI 1 from rfl, nI_add]; rfl) ?_
          refine r_goto 22 dX6_fits_106 (by decide) ?_
          refine gG_ls (ls' := [_, _, _, some (.int (b2 (fitA (ruB u) (ftP r (hI h 74) s u) (i + 1)))), _, _]) (by rw [fitA_s n_45 (ftP_o n_69)]; rfl) ?_
          exact ih (i + 1) _ (by omega) (by omega) (by omega) kk
        · skip
          have n_69 : (inB (hI h 74 (40 * s + i)) (nI 0) (nI 1)) = true := b2_t c_69
          refine r_iload_n 2 dX6_fits_72 rfl rfl ?_
          refine r_aload_n 0 dX6_fits_73 rfl rfl rfl ?_
          refine r_iload dX6_fits_74 rfl ?_
          refine r_iconst (v := nI 2) dX6_fits_76 rfl ?_
          refine r_callV_1 dX6_fits_77 kX6_75 (M_its (p := i) (w := 2) hm (by omega)) (gRecv.of hm.s66 rfl) rfl rfl (Nat.le_of_ble_eq_true rfl) ?_
          refine r_callS_1 dX6_fits_80 kX6_225 (M_gives (u := u) (t := (pv r i 2)))  rfl rfl (Nat.le_of_ble_eq_true rfl) ?_
          refine r_iload dX6_fits_83 rfl ?_
          refine r_iconst (v := nI 1) dX6_fits_85 rfl ?_
          refine r_icmp_ne 93 dX6_fits_86 (by decide) (fun c_86 => ?_) (fun c_86 => ?_)
          · skip
            refine r_iconst (v := nI 0) dX6_fits_93 rfl ?_
            refine r_icmp_ne 101 dX6_fits_94 (by decide) (fun c_94 => ?_) (fun c_94 => ?_)
            · skip
              refine r_iconst (v := nI 0) dX6_fits_101 rfl ?_
              refine r_istore_n 3 dX6_fits_102 rfl (by decide) rfl ?_
              refine gG_ls (ls' := [_, _, _, _, _, _]) rfl ?_
              refine r_iinc dX6_fits_103 rfl (by decide) rfl ?_
              refine gG_ls (ls' := [_, _, _, _, some (.int (nI ((i + 1)))), _]) (by rw [show (Int32.ofInt 1) = nI 1 from rfl, nI_add]; rfl) ?_
              refine r_goto 22 dX6_fits_106 (by decide) ?_
              refine gG_ls (ls' := [_, _, _, some (.int (b2 (fitA (ruB u) (ftP r (hI h 74) s u) (i + 1)))), _, _]) (by rw [fitA_s n_45 (ftP_01 n_69 c_86 c_94)]; rfl) ?_
              exact ih (i + 1) _ (by omega) (by omega) (by omega) kk
            · skip
              refine r_iconst (v := nI 1) dX6_fits_97 rfl ?_
              refine r_goto 102 dX6_fits_98 (by decide) ?_
              refine r_istore_n 3 dX6_fits_102 rfl (by decide) rfl ?_
              refine gG_ls (ls' := [_, _, _, _, _, _]) rfl ?_
              refine r_iinc dX6_fits_103 rfl (by decide) rfl ?_
              refine gG_ls (ls' := [_, _, _, _, some (.int (nI ((i + 1)))), _]) (by rw [show (Int32.ofInt 1) = nI 1 from rfl, nI_add]; rfl) ?_
              refine r_goto 22 dX6_fits_106 (by decide) ?_
              refine gG_ls (ls' := [_, _, _, some (.int (b2 (fitA (ruB u) (ftP r (hI h 74) s u) (i + 1)))), _, _]) (by rw [fitA_s n_45 (ftP_00 n_69 c_86 c_94)]; rfl) ?_
              exact ih (i + 1) _ (by omega) (by omega) (by omega) kk
          · skip
            refine r_iconst (v := nI 1) dX6_fits_89 rfl ?_
            refine r_goto 94 dX6_fits_90 (by decide) ?_
            refine r_icmp_ne 101 dX6_fits_94 (by decide) (fun c_94 => ?_) (fun c_94 => ?_)
            · skip
              refine r_iconst (v := nI 0) dX6_fits_101 rfl ?_
              refine r_istore_n 3 dX6_fits_102 rfl (by decide) rfl ?_
              refine gG_ls (ls' := [_, _, _, _, _, _]) rfl ?_
              refine r_iinc dX6_fits_103 rfl (by decide) rfl ?_
              refine gG_ls (ls' := [_, _, _, _, some (.int (nI ((i + 1)))), _]) (by rw [show (Int32.ofInt 1) = nI 1 from rfl, nI_add]; rfl) ?_
              refine r_goto 22 dX6_fits_106 (by decide) ?_
              refine gG_ls (ls' := [_, _, _, some (.int (b2 (fitA (ruB u) (ftP r (hI h 74) s u) (i + 1)))), _, _]) (by rw [fitA_s n_45 (ftP_10 n_69 c_86 c_94)]; rfl) ?_
              exact ih (i + 1) _ (by omega) (by omega) (by omega) kk
            · skip
              refine r_iconst (v := nI 1) dX6_fits_97 rfl ?_
              refine r_goto 102 dX6_fits_98 (by decide) ?_
              refine r_istore_n 3 dX6_fits_102 rfl (by decide) rfl ?_
              refine gG_ls (ls' := [_, _, _, _, _, _]) rfl ?_
              refine r_iinc dX6_fits_103 rfl (by decide) rfl ?_
              refine gG_ls (ls' := [_, _, _, _, some (.int (nI ((i + 1)))), _]) (by rw [show (Int32.ofInt 1) = nI 1 from rfl, nI_add]; rfl) ?_
              refine r_goto 22 dX6_fits_106 (by decide) ?_
              refine gG_ls (ls' := [_, _, _, some (.int (b2 (fitA (ruB u) (ftP r (hI h 74) s u) (i + 1)))), _, _]) (by rw [fitA_s n_45 (ftP_11 n_69 c_86 c_94)]; rfl) ?_
              exact ih (i + 1) _ (by omega) (by omega) (by omega) kk
theorem M_fits {d : Nat} {h : Hp} (hm : LayM (hS h) (hR h)) {r o : Row} {n s z : Nat} {u : Int32} (hn : r 2 = nI n) (hn8 : n ≤ 8) (hs : s < 4) (hzz : hI h 73 s = nI z) (hz4 : z ≤ 40) : gC (d + 1) (0) (0) m_X6_fits [.ref 66, .int (nI s), .int u] (MH h r o) (Ret (some (.int (b2 (fitA (ruB u) (ftP r (hI h 74) s u) (min n z))))) (MH h r o)) := by
  refine gC.of (ls := [some (.ref 66), some (.int (nI s)), some (.int u), none, none, none]) (by decide +kernel) rfl rfl rfl rfl (Nat.le_of_ble_eq_true rfl) ?_
  refine r_iload_n 2 dX6_fits_0 rfl rfl ?_
  refine r_bipush (v := nI 15) dX6_fits_1 (by decide +kernel) ?_
  refine r_iand dX6_fits_3 ?_
  refine r_iload_n 2 dX6_fits_4 rfl rfl ?_
  refine r_iconst (v := nI 4) dX6_fits_5 rfl ?_
  refine r_ishr dX6_fits_6 ?_
  refine r_iconst (v := (-1)) dX6_fits_7 (by decide +kernel) ?_
  refine r_ixor dX6_fits_8 ?_
  refine r_iand dX6_fits_9 ?_
  refine r_if_ne 17 dX6_fits_10 (by decide) (fun c_10 => ?_) (fun c_10 => ?_)
  · skip
    refine r_iconst (v := nI 0) dX6_fits_17 rfl ?_
    refine r_istore_n 3 dX6_fits_18 rfl (by decide) rfl ?_
    refine gG_ls (ls' := [_, _, _, _, _, _]) rfl ?_
    refine r_iconst (v := nI 0) dX6_fits_19 rfl ?_
    refine r_istore dX6_fits_20 (by decide) rfl ?_
    refine gG_ls (ls' := [_, _, _, _, _, _]) rfl ?_
    refine gG_ls (ls' := [_, _, _, some (.int (b2 (fitA (ruB u) (ftP r (hI h 74) s u) 0))), _, _]) (by rw [show (fitA (ruB u) (ftP r (hI h 74) s u) 0) = false from decide_eq_false c_10]; rfl) ?_
    refine M_fits_L hm hn hn8 hs hzz hz4 41 0 _ (by omega) (by omega) (by omega) (fun i9 y => ?_)
    refine r_iload_n 3 dX6_fits_109 rfl rfl ?_
    refine e_zret dX6_fits_110 rfl (nar_b2 _) ?_
    exact ⟨rfl, rfl⟩
  · skip
    refine r_iconst (v := nI 1) dX6_fits_13 rfl ?_
    refine r_goto 18 dX6_fits_14 (by decide) ?_
    refine r_istore_n 3 dX6_fits_18 rfl (by decide) rfl ?_
    refine gG_ls (ls' := [_, _, _, _, _, _]) rfl ?_
    refine r_iconst (v := nI 0) dX6_fits_19 rfl ?_
    refine r_istore dX6_fits_20 (by decide) rfl ?_
    refine gG_ls (ls' := [_, _, _, _, _, _]) rfl ?_
    refine gG_ls (ls' := [_, _, _, some (.int (b2 (fitA (ruB u) (ftP r (hI h 74) s u) 0))), _, _]) (by rw [show (fitA (ruB u) (ftP r (hI h 74) s u) 0) = true from decide_eq_true c_10]; rfl) ?_
    refine M_fits_L hm hn hn8 hs hzz hz4 41 0 _ (by omega) (by omega) (by omega) (fun i9 y => ?_)
    refine r_iload_n 3 dX6_fits_109 rfl rfl ?_
    refine e_zret dX6_fits_110 rfl (nar_b2 _) ?_
    exact ⟨rfl, rfl⟩
theorem M_even_L1 {d : Nat} {h : Hp} (hm : LayM (hS h) (hR h)) {r o : Row} (w : WF r) {s z : Nat} (hs : s < 4) (hzz : hI h 73 s = nI z) (hz4 : z ≤ 40) {t : Nat} {x2 x3 : Option Value} (ht : t < 16) {Q : gQ} : ∀ (k i : Nat), i ≤ 256 → 256 + 1 ≤ i + k → (gG (d + 2) (0) (0) m_X6_evenest 70 [some (.ref 66), some (.int (nI s)), x2, x3, some (.int (nI t)), some (.int (apF (fitN r (hI h 74) z s) (fun k => givB (nI k) (nI t)) (256))), some (.int (nI 256))] [] (MH h r o) (Q)) → gG (d + 2) (0) (0) m_X6_evenest 22 [some (.ref 66), some (.int (nI s)), x2, x3, some (.int (nI t)), some (.int (apF (fitN r (hI h 74) z s) (fun k => givB (nI k) (nI t)) (i))), some (.int (nI i))] [] (MH h r o) (Q) := by
  intro k
  induction k with
  | zero => exact fun i h1 h2 => absurd h2 (by omega)
  | succ k ih =>
  intro i hi hk kk
  refine r_iload dX6_evenest_22 rfl ?_
  refine r_sipush (v := nI 256) dX6_evenest_24 (by decide +kernel) ?_
  refine r_icmp_ge 70 dX6_evenest_27 (by decide) (fun c_27 => ?_) (fun c_27 => ?_)
  · skip
    have n_27 : 256 ≤ i := n_ge (by omega) (by omega) c_27
    have hin : i = 256 := by omega
    subst hin
    exact kk
  · skip
    have n_27 : i < 256 := n_gen (by omega) (by omega) c_27
    refine r_iload dX6_evenest_30 rfl ?_
    refine r_aload_n 0 dX6_evenest_32 rfl rfl rfl ?_
    refine r_iload_n 1 dX6_evenest_33 rfl rfl ?_
    refine r_iload dX6_evenest_34 rfl ?_
    refine r_callV_1 dX6_evenest_36 kX6_231 (M_fits (u := nI i) hm w.n w.n8 hs hzz hz4) (gRecv.of hm.s66 rfl) rfl rfl (Nat.le_of_ble_eq_true rfl) ?_
    refine r_if_eq 60 dX6_evenest_39 (by decide) (fun c_39 => ?_) (fun c_39 => ?_)
    · skip
      have n_39 : (fitN r (hI h 74) z s i) = false := b2_f c_39
      refine r_iconst (v := nI 0) dX6_evenest_60 rfl ?_
      refine r_iadd dX6_evenest_61 ?_
      refine r_istore dX6_evenest_62 (by decide) rfl ?_
      refine gG_ls (ls' := [_, _, _, _, _, _, _]) rfl ?_
      refine r_iinc dX6_evenest_64 rfl (by decide) rfl ?_
      refine gG_ls (ls' := [_, _, _, _, _, _, some (.int (nI ((i + 1))))]) (by rw [show (Int32.ofInt 1) = nI 1 from rfl, nI_add]; rfl) ?_
      refine r_goto 22 dX6_evenest_67 (by decide) ?_
      refine gG_ls (ls' := [_, _, _, _, _, some (.int (apF (fitN r (hI h 74) z s) (fun k => givB (nI k) (nI t)) (i + 1))), _]) (by rw [apF_3 n_39]) ?_
      exact ih (i + 1) (by omega) (by omega) kk
    · skip
      have n_39 : (fitN r (hI h 74) z s i) = true := b2_t c_39
      refine r_iload dX6_evenest_42 rfl ?_
      refine r_iload dX6_evenest_44 rfl ?_
      refine r_callS_1 dX6_evenest_46 kX6_225 (M_gives (u := nI i) (t := nI t))  rfl rfl (Nat.le_of_ble_eq_true rfl) ?_
      refine r_if_eq 56 dX6_evenest_49 (by decide) (fun c_49 => ?_) (fun c_49 => ?_)
      · skip
        have n_49 : (givB (nI i) (nI t)) = false := b2_f c_49
        refine r_iconst (v := (-1)) dX6_evenest_56 (by decide +kernel) ?_
        refine r_goto 61 dX6_evenest_57 (by decide) ?_
        refine r_iadd dX6_evenest_61 ?_
        refine r_istore dX6_evenest_62 (by decide) rfl ?_
        refine gG_ls (ls' := [_, _, _, _, _, _, _]) rfl ?_
        refine r_iinc dX6_evenest_64 rfl (by decide) rfl ?_
        refine gG_ls (ls' := [_, _, _, _, _, _, some (.int (nI ((i + 1))))]) (by rw [show (Int32.ofInt 1) = nI 1 from rfl, nI_add]; rfl) ?_
        refine r_goto 22 dX6_evenest_67 (by decide) ?_
        refine gG_ls (ls' := [_, _, _, _, _, some (.int (apF (fitN r (hI h 74) z s) (fun k => givB (nI k) (nI t)) (i + 1))), _]) (by rw [apF_2 n_39 n_49]) ?_
        exact ih (i + 1) (by omega) (by omega) kk
      · skip
        have n_49 : (givB (nI i) (nI t)) = true := b2_t c_49
        refine r_iconst (v := nI 1) dX6_evenest_52 rfl ?_
        refine r_goto 61 dX6_evenest_53 (by decide) ?_
        refine r_iadd dX6_evenest_61 ?_
        refine r_istore dX6_evenest_62 (by decide) rfl ?_
        refine gG_ls (ls' := [_, _, _, _, _, _, _]) rfl ?_
        refine r_iinc dX6_evenest_64 rfl (by decide) rfl ?_
        refine gG_ls (ls' := [_, _, _, _, _, _, some (.int (nI ((i + 1))))]) (by rw [show (Int32.ofInt 1) = nI 1 from rfl, nI_add]; rfl) ?_
        refine r_goto 22 dX6_evenest_67 (by decide) ?_
        refine gG_ls (ls' := [_, _, _, _, _, some (.int (apF (fitN r (hI h 74) z s) (fun k => givB (nI k) (nI t)) (i + 1))), _]) (by rw [apF_1 n_39 n_49]) ?_
        exact ih (i + 1) (by omega) (by omega) kk
theorem M_even_L2 {d : Nat} {h : Hp} (hm : LayM (hS h) (hR h)) {r o : Row} (w : WF r) {s z : Nat} (hs : s < 4) (hzz : hI h 73 s = nI z) (hz4 : z ≤ 40) {Q : gQ} : ∀ (k i : Nat) (y5 : Option Value) (y6 : Option Value), i ≤ 16 → 16 + 1 ≤ i + k → (∀ (y5 : Option Value) (y6 : Option Value), gG (d + 2) (0) (0) m_X6_evenest 117 [some (.ref 66), some (.int (nI s)), some (.int (nI ((evF (uvN r (hI h 74) z s) (16)).1))), some (.int (evF (uvN r (hI h 74) z s) (16)).2), some (.int (nI 16)), y5, y6] [] (MH h r o) (Q)) → gG (d + 2) (0) (0) m_X6_evenest 9 [some (.ref 66), some (.int (nI s)), some (.int (nI ((evF (uvN r (hI h 74) z s) (i)).1))), some (.int (evF (uvN r (hI h 74) z s) (i)).2), some (.int (nI i)), y5, y6] [] (MH h r o) (Q) := by
  intro k
  induction k with
  | zero => exact fun i y5 y6 h1 h2 => absurd h2 (by omega)
  | succ k ih =>
  intro i y5 y6 hi hk kk
  refine r_iload dX6_evenest_9 rfl ?_
  refine r_bipush (v := nI 15) dX6_evenest_11 (by decide +kernel) ?_
  refine r_icmp_gt 117 dX6_evenest_13 (by decide) (fun c_13 => ?_) (fun c_13 => ?_)
  · skip
    have n_13 : 15 < i := n_gt (by omega) (by omega) c_13
    have hin : i = 16 := by omega
    subst hin
    exact kk _ _
  · skip
    have n_13 : i ≤ 15 := n_gtn (by omega) (by omega) c_13
    refine r_iconst (v := nI 0) dX6_evenest_16 rfl ?_
    refine r_istore dX6_evenest_17 (by decide) rfl ?_
    refine gG_ls (ls' := [_, _, _, _, _, _, _]) rfl ?_
    refine r_iconst (v := nI 0) dX6_evenest_19 rfl ?_
    refine r_istore dX6_evenest_20 (by decide) rfl ?_
    refine gG_ls (ls' := [_, _, _, _, _, _, _]) rfl ?_
    refine M_even_L1 hm w hs hzz hz4 (t := i) (by omega) 257 0 (by omega) (by omega) ?_
    refine r_iload dX6_evenest_70 rfl ?_
    refine r_if_ge 81 dX6_evenest_72 (by decide) (fun c_72 => ?_) (fun c_72 => ?_)
    · skip
      refine r_iload dX6_evenest_81 rfl ?_
      refine r_eqi (show _ = (uvN r (hI h 74) z s) i from (if_neg (i_le_nlt c_72)).symm) ?_
      refine r_istore dX6_evenest_83 (by decide) rfl ?_
      refine gG_ls (ls' := [_, _, _, _, _, _, _]) rfl ?_
      refine r_iload dX6_evenest_85 rfl ?_
      refine r_iload_n 3 dX6_evenest_87 rfl rfl ?_
      refine r_icmp_ge 96 dX6_evenest_88 (by decide) (fun c_88 => ?_) (fun c_88 => ?_)
      · skip
        refine r_iload_n 2 dX6_evenest_96 rfl rfl ?_
        refine r_istore_n 2 dX6_evenest_97 rfl (by decide) rfl ?_
        refine gG_ls (ls' := [_, _, _, _, _, _, _]) rfl ?_
        refine r_iload dX6_evenest_98 rfl ?_
        refine r_iload_n 3 dX6_evenest_100 rfl rfl ?_
        refine r_icmp_ge 109 dX6_evenest_101 (by decide) (fun c_101 => ?_) (fun c_101 => ?_)
        · skip
          refine r_iload_n 3 dX6_evenest_109 rfl rfl ?_
          refine r_istore_n 3 dX6_evenest_110 rfl (by decide) rfl ?_
          refine gG_ls (ls' := [_, _, _, _, _, _, _]) rfl ?_
          refine r_iinc dX6_evenest_111 rfl (by decide) rfl ?_
          refine gG_ls (ls' := [_, _, _, _, some (.int (nI ((i + 1)))), _, _]) (by rw [show (Int32.ofInt 1) = nI 1 from rfl, nI_add]; rfl) ?_
          refine r_goto 9 dX6_evenest_114 (by decide) ?_
          refine gG_ls (ls' := [_, _, some (.int (nI (evF (uvN r (hI h 74) z s) (i + 1)).1)), some (.int (evF (uvN r (hI h 74) z s) (i + 1)).2), _, _, _]) (by rw [evF_f (i_le_nlt c_88)]) ?_
          exact ih (i + 1) _ _ (by omega) (by omega) kk
        · skip
          exact absurd c_88 c_101
      · skip
        refine r_iload dX6_evenest_91 rfl ?_
        refine r_goto 97 dX6_evenest_93 (by decide) ?_
        refine r_istore_n 2 dX6_evenest_97 rfl (by decide) rfl ?_
        refine gG_ls (ls' := [_, _, _, _, _, _, _]) rfl ?_
        refine r_iload dX6_evenest_98 rfl ?_
        refine r_iload_n 3 dX6_evenest_100 rfl rfl ?_
        refine r_icmp_ge 109 dX6_evenest_101 (by decide) (fun c_101 => ?_) (fun c_101 => ?_)
        · skip
          exact absurd c_101 c_88
        · skip
          refine r_iload dX6_evenest_104 rfl ?_
          refine r_goto 110 dX6_evenest_106 (by decide) ?_
          refine r_istore_n 3 dX6_evenest_110 rfl (by decide) rfl ?_
          refine gG_ls (ls' := [_, _, _, _, _, _, _]) rfl ?_
          refine r_iinc dX6_evenest_111 rfl (by decide) rfl ?_
          refine gG_ls (ls' := [_, _, _, _, some (.int (nI ((i + 1)))), _, _]) (by rw [show (Int32.ofInt 1) = nI 1 from rfl, nI_add]; rfl) ?_
          refine r_goto 9 dX6_evenest_114 (by decide) ?_
          refine gG_ls (ls' := [_, _, some (.int (nI (evF (uvN r (hI h 74) z s) (i + 1)).1)), some (.int (evF (uvN r (hI h 74) z s) (i + 1)).2), _, _, _]) (by rw [evF_t (i_nle c_88)]) ?_
          exact ih (i + 1) _ _ (by omega) (by omega) kk
    · skip
      refine r_iload dX6_evenest_75 rfl ?_
      refine r_ineg dX6_evenest_77 ?_
      refine r_goto 83 dX6_evenest_78 (by decide) ?_
      refine r_eqi (show _ = (uvN r (hI h 74) z s) i from (if_pos (i_nle c_72)).symm) ?_
      refine r_istore dX6_evenest_83 (by decide) rfl ?_
      refine gG_ls (ls' := [_, _, _, _, _, _, _]) rfl ?_
      refine r_iload dX6_evenest_85 rfl ?_
      refine r_iload_n 3 dX6_evenest_87 rfl rfl ?_
      refine r_icmp_ge 96 dX6_evenest_88 (by decide) (fun c_88 => ?_) (fun c_88 => ?_)
      · skip
        refine r_iload_n 2 dX6_evenest_96 rfl rfl ?_
        refine r_istore_n 2 dX6_evenest_97 rfl (by decide) rfl ?_
        refine gG_ls (ls' := [_, _, _, _, _, _, _]) rfl ?_
        refine r_iload dX6_evenest_98 rfl ?_
        refine r_iload_n 3 dX6_evenest_100 rfl rfl ?_
        refine r_icmp_ge 109 dX6_evenest_101 (by decide) (fun c_101 => ?_) (fun c_101 => ?_)
        · skip
          refine r_iload_n 3 dX6_evenest_109 rfl rfl ?_
          refine r_istore_n 3 dX6_evenest_110 rfl (by decide) rfl ?_
          refine gG_ls (ls' := [_, _, _, _, _, _, _]) rfl ?_
          refine r_iinc dX6_evenest_111 rfl (by decide) rfl ?_
          refine gG_ls (ls' := [_, _, _, _, some (.int (nI ((i + 1)))), _, _]) (by rw [show (Int32.ofInt 1) = nI 1 from rfl, nI_add]; rfl) ?_
          refine r_goto 9 dX6_evenest_114 (by decide) ?_
          refine gG_ls (ls' := [_, _, some (.int (nI (evF (uvN r (hI h 74) z s) (i + 1)).1)), some (.int (evF (uvN r (hI h 74) z s) (i + 1)).2), _, _, _]) (by rw [evF_f (i_le_nlt c_88)]) ?_
          exact ih (i + 1) _ _ (by omega) (by omega) kk
        · skip
          exact absurd c_88 c_101
      · skip
        refine r_iload dX6_evenest_91 rfl ?_
        refine r_goto 97 dX6_evenest_93 (by decide) ?_
        refine r_istore_n 2 dX6_evenest_97 rfl (by decide) rfl ?_
        refine gG_ls (ls' := [_, _, _, _, _, _, _]) rfl ?_
        refine r_iload dX6_evenest_98 rfl ?_
        refine r_iload_n 3 dX6_evenest_100 rfl rfl ?_
        refine r_icmp_ge 109 dX6_evenest_101 (by decide) (fun c_101 => ?_) (fun c_101 => ?_)
        · skip
          exact absurd c_101 c_88
        · skip
          refine r_iload dX6_evenest_104 rfl ?_
          refine r_goto 110 dX6_evenest_106 (by decide) ?_
          refine r_istore_n 3 dX6_evenest_110 rfl (by decide) rfl ?_
          refine gG_ls (ls' := [_, _, _, _, _, _, _]) rfl ?_
          refine r_iinc dX6_evenest_111 rfl (by decide) rfl ?_
          refine gG_ls (ls' := [_, _, _, _, some (.int (nI ((i + 1)))), _, _]) (by rw [show (Int32.ofInt 1) = nI 1 from rfl, nI_add]; rfl) ?_
          refine r_goto 9 dX6_evenest_114 (by decide) ?_
          refine gG_ls (ls' := [_, _, some (.int (nI (evF (uvN r (hI h 74) z s) (i + 1)).1)), some (.int (evF (uvN r (hI h 74) z s) (i + 1)).2), _, _, _]) (by rw [evF_t (i_nle c_88)]) ?_
          exact ih (i + 1) _ _ (by omega) (by omega) kk
theorem M_evenest {d : Nat} {h : Hp} (hm : LayM (hS h) (hR h)) {r o : Row} (w : WF r) {s z : Nat} (hs : s < 4) (hzz : hI h 73 s = nI z) (hz4 : z ≤ 40) : gC (d + 2) (0) (0) m_X6_evenest [.ref 66, .int (nI s)] (MH h r o) (Ret (some (.int (nI (evF (uvN r (hI h 74) z s) 16).1))) (MH h r o)) := by
  refine gC.of (ls := [some (.ref 66), some (.int (nI s)), none, none, none, none, none]) (by decide +kernel) rfl rfl rfl rfl (Nat.le_of_ble_eq_true rfl) ?_
  refine r_iconst (v := nI 0) dX6_evenest_0 rfl ?_
  refine r_istore_n 2 dX6_evenest_1 rfl (by decide) rfl ?_
  refine gG_ls (ls' := [_, _, _, _, _, _, _]) rfl ?_
  refine r_sipush (v := nI 1000) dX6_evenest_2 (by decide +kernel) ?_
  refine r_istore_n 3 dX6_evenest_5 rfl (by decide) rfl ?_
  refine gG_ls (ls' := [_, _, _, _, _, _, _]) rfl ?_
  refine r_iconst (v := nI 0) dX6_evenest_6 rfl ?_
  refine r_istore dX6_evenest_7 (by decide) rfl ?_
  refine gG_ls (ls' := [_, _, _, _, _, _, _]) rfl ?_
  refine M_even_L2 hm w hs hzz hz4 17 0 _ _ (by omega) (by omega) (fun y5 y6 => ?_)
  refine r_iload_n 2 dX6_evenest_117 rfl rfl ?_
  refine e_iret dX6_evenest_118 rfl ?_
  exact ⟨rfl, rfl⟩
theorem M_rules_L {d : Nat} {h : Hp} (hm : LayM (hS h) (hR h)) {r o : Row} (w : WF r) {s z : Nat} (hs : s < 4) (hzz : hI h 73 s = nI z) (hz4 : z ≤ 40) {q : Nat} {Q : gQ} : ∀ (k m l : Nat), m + k ≤ 256 → (gG (d + 2) (0) (0) m_X6_rules 77 [some (.ref 66), some (.int (nI s)), some (.int (nI q)), some (.int (nI (manG (fitN r (hI h 74) z s) k m))), some (.int (nI (leaG (fitN r (hI h 74) z s) k l))), some (.int (rlI 0))] [] (MH h r o) (Q)) → gG (d + 2) (0) (0) m_X6_rules 49 [some (.ref 66), some (.int (nI s)), some (.int (nI q)), some (.int (nI m)), some (.int (nI l)), some (.int (rlI k))] [] (MH h r o) (Q) := by
  intro k
  induction k with
  | zero =>
    intro m l hk kk
    refine r_iload dX6_rules_49 rfl ?_
    refine r_if_lt 77 dX6_rules_51 (by decide) (fun c_51 => ?_) (fun c_51 => ?_)
    · skip
      exact kk
    · skip
      exact absurd (by decide) c_51
  | succ k ih =>
  intro m l hk kk
  rw [show rlI (k + 1) = nI k from rfl]
  refine r_iload dX6_rules_49 rfl ?_
  refine r_if_lt 77 dX6_rules_51 (by decide) (fun c_51 => ?_) (fun c_51 => ?_)
  · skip
    have n_51 : False := n_lt0 (by omega) c_51
    exact n_51.elim
  · skip
    have n_51 : True := n_lt0n (by omega) c_51
    refine r_aload_n 0 dX6_rules_54 rfl rfl rfl ?_
    refine r_iload_n 1 dX6_rules_55 rfl rfl ?_
    refine r_iload dX6_rules_56 rfl ?_
    refine r_callV_1 dX6_rules_58 kX6_231 (M_fits (u := nI k) hm w.n w.n8 hs hzz hz4) (gRecv.of hm.s66 rfl) rfl rfl (Nat.le_of_ble_eq_true rfl) ?_
    refine r_if_eq 71 dX6_rules_61 (by decide) (fun c_61 => ?_) (fun c_61 => ?_)
    · skip
      have n_61 : (fitN r (hI h 74) z s k) = false := b2_f c_61
      refine r_iinc dX6_rules_71 rfl (by decide) rfl ?_
      refine gG_ls (ls' := [_, _, _, _, _, _]) rfl ?_
      refine r_goto 49 dX6_rules_74 (by decide) ?_
      rw [manG_f n_61, leaG_f n_61] at kk
      refine gG_ls (ls' := [_, _, _, _, _, some (.int (rlI k))]) (by rw [rlI_dec]) ?_
      exact ih m l (by omega) kk
    · skip
      have n_61 : (fitN r (hI h 74) z s k) = true := b2_t c_61
      refine r_iinc dX6_rules_64 rfl (by decide) rfl ?_
      refine gG_ls (ls' := [_, _, _, some (.int (nI ((m + 1)))), _, _]) (by rw [show (Int32.ofInt 1) = nI 1 from rfl, nI_add]; rfl) ?_
      refine r_iload dX6_rules_67 rfl ?_
      refine r_istore dX6_rules_69 (by decide) rfl ?_
      refine gG_ls (ls' := [_, _, _, _, _, _]) rfl ?_
      refine r_iinc dX6_rules_71 rfl (by decide) rfl ?_
      refine gG_ls (ls' := [_, _, _, _, _, _]) rfl ?_
      refine r_goto 49 dX6_rules_74 (by decide) ?_
      rw [manG_t n_61, leaG_t n_61] at kk
      refine gG_ls (ls' := [_, _, _, _, _, some (.int (rlI k))]) (by rw [rlI_dec]) ?_
      exact ih (m + 1) k (by omega) kk
theorem A_rules {d : Nat} {h : Hp} (hm : LayM (hS h) (hR h)) {r o : Row} (w : WF r) (ho : o 15 = -1) {s q : Int32} (hz : ∀ s, s < 4 → ∃ j, hI h 73 s = nI j ∧ j ≤ 40) : gC (d + 3) (0) (0) m_X6_rules [.ref 66, .int s, .int q] (MH h r o) (RA h (aRules (mS h r o) s q)) := by
  have e_0 : aRules (mS h r o) s q = (if inB s (nI 0) (nI 3) = true then (if inB q (nI 0) (nI 2) = true then (if (hI h 72) (toN s) = 0 then errA (mS h r o) (-1000000002) 2 else if toN q = 1 then (if manG (fitN r (hI h 74) (toN ((hI h 73) (toN s))) (toN s)) 256 0 = 0 then errA (mS h r o) (-1000000002) 2 else (nI (leaG (fitN r (hI h 74) (toN ((hI h 73) (toN s))) (toN s)) 256 0), (mS h r o))) else if toN q = 0 then (nI (manG (fitN r (hI h 74) (toN ((hI h 73) (toN s))) (toN s)) 256 0), (mS h r o)) else (nI (evF (uvN r (hI h 74) (toN ((hI h 73) (toN s))) (toN s)) 16).1, (mS h r o))) else errA (mS h r o) (-1000000001) 1) else errA (mS h r o) (-1000000001) 1) := rfl
  rw [e_0]
  have hn8 := w.n8
  refine gC.of (ls := [some (.ref 66), some (.int s), some (.int q), none, none, none]) (by decide +kernel) rfl rfl rfl rfl (Nat.le_of_ble_eq_true rfl) ?_
  refine r_iload_n 1 dX6_rules_0 rfl rfl ?_
  refine r_callS_1 dX6_rules_1 kX6_228 (M_isSheet (v := s))  rfl rfl (Nat.le_of_ble_eq_true rfl) ?_
  refine r_if_eq 16 dX6_rules_4 (by decide) (fun c_4 => ?_) (fun c_4 => ?_)
  · skip
    have n_4 : (inB s (nI 0) (nI 3)) = false := b2_f c_4
    first | rw [ifT n_4] | rw [ifF n_4] | skip
    refine r_aload_n 0 dX6_rules_16 rfl rfl rfl ?_
    refine r_ldc (v := -1000000001) dX6_rules_17 q1511 ?_
    refine r_callV_1 dX6_rules_19 kX6_53 (M_errs hm (e := (-1000000001 : Int32)) 1 (by decide +kernel) (by decide)) (gRecv.of hm.s66 rfl) rfl rfl (Nat.le_of_ble_eq_true rfl) ?_
    refine e_iret dX6_rules_22 rfl ?_
    exact RA.mk (Jo.r) ho ((FrM.r).b (by decide)) (rfl) (rfl)
  · skip
    have n_4 : (inB s (nI 0) (nI 3)) = true := b2_t c_4
    first | rw [ifT n_4] | rw [ifF n_4] | skip
    obtain ⟨k, h_k, rfl⟩ := inB_n (by decide) n_4
    have e_k : toN (nI k) = k := toN_nI (by omega)
    try simp only [e_k]
    obtain ⟨z, h_z, h_z4⟩ := hz k (by omega)
    have e_z : toN (hI h 73 k) = z := by rw [h_z]; exact toN_nI (by omega)
    simp only [e_z]
    refine r_iload_n 2 dX6_rules_7 rfl rfl ?_
    refine r_iconst (v := nI 0) dX6_rules_8 rfl ?_
    refine r_iconst (v := nI 2) dX6_rules_9 rfl ?_
    refine r_callS_1 dX6_rules_10 kX6_48 (M_in)  rfl rfl (Nat.le_of_ble_eq_true rfl) ?_
    refine r_if_ne 23 dX6_rules_13 (by decide) (fun c_13 => ?_) (fun c_13 => ?_)
    · skip
      have n_13 : _ = true := b2_t c_13
      first | rw [ifT n_13] | rw [ifF n_13] | skip
      obtain ⟨c, h_c, rfl⟩ := inB_n (by decide) n_13
      have e_c : toN (nI c) = c := toN_nI (by omega)
      try simp only [e_c]
      refine r_aload_n 0 dX6_rules_23 rfl rfl rfl ?_
      refine r_getr (k := 19) (b := 72) dX6_rules_24 hm.s66 rfl (by decide) (Or.inl q1435) (Or.inl rfl) rfl hm.r_bitsOf ?_
      refine r_iload_n 1 dX6_rules_27 rfl rfl ?_
      refine r_ialdN (k) dX6_rules_28 hm.s72 rfl (by omega) (by decide) ?_
      refine r_eqi (show _ = (hI h 72 k) from rfl) ?_
      refine r_if_ne 39 dX6_rules_29 (by decide) (fun c_29 => ?_) (fun c_29 => ?_)
      · skip
        first | rw [iP c_29] | rw [iN c_29] | rw [iN (i_le_nlt c_29)] | rw [iP (i_nle c_29)] | rw [iP (i_nlt c_29)] | rw [iN (i_lt_nle c_29)] | skip
        refine r_iconst (v := nI 0) dX6_rules_39 rfl ?_
        refine r_istore_n 3 dX6_rules_40 rfl (by decide) rfl ?_
        refine gG_ls (ls' := [_, _, _, _, _, _]) rfl ?_
        refine r_iconst (v := nI 0) dX6_rules_41 rfl ?_
        refine r_istore dX6_rules_42 (by decide) rfl ?_
        refine gG_ls (ls' := [_, _, _, _, _, _]) rfl ?_
        refine r_sipush (v := nI 255) dX6_rules_44 (by decide +kernel) ?_
        refine r_istore dX6_rules_47 (by decide) rfl ?_
        refine gG_ls (ls' := [_, _, _, _, _, _]) rfl ?_
        refine M_rules_L (s := k) hm w (by omega) h_z h_z4 256 0 0 (by omega) ?_
        have hml : manG (fitN r (hI h 74) z k) 256 0 ≤ 256 := manG_le 256 0
        refine r_iload_n 2 dX6_rules_77 rfl rfl ?_
        refine r_iconst (v := nI 1) dX6_rules_78 rfl ?_
        refine r_icmp_ne 93 dX6_rules_79 (by decide) (fun c_79 => ?_) (fun c_79 => ?_)
        · skip
          have n_79 : ¬ c = 1 := n_ne (by omega) (by omega) c_79
          first | rw [iP n_79] | rw [iN n_79] | rw [iN (Nat.not_lt.mpr n_79)] | rw [iN (Nat.not_le.mpr n_79)] | skip
          refine r_iload_n 2 dX6_rules_93 rfl rfl ?_
          refine r_if_ne 101 dX6_rules_94 (by decide) (fun c_94 => ?_) (fun c_94 => ?_)
          · skip
            have n_94 : ¬ c = 0 := n_ne0 (by omega) c_94
            first | rw [iP n_94] | rw [iN n_94] | rw [iN (Nat.not_lt.mpr n_94)] | rw [iN (Nat.not_le.mpr n_94)] | skip
            refine r_iload_n 2 dX6_rules_101 rfl rfl ?_
            refine r_iconst (v := nI 1) dX6_rules_102 rfl ?_
            refine r_icmp_ne 111 dX6_rules_103 (by decide) (fun c_103 => ?_) (fun c_103 => ?_)
            · skip
              have n_103 : ¬ c = 1 := n_ne (by omega) (by omega) c_103
              first | rw [iP n_103] | rw [iN n_103] | rw [iN (Nat.not_lt.mpr n_103)] | rw [iN (Nat.not_le.mpr n_103)] | skip
              refine r_aload_n 0 dX6_rules_111 rfl rfl rfl ?_
              refine r_iload_n 1 dX6_rules_112 rfl rfl ?_
              refine r_callV_1 dX6_rules_113 kX6_234 (M_evenest hm w (by omega) h_z h_z4) (gRecv.of hm.s66 rfl) rfl rfl (Nat.le_of_ble_eq_true rfl) ?_
              refine e_iret dX6_rules_116 rfl ?_
              exact RA.mk (Jo.r) ho (FrM.r) (rfl) (rfl)
            · skip
              have n_103 : c = 1 := n_nen (by omega) (by omega) c_103
              first | rw [iP n_103] | rw [iN n_103] | rw [iN (Nat.not_lt.mpr n_103)] | rw [iN (Nat.not_le.mpr n_103)] | skip
              exact absurd n_103 n_79
          · skip
            have n_94 : c = 0 := n_eq0 (by omega) c_94
            first | rw [iP n_94] | rw [iN n_94] | rw [iN (Nat.not_lt.mpr n_94)] | rw [iN (Nat.not_le.mpr n_94)] | skip
            refine r_iload_n 3 dX6_rules_97 rfl rfl ?_
            refine r_goto 116 dX6_rules_98 (by decide) ?_
            refine e_iret dX6_rules_116 rfl ?_
            exact RA.mk (Jo.r) ho (FrM.r) (rfl) (rfl)
        · skip
          have n_79 : c = 1 := n_nen (by omega) (by omega) c_79
          first | rw [iP n_79] | rw [iN n_79] | rw [iN (Nat.not_lt.mpr n_79)] | rw [iN (Nat.not_le.mpr n_79)] | skip
          refine r_iload_n 3 dX6_rules_82 rfl rfl ?_
          refine r_if_ne 93 dX6_rules_83 (by decide) (fun c_83 => ?_) (fun c_83 => ?_)
          · skip
            have n_83 : ¬ (manG (fitN r (hI h 74) z k) 256 0) = 0 := n_ne0 (by omega) c_83
            first | rw [iP n_83] | rw [iN n_83] | rw [iN (Nat.not_lt.mpr n_83)] | rw [iN (Nat.not_le.mpr n_83)] | skip
            refine r_iload_n 2 dX6_rules_93 rfl rfl ?_
            refine r_if_ne 101 dX6_rules_94 (by decide) (fun c_94 => ?_) (fun c_94 => ?_)
            · skip
              have n_94 : ¬ c = 0 := n_ne0 (by omega) c_94
              first | rw [iP n_94] | rw [iN n_94] | rw [iN (Nat.not_lt.mpr n_94)] | rw [iN (Nat.not_le.mpr n_94)] | skip
              refine r_iload_n 2 dX6_rules_101 rfl rfl ?_
              refine r_iconst (v := nI 1) dX6_rules_102 rfl ?_
              refine r_icmp_ne 111 dX6_rules_103 (by decide) (fun c_103 => ?_) (fun c_103 => ?_)
              · skip
                have n_103 : ¬ c = 1 := n_ne (by omega) (by omega) c_103
                first | rw [iP n_103] | rw [iN n_103] | rw [iN (Nat.not_lt.mpr n_103)] | rw [iN (Nat.not_le.mpr n_103)] | skip
                exact absurd n_79 n_103
              · skip
                have n_103 : c = 1 := n_nen (by omega) (by omega) c_103
                first | rw [iP n_103] | rw [iN n_103] | rw [iN (Nat.not_lt.mpr n_103)] | rw [iN (Nat.not_le.mpr n_103)] | skip
                refine r_iload dX6_rules_106 rfl ?_
                refine r_goto 116 dX6_rules_108 (by decide) ?_
                refine e_iret dX6_rules_116 rfl ?_
                exact RA.mk (Jo.r) ho (FrM.r) (rfl) (rfl)
            · skip
              have n_94 : c = 0 := n_eq0 (by omega) c_94
              first | rw [iP n_94] | rw [iN n_94] | rw [iN (Nat.not_lt.mpr n_94)] | rw [iN (Nat.not_le.mpr n_94)] | skip
              exact absurd n_94 (by omega)
          · skip
            have n_83 : (manG (fitN r (hI h 74) z k) 256 0) = 0 := n_eq0 (by omega) c_83
            first | rw [iP n_83] | rw [iN n_83] | rw [iN (Nat.not_lt.mpr n_83)] | rw [iN (Nat.not_le.mpr n_83)] | skip
            refine r_aload_n 0 dX6_rules_86 rfl rfl rfl ?_
            refine r_ldc (v := -1000000002) dX6_rules_87 q1735 ?_
            refine r_callV_1 dX6_rules_89 kX6_53 (M_errs hm (e := (-1000000002 : Int32)) 2 (by decide +kernel) (by decide)) (gRecv.of hm.s66 rfl) rfl rfl (Nat.le_of_ble_eq_true rfl) ?_
            refine e_iret dX6_rules_92 rfl ?_
            exact RA.mk (Jo.r) ho ((FrM.r).b (by decide)) (rfl) (rfl)
      · skip
        first | rw [iP c_29] | rw [iN c_29] | rw [iN (i_le_nlt c_29)] | rw [iP (i_nle c_29)] | rw [iP (i_nlt c_29)] | rw [iN (i_lt_nle c_29)] | skip
        refine r_aload_n 0 dX6_rules_32 rfl rfl rfl ?_
        refine r_ldc (v := -1000000002) dX6_rules_33 q1735 ?_
        refine r_callV_1 dX6_rules_35 kX6_53 (M_errs hm (e := (-1000000002 : Int32)) 2 (by decide +kernel) (by decide)) (gRecv.of hm.s66 rfl) rfl rfl (Nat.le_of_ble_eq_true rfl) ?_
        refine e_iret dX6_rules_38 rfl ?_
        exact RA.mk (Jo.r) ho ((FrM.r).b (by decide)) (rfl) (rfl)
    · skip
      have n_13 : _ = false := b2_f c_13
      first | rw [ifT n_13] | rw [ifF n_13] | skip
      refine r_aload_n 0 dX6_rules_16 rfl rfl rfl ?_
      refine r_ldc (v := -1000000001) dX6_rules_17 q1511 ?_
      refine r_callV_1 dX6_rules_19 kX6_53 (M_errs hm (e := (-1000000001 : Int32)) 1 (by decide +kernel) (by decide)) (gRecv.of hm.s66 rfl) rfl rfl (Nat.le_of_ble_eq_true rfl) ?_
      refine e_iret dX6_rules_22 rfl ?_
      exact RA.mk (Jo.r) ho ((FrM.r).b (by decide)) (rfl) (rfl)
