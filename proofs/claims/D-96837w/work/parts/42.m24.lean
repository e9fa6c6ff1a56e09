theorem X_doesFit_L {d : Nat} {h : Hp} {S : MSt} (hX : CX h S) (w : WF S.r) {s a A t z : Nat} (hs : s < 4) (so : ShO h a A t z (S.bits s)) (z40 : z ≤ 40) (sv : ∀ i, i < z → hI h A i = S.sheets (40 * s + i)) {F : Row} {k0 : Nat} (hk0 : k0 < 256) {Q : gQ} : ∀ (k i : Nat), i ≤ np S.r → i ≤ z → 41 ≤ i + k → (∀ i9, gG (d + 2) (0) (0) m_X0_doesFit 91 [some (.ref 21), some (.ref a), some (.int (nI k0)), some (.int (b2 (fitA (ruB (nI k0)) (ftP S.r S.sheets s (nI k0)) (min (np S.r) z)))), some (.int (nI i9))] [] (bI h 60 F) (Q)) → gG (d + 2) (0) (0) m_X0_doesFit 8 [some (.ref 21), some (.ref a), some (.int (nI k0)), some (.int (b2 (fitA (ruB (nI k0)) (ftP S.r S.sheets s (nI k0)) i))), some (.int (nI i))] [] (bI h 60 F) (Q) := by
  intro k
  induction k with
  | zero => exact fun i h1 h2 h3 => absurd h3 (by omega)
  | succ k ih =>
  intro i hi hiz hk kk
  have hn8 := w.n8
  have hx := hX.hx
  have hl := hX.hl
  have hb : 21 ≤ 23 ∧ 23 + 10 < 78 := by decide
  have hn : S.r 2 = nI (np S.r) := w.n
  have lw := hX.lw
  have Vr := w.V
  have K := w.K
  have ha := so.1
  refine r_iload dX0_doesFit_8 rfl ?_
  refine r_aload_n 0 dX0_doesFit_10 rfl rfl rfl ?_
  refine r_getr (k := 1) (b := 23) dX0_doesFit_11 hx.s21 rfl (by decide) (Or.inl q306) (Or.inl rfl) rfl hx.r_land ?_
  refine r_geti (k := 0) dX0_doesFit_14 hl.s0 rfl (by decide) (Or.inr ⟨_, q219⟩) (Or.inl rfl) rfl ?_
  refine r_eqi (show _ = nI ((np S.r)) from ((congrFun (bI_n (by decide)) 0).trans ((hX.hold 0 0 2 rfl).trans hn))) ?_
  refine r_icmp_ge 91 dX0_doesFit_17 (by decide) (fun c_17 => ?_) (fun c_17 => ?_)
  · skip
    have n_17 : (np S.r) ≤ i := n_ge (by omega) (by omega) c_17
    refine gG_ls (ls' := [_, _, _, some (.int (b2 (fitA (ruB (nI k0)) (ftP S.r S.sheets s (nI k0)) (min (np S.r) z)))), _]) (by rw [show min (np S.r) z = i from by omega]) ?_
    exact kk _
  · skip
    have n_17 : i < (np S.r) := n_gen (by omega) (by omega) c_17
    refine r_iload dX0_doesFit_20 rfl ?_
    refine r_aload_n 1 dX0_doesFit_22 rfl rfl rfl ?_
    refine r_size_X0_234 rfl dX0_doesFit_23 (by exact so) (Nat.le_of_ble_eq_true rfl) ?_
    refine r_icmp_ge 91 dX0_doesFit_26 (by decide) (fun c_26 => ?_) (fun c_26 => ?_)
    · skip
      have n_26 : z ≤ i := n_ge (by omega) (by omega) c_26
      refine gG_ls (ls' := [_, _, _, some (.int (b2 (fitA (ruB (nI k0)) (ftP S.r S.sheets s (nI k0)) (min (np S.r) z)))), _]) (by rw [show min (np S.r) z = i from by omega]) ?_
      exact kk _
    · skip
      have n_26 : i < z := n_gen (by omega) (by omega) c_26
      refine r_iload_n 3 dX0_doesFit_29 rfl rfl ?_
      refine r_if_eq 91 dX0_doesFit_30 (by decide) (fun c_30 => ?_) (fun c_30 => ?_)
      · skip
        have n_30 : (fitA (ruB (nI k0)) (ftP S.r S.sheets s (nI k0)) i) = false := b2_f c_30
        refine gG_ls (ls' := [_, _, _, some (.int (b2 (fitA (ruB (nI k0)) (ftP S.r S.sheets s (nI k0)) (min (np S.r) z)))), _]) (by rw [fitA_f n_30 (min (np S.r) z) (by omega), n_30]) ?_
        exact kk _
      · skip
        have n_30 : (fitA (ruB (nI k0)) (ftP S.r S.sheets s (nI k0)) i) = true := b2_t c_30
        refine r_aload_n 1 dX0_doesFit_33 rfl rfl rfl ?_
        refine r_iload dX0_doesFit_34 rfl ?_
        refine r_get_X0_237 (by omega) rfl dX0_doesFit_36 (by exact so) (Nat.le_of_ble_eq_true rfl) ?_
        refine r_eqi (show _ = S.sheets (40 * s + i) from ((congrFun (bI_n (by have := so.2.2.2.1; omega)) i).trans (sv i (by omega)))) ?_
        refine r_iconst (v := nI 0) dX0_doesFit_39 rfl ?_
        refine r_iconst (v := nI 1) dX0_doesFit_40 rfl ?_
        refine r_callS_1 dX0_doesFit_41 kX0_86 (X_in)  rfl rfl (Nat.le_of_ble_eq_true rfl) ?_
        refine r_if_eq 79 dX0_doesFit_44 (by decide) (fun c_44 => ?_) (fun c_44 => ?_)
        · skip
          have n_44 : (inB ((S.sheets (40 * s + i))) (nI 0) (nI 1)) = false := b2_f c_44
          refine r_iconst (v := nI 1) dX0_doesFit_79 rfl ?_
          refine r_goto 84 dX0_doesFit_80 (by decide) ?_
          refine r_istore_n 3 dX0_doesFit_84 rfl (by decide) rfl ?_
          refine gG_ls (ls' := [_, _, _, _, _]) rfl ?_
          refine r_iinc dX0_doesFit_85 rfl (by decide) rfl ?_
          refine gG_ls (ls' := [_, _, _, _, some (.int (nI ((i + 1))))]) (by rw [show (Int32.ofInt 1) = nI 1 from rfl, nI_add]; rfl) ?_
          refine r_goto 8 dX0_doesFit_88 (by decide) ?_
          refine gG_ls (ls' := [_, _, _, some (.int (b2 (fitA (ruB (nI k0)) (ftP S.r S.sheets s (nI k0)) (i + 1)))), _]) (by rw [fitA_s n_30 (ftP_o n_44)]; rfl) ?_
          exact ih (i + 1) (by omega) (by omega) (by omega) kk
        · skip
          have n_44 : (inB ((S.sheets (40 * s + i))) (nI 0) (nI 1)) = true := b2_t c_44
          refine r_iload_n 2 dX0_doesFit_47 rfl rfl ?_
          refine r_aload_n 0 dX0_doesFit_48 rfl rfl rfl ?_
          refine r_getr (k := 1) (b := 23) dX0_doesFit_49 hx.s21 rfl (by decide) (Or.inl q306) (Or.inl rfl) rfl hx.r_land ?_
          refine r_getr (k := 2) (b := (23 + 2)) dX0_doesFit_52 hl.s0 rfl (by decide) (Or.inr ⟨_, q223⟩) (Or.inl rfl) rfl hl.r_traits ?_
          refine r_iload dX0_doesFit_55 rfl ?_
          refine r_ialdN (i) dX0_doesFit_57 hl.s2 rfl (by omega) (by decide) ?_
          refine r_eqi (show _ = (pv S.r i 2) from ((congrFun (bI_n (by decide)) i).trans (hX.hold 2 i _ (ix_2 (by omega))))) ?_
          refine r_callS_1 dX0_doesFit_58 kX0_240 (X_doesGive (k := k0) (t := (pv S.r i 2)) (by omega))  rfl rfl (Nat.le_of_ble_eq_true rfl) ?_
          refine r_aload_n 1 dX0_doesFit_61 rfl rfl rfl ?_
          refine r_iload dX0_doesFit_62 rfl ?_
          refine r_get_X0_237 (by omega) rfl dX0_doesFit_64 (by exact so) (Nat.le_of_ble_eq_true rfl) ?_
          refine r_eqi (show _ = S.sheets (40 * s + i) from ((congrFun (bI_n (by have := so.2.2.2.1; omega)) i).trans (sv i (by omega)))) ?_
          refine r_iconst (v := nI 1) dX0_doesFit_67 rfl ?_
          refine r_icmp_ne 75 dX0_doesFit_68 (by decide) (fun c_68 => ?_) (fun c_68 => ?_)
          · skip
            refine r_iconst (v := nI 0) dX0_doesFit_75 rfl ?_
            refine r_icmp_ne 83 dX0_doesFit_76 (by decide) (fun c_76 => ?_) (fun c_76 => ?_)
            · skip
              refine r_iconst (v := nI 0) dX0_doesFit_83 rfl ?_
              refine r_istore_n 3 dX0_doesFit_84 rfl (by decide) rfl ?_
              refine gG_ls (ls' := [_, _, _, _, _]) rfl ?_
              refine r_iinc dX0_doesFit_85 rfl (by decide) rfl ?_
              refine gG_ls (ls' := [_, _, _, _, some (.int (nI ((i + 1))))]) (by rw [show (Int32.ofInt 1) = nI 1 from rfl, nI_add]; rfl) ?_
              refine r_goto 8 dX0_doesFit_88 (by decide) ?_
              refine gG_ls (ls' := [_, _, _, some (.int (b2 (fitA (ruB (nI k0)) (ftP S.r S.sheets s (nI k0)) (i + 1)))), _]) (by rw [fitA_s n_30 (ftP_01 n_44 c_68 c_76)]; rfl) ?_
              exact ih (i + 1) (by omega) (by omega) (by omega) kk
            · skip
              refine r_iconst (v := nI 1) dX0_doesFit_79 rfl ?_
              refine r_goto 84 dX0_doesFit_80 (by decide) ?_
              refine r_istore_n 3 dX0_doesFit_84 rfl (by decide) rfl ?_
              refine gG_ls (ls' := [_, _, _, _, _]) rfl ?_
              refine r_iinc dX0_doesFit_85 rfl (by decide) rfl ?_
              refine gG_ls (ls' := [_, _, _, _, some (.int (nI ((i + 1))))]) (by rw [show (Int32.ofInt 1) = nI 1 from rfl, nI_add]; rfl) ?_
              refine r_goto 8 dX0_doesFit_88 (by decide) ?_
              refine gG_ls (ls' := [_, _, _, some (.int (b2 (fitA (ruB (nI k0)) (ftP S.r S.sheets s (nI k0)) (i + 1)))), _]) (by rw [fitA_s n_30 (ftP_00 n_44 c_68 c_76)]; rfl) ?_
              exact ih (i + 1) (by omega) (by omega) (by omega) kk
          · skip
            refine r_iconst (v := nI 1) dX0_doesFit_71 rfl ?_
            refine r_goto 76 dX0_doesFit_72 (by decide) ?_
            refine r_icmp_ne 83 dX0_doesFit_76 (by decide) (fun c_76 => ?_) (fun c_76 => ?_)
            · skip
              refine r_iconst (v := nI 0) dX0_doesFit_83 rfl ?_
              refine r_istore_n 3 dX0_doesFit_84 rfl (by decide) rfl ?_
              refine gG_ls (ls' := [_, _, _, _, _]) rfl ?_
              refine r_iinc dX0_doesFit_85 rfl (by decide) rfl ?_
              refine gG_ls (ls' := [_, _, _, _, some (.int (nI ((i + 1))))]) (by rw [show (Int32.ofInt 1) = nI 1 from rfl, nI_add]; rfl) ?_
              refine r_goto 8 dX0_doesFit_88 (by decide) ?_
              refine gG_ls (ls' := [_, _, _, some (.int (b2 (fitA (ruB (nI k0)) (ftP S.r S.sheets s (nI k0)) (i + 1)))), _]) (by rw [fitA_s n_30 (ftP_10 n_44 c_68 c_76)]; rfl) ?_
              exact ih (i + 1) (by omega) (by omega) (by omega) kk
            · skip
              refine r_iconst (v := nI 1) dX0_doesFit_79 rfl ?_
              refine r_goto 84 dX0_doesFit_80 (by decide) ?_
              refine r_istore_n 3 dX0_doesFit_84 rfl (by decide) rfl ?_
              refine gG_ls (ls' := [_, _, _, _, _]) rfl ?_
              refine r_iinc dX0_doesFit_85 rfl (by decide) rfl ?_
              refine gG_ls (ls' := [_, _, _, _, some (.int (nI ((i + 1))))]) (by rw [show (Int32.ofInt 1) = nI 1 from rfl, nI_add]; rfl) ?_
              refine r_goto 8 dX0_doesFit_88 (by decide) ?_
              refine gG_ls (ls' := [_, _, _, some (.int (b2 (fitA (ruB (nI k0)) (ftP S.r S.sheets s (nI k0)) (i + 1)))), _]) (by rw [fitA_s n_30 (ftP_11 n_44 c_68 c_76)]; rfl) ?_
              exact ih (i + 1) (by omega) (by omega) (by omega) kk
theorem X_doesFit {d : Nat} {h : Hp} {S : MSt} (hX : CX h S) (w : WF S.r) {s a A t z : Nat} (hs : s < 4) (so : ShO h a A t z (S.bits s)) (z40 : z ≤ 40) (sv : ∀ i, i < z → hI h A i = S.sheets (40 * s + i)) {F : Row} {k0 : Nat} (hk0 : k0 < 256) : gC (d + 2) (0) (0) m_X0_doesFit [.ref 21, .ref a, .int (nI k0)] (bI h 60 F) (Ret (some (.int (b2 (fitN S.r S.sheets z s k0)))) (bI h 60 F)) := by
  refine gC.of (ls := [some (.ref 21), some (.ref a), some (.int (nI k0)), none, none]) (by decide +kernel) rfl rfl rfl rfl (Nat.le_of_ble_eq_true rfl) ?_
  have ha := so.1
  refine r_iload_n 2 dX0_doesFit_0 rfl rfl ?_
  refine r_callS_1 dX0_doesFit_1 kX0_231 (X_isRule (k := k0) (by omega))  rfl rfl (Nat.le_of_ble_eq_true rfl) ?_
  refine r_istore_n 3 dX0_doesFit_4 rfl (by decide) rfl ?_
  refine gG_ls (ls' := [_, _, _, _, _]) rfl ?_
  refine r_iconst (v := nI 0) dX0_doesFit_5 rfl ?_
  refine r_istore dX0_doesFit_6 (by decide) rfl ?_
  refine gG_ls (ls' := [_, _, _, _, _]) rfl ?_
  refine gG_ls (ls' := [_, _, _, some (.int (b2 (fitA (ruB (nI k0)) (ftP S.r S.sheets s (nI k0)) 0))), _]) rfl ?_
  refine X_doesFit_L hX w hs so z40 sv hk0 41 0 (by omega) (by omega) (by omega) (fun i9 => ?_)
  refine r_iload_n 3 dX0_doesFit_91 rfl rfl ?_
  refine e_zret dX0_doesFit_92 rfl (nar_b2 _) ?_
  exact ⟨rfl, rfl⟩
theorem X_findRules_L {d : Nat} {h : Hp} {S : MSt} (hX : CX h S) (w : WF S.r) {s a A t z : Nat} (hs : s < 4) (so : ShO h a A t z (S.bits s)) (z40 : z ≤ 40) (sv : ∀ i, i < z → hI h A i = S.sheets (40 * s + i)) {F : Row} {Q : gQ} : ∀ (k i : Nat), i ≤ 256 → 257 ≤ i + k → (gG (d + 3) (0) (0) m_X0_findRules 48 [some (.ref 21), some (.ref a), some (.int (nI (manF (fitN S.r S.sheets z s) (256)))), some (.int (nI 256))] [] (bI h 60 (fiF (fitN S.r S.sheets z s) F (256))) (Q)) → gG (d + 3) (0) (0) m_X0_findRules 4 [some (.ref 21), some (.ref a), some (.int (nI (manF (fitN S.r S.sheets z s) (i)))), some (.int (nI i))] [] (bI h 60 (fiF (fitN S.r S.sheets z s) F (i))) (Q) := by
  intro k
  induction k with
  | zero => exact fun i h1 h2 => absurd h2 (by omega)
  | succ k ih =>
  intro i hi hk kk
  have hn8 := w.n8
  have hx := hX.hx
  have hl := hX.hl
  have hb : 21 ≤ 23 ∧ 23 + 10 < 78 := by decide
  have hn : S.r 2 = nI (np S.r) := w.n
  have lw := hX.lw
  have Vr := w.V
  have K := w.K
  have ha := so.1
  have hml := manF_le (ok := (fitN S.r S.sheets z s)) i
  refine r_iload_n 3 dX0_findRules_4 rfl rfl ?_
  refine r_aload_n 0 dX0_findRules_5 rfl rfl rfl ?_
  refine r_getr (k := 8) (b := 60) dX0_findRules_6 hx.s21 rfl (by decide) (Or.inl q313) (Or.inl rfl) rfl hx.r_fits ?_
  refine r_alen dX0_findRules_9 hx.s60 (by decide) ?_
  refine r_eqi (show _ = nI (256) from rfl) ?_
  refine r_icmp_ge 48 dX0_findRules_10 (by decide) (fun c_10 => ?_) (fun c_10 => ?_)
  · skip
    have n_10 : 256 ≤ i := n_ge (by omega) (by omega) c_10
    have hin : i = 256 := by omega
    subst hin
    exact kk
  · skip
    have n_10 : i < 256 := n_gen (by omega) (by omega) c_10
    refine r_aload_n 0 dX0_findRules_13 rfl rfl rfl ?_
    refine r_getr (k := 8) (b := 60) dX0_findRules_14 hx.s21 rfl (by decide) (Or.inl q313) (Or.inl rfl) rfl hx.r_fits ?_
    refine r_iload_n 3 dX0_findRules_17 rfl rfl ?_
    refine r_aload_n 0 dX0_findRules_18 rfl rfl rfl ?_
    refine r_aload_n 1 dX0_findRules_19 rfl rfl rfl ?_
    refine r_iload_n 3 dX0_findRules_20 rfl rfl ?_
    refine r_callV_1 dX0_findRules_21 kX0_243 (X_doesFit (k0 := i) hX w hs so z40 sv (by omega)) (gRecv.of hx.s21 rfl) rfl rfl (Nat.le_of_ble_eq_true rfl) ?_
    refine r_zastN (i) dX0_findRules_24 hx.s60 rfl (by omega) (by decide) ?_
    refine gG_h (show _ = bI h 60 (fiF (fitN S.r S.sheets z s) F (i + 1)) from by rw [nar_z, wI_bI, bI_bI, bI_s]; rfl) ?_
    refine r_iload_n 2 dX0_findRules_25 rfl rfl ?_
    refine r_aload_n 0 dX0_findRules_26 rfl rfl rfl ?_
    refine r_getr (k := 8) (b := 60) dX0_findRules_27 hx.s21 rfl (by decide) (Or.inl q313) (Or.inl rfl) rfl hx.r_fits ?_
    refine r_iload_n 3 dX0_findRules_30 rfl rfl ?_
    refine r_zaldN (i) dX0_findRules_31 hx.s60 rfl (by omega) (by decide) ?_
    refine r_eqi (show _ = b2 (((fitN S.r S.sheets z s) i)) from ((congrFun (bI_s _ _ _) i).trans (ru_s _ _ _))) ?_
    refine r_if_eq 39 dX0_findRules_32 (by decide) (fun c_32 => ?_) (fun c_32 => ?_)
    · skip
      have n_32 : ((fitN S.r S.sheets z s) i) = false := b2_f c_32
      refine r_iconst (v := nI 0) dX0_findRules_39 rfl ?_
      refine r_iadd dX0_findRules_40 ?_
      refine r_eqi (show _ = nI ((manF (fitN S.r S.sheets z s) (i)) + 0) from by simp only [pk_mul, nI_add]) ?_
      refine r_istore_n 2 dX0_findRules_41 rfl (by decide) rfl ?_
      refine gG_ls (ls' := [_, _, _, _]) rfl ?_
      refine r_iinc dX0_findRules_42 rfl (by decide) rfl ?_
      refine gG_ls (ls' := [_, _, _, some (.int (nI ((i + 1))))]) (by rw [show (Int32.ofInt 1) = nI 1 from rfl, nI_add]; rfl) ?_
      refine r_goto 4 dX0_findRules_45 (by decide) ?_
      refine gG_ls (ls' := [_, _, some (.int (nI (manF (fitN S.r S.sheets z s) (i + 1)))), _]) (by rw [manF_f n_32]) ?_
      exact ih (i + 1) (by omega) (by omega) kk
    · skip
      have n_32 : ((fitN S.r S.sheets z s) i) = true := b2_t c_32
      refine r_iconst (v := nI 1) dX0_findRules_35 rfl ?_
      refine r_goto 40 dX0_findRules_36 (by decide) ?_
      refine r_iadd dX0_findRules_40 ?_
      refine r_eqi (show _ = nI ((manF (fitN S.r S.sheets z s) (i)) + 1) from by simp only [pk_mul, nI_add]) ?_
      refine r_istore_n 2 dX0_findRules_41 rfl (by decide) rfl ?_
      refine gG_ls (ls' := [_, _, _, _]) rfl ?_
      refine r_iinc dX0_findRules_42 rfl (by decide) rfl ?_
      refine gG_ls (ls' := [_, _, _, some (.int (nI ((i + 1))))]) (by rw [show (Int32.ofInt 1) = nI 1 from rfl, nI_add]; rfl) ?_
      refine r_goto 4 dX0_findRules_45 (by decide) ?_
      refine gG_ls (ls' := [_, _, some (.int (nI (manF (fitN S.r S.sheets z s) (i + 1)))), _]) (by rw [manF_t n_32]) ?_
      exact ih (i + 1) (by omega) (by omega) kk
theorem X_findRules {d : Nat} {h : Hp} {S : MSt} (hX : CX h S) (w : WF S.r) {s a A t z : Nat} (hs : s < 4) (so : ShO h a A t z (S.bits s)) (z40 : z ≤ 40) (sv : ∀ i, i < z → hI h A i = S.sheets (40 * s + i)) {F : Row} : gC (d + 3) (0) (0) m_X0_findRules [.ref 21, .ref a] (bI h 60 F) (Ret (some (.int (nI (manF (fitN S.r S.sheets z s) 256)))) (bI h 60 (fiF (fitN S.r S.sheets z s) F (256)))) := by
  refine gC.of (ls := [some (.ref 21), some (.ref a), none, none]) (by decide +kernel) rfl rfl rfl rfl (Nat.le_of_ble_eq_true rfl) ?_
  have ha := so.1
  refine r_iconst (v := nI 0) dX0_findRules_0 rfl ?_
  refine r_istore_n 2 dX0_findRules_1 rfl (by decide) rfl ?_
  refine gG_ls (ls' := [_, _, _, _]) rfl ?_
  refine r_iconst (v := nI 0) dX0_findRules_2 rfl ?_
  refine r_istore_n 3 dX0_findRules_3 rfl (by decide) rfl ?_
  refine gG_ls (ls' := [_, _, _, _]) rfl ?_
  refine X_findRules_L hX w hs so z40 sv 257 0 (by omega) (by omega) ?_
  refine r_iload_n 2 dX0_findRules_48 rfl rfl ?_
  refine e_iret dX0_findRules_49 rfl ?_
  exact ⟨rfl, rfl⟩
theorem X_least_L {d : Nat} {h : Hp} (hx : LayX (hS h) (hR h)) {ok : Nat → Bool} (hF : ∀ i, i < 256 → hI h 60 i = b2 (ok i)) {Q : gQ} : ∀ (k i : Nat), i + k = 256 → (∃ j, i ≤ j ∧ j < 256 ∧ ok j = true) → (∀ j, j < i → ok j = false) → (∀ l, ok l = true → (∀ j, j < l → ok j = false) → l < 256 → gG (d) (0) (0) m_X0_leastRule 17 [some (.ref 21), some (.int (nI l))] [] (h) (Q)) → gG (d) (0) (0) m_X0_leastRule 2 [some (.ref 21), some (.int (nI i))] [] (h) (Q) := by
  intro k
  induction k with
  | zero => exact fun i h1 h2 => by obtain ⟨j, q1, q2, q3⟩ := h2; omega
  | succ k ih =>
  intro i hi hex hno kk
  refine r_aload_n 0 dX0_leastRule_2 rfl rfl rfl ?_
  refine r_getr (k := 8) (b := 60) dX0_leastRule_3 hx.s21 rfl (by decide) (Or.inl q313) (Or.inl rfl) rfl hx.r_fits ?_
  refine r_iload_n 1 dX0_leastRule_6 rfl rfl ?_
  refine r_zaldN (i) dX0_leastRule_7 hx.s60 rfl (by omega) (by decide) ?_
  refine r_eqi (show _ = b2 ((ok i)) from hF i (by omega)) ?_
  refine r_if_ne 17 dX0_leastRule_8 (by decide) (fun c_8 => ?_) (fun c_8 => ?_)
  · skip
    have n_8 : (ok i) = true := b2_t c_8
    exact kk i n_8 hno (by omega)
  · skip
    have n_8 : (ok i) = false := b2_f c_8
    refine r_iinc dX0_leastRule_11 rfl (by decide) rfl ?_
    refine gG_ls (ls' := [_, some (.int (nI ((i + 1))))]) (by rw [show (Int32.ofInt 1) = nI 1 from rfl, nI_add]; rfl) ?_
    refine r_goto 2 dX0_leastRule_14 (by decide) ?_
    exact ih (i + 1) (by omega) (by obtain ⟨j, q1, q2, q3⟩ := hex; exact ⟨j, Nat.lt_of_le_of_ne q1 (fun e => by rw [← e, n_8] at q3; cases q3), q2, q3⟩) (fun j hj => by rcases Nat.lt_or_ge j i with q | q; exact hno j q; rw [show j = i by omega]; exact n_8) kk
theorem X_least {d : Nat} {h : Hp} (hx : LayX (hS h) (hR h)) {ok : Nat → Bool} (hF : ∀ i, i < 256 → hI h 60 i = b2 (ok i)) (hex : ∃ j, j < 256 ∧ ok j = true) : gC (d) (0) (0) m_X0_leastRule [.ref 21] (h) (Ret (some (.int (nI (leaG ok 256 0)))) h) := by
  refine gC.of (ls := [some (.ref 21), none]) (by decide +kernel) rfl rfl rfl rfl (Nat.le_of_ble_eq_true rfl) ?_
  refine r_iconst (v := nI 0) dX0_leastRule_0 rfl ?_
  refine r_istore_n 1 dX0_leastRule_1 rfl (by decide) rfl ?_
  refine gG_ls (ls' := [_, _]) rfl ?_
  refine X_least_L hx hF 256 0 (by omega) (by obtain ⟨j, q1, q2⟩ := hex; exact ⟨j, by omega, q1, q2⟩) (fun j hj => absurd hj (by omega)) (fun l hl hno hl6 => ?_)
  refine r_iload_n 1 dX0_leastRule_17 rfl rfl ?_
  refine e_iret dX0_leastRule_18 rfl ?_
  exact ⟨by rw [leaG_at hl hno 256 0 hl6], rfl⟩
theorem X_uneven_L {d : Nat} {h : Hp} (hx : LayX (hS h) (hR h)) {ok : Nat → Bool} (hF : ∀ i, i < 256 → hI h 60 i = b2 (ok i)) {t : Nat} {Q : gQ} : ∀ (k i : Nat), i ≤ 256 → 257 ≤ i + k → (gG (d + 1) (0) (0) m_X0_unevenBy 48 [some (.ref 21), some (.int (nI t)), some (.int (apF ok (fun k => givB (nI k) (nI t)) (256))), some (.int (nI 256))] [] (h) (Q)) → gG (d + 1) (0) (0) m_X0_unevenBy 4 [some (.ref 21), some (.int (nI t)), some (.int (apF ok (fun k => givB (nI k) (nI t)) (i))), some (.int (nI i))] [] (h) (Q) := by
  intro k
  induction k with
  | zero => exact fun i h1 h2 => absurd h2 (by omega)
  | succ k ih =>
  intro i hi hk kk
  refine r_iload_n 3 dX0_unevenBy_4 rfl rfl ?_
  refine r_aload_n 0 dX0_unevenBy_5 rfl rfl rfl ?_
  refine r_getr (k := 8) (b := 60) dX0_unevenBy_6 hx.s21 rfl (by decide) (Or.inl q313) (Or.inl rfl) rfl hx.r_fits ?_
  refine r_alen dX0_unevenBy_9 hx.s60 (by decide) ?_
  refine r_eqi (show _ = nI (256) from rfl) ?_
  refine r_icmp_ge 48 dX0_unevenBy_10 (by decide) (fun c_10 => ?_) (fun c_10 => ?_)
  · skip
    have n_10 : 256 ≤ i := n_ge (by omega) (by omega) c_10
    have hin : i = 256 := by omega
    subst hin
    exact kk
  · skip
    have n_10 : i < 256 := n_gen (by omega) (by omega) c_10
    refine r_iload_n 2 dX0_unevenBy_13 rfl rfl ?_
    refine r_aload_n 0 dX0_unevenBy_14 rfl rfl rfl ?_
    refine r_getr (k := 8) (b := 60) dX0_unevenBy_15 hx.s21 rfl (by decide) (Or.inl q313) (Or.inl rfl) rfl hx.r_fits ?_
    refine r_iload_n 3 dX0_unevenBy_18 rfl rfl ?_
    refine r_zaldN (i) dX0_unevenBy_19 hx.s60 rfl (by omega) (by decide) ?_
    refine r_eqi (show _ = b2 ((ok i)) from hF i (by omega)) ?_
    refine r_if_eq 39 dX0_unevenBy_20 (by decide) (fun c_20 => ?_) (fun c_20 => ?_)
    · skip
      have n_20 : (ok i) = false := b2_f c_20
      refine r_iconst (v := nI 0) dX0_unevenBy_39 rfl ?_
      refine r_iadd dX0_unevenBy_40 ?_
      refine r_istore_n 2 dX0_unevenBy_41 rfl (by decide) rfl ?_
      refine gG_ls (ls' := [_, _, _, _]) rfl ?_
      refine r_iinc dX0_unevenBy_42 rfl (by decide) rfl ?_
      refine gG_ls (ls' := [_, _, _, some (.int (nI ((i + 1))))]) (by rw [show (Int32.ofInt 1) = nI 1 from rfl, nI_add]; rfl) ?_
      refine r_goto 4 dX0_unevenBy_45 (by decide) ?_
      refine gG_ls (ls' := [_, _, some (.int (apF ok (fun k => givB (nI k) (nI t)) (i + 1))), _]) (by rw [apF_3 n_20]) ?_
      exact ih (i + 1) (by omega) (by omega) kk
    · skip
      have n_20 : (ok i) = true := b2_t c_20
      refine r_iload_n 3 dX0_unevenBy_23 rfl rfl ?_
      refine r_iload_n 1 dX0_unevenBy_24 rfl rfl ?_
      refine r_callS_1 dX0_unevenBy_25 kX0_240 (X_doesGive (k := i) (t := nI t) (by omega))  rfl rfl (Nat.le_of_ble_eq_true rfl) ?_
      refine r_if_eq 35 dX0_unevenBy_28 (by decide) (fun c_28 => ?_) (fun c_28 => ?_)
      · skip
        have n_28 : (givB (nI i) (nI t)) = false := b2_f c_28
        refine r_iconst (v := (-1)) dX0_unevenBy_35 (by decide +kernel) ?_
        refine r_goto 40 dX0_unevenBy_36 (by decide) ?_
        refine r_iadd dX0_unevenBy_40 ?_
        refine r_istore_n 2 dX0_unevenBy_41 rfl (by decide) rfl ?_
        refine gG_ls (ls' := [_, _, _, _]) rfl ?_
        refine r_iinc dX0_unevenBy_42 rfl (by decide) rfl ?_
        refine gG_ls (ls' := [_, _, _, some (.int (nI ((i + 1))))]) (by rw [show (Int32.ofInt 1) = nI 1 from rfl, nI_add]; rfl) ?_
        refine r_goto 4 dX0_unevenBy_45 (by decide) ?_
        refine gG_ls (ls' := [_, _, some (.int (apF ok (fun k => givB (nI k) (nI t)) (i + 1))), _]) (by rw [apF_2 n_20 n_28]) ?_
        exact ih (i + 1) (by omega) (by omega) kk
      · skip
        have n_28 : (givB (nI i) (nI t)) = true := b2_t c_28
        refine r_iconst (v := nI 1) dX0_unevenBy_31 rfl ?_
        refine r_goto 40 dX0_unevenBy_32 (by decide) ?_
        refine r_iadd dX0_unevenBy_40 ?_
        refine r_istore_n 2 dX0_unevenBy_41 rfl (by decide) rfl ?_
        refine gG_ls (ls' := [_, _, _, _]) rfl ?_
        refine r_iinc dX0_unevenBy_42 rfl (by decide) rfl ?_
        refine gG_ls (ls' := [_, _, _, some (.int (nI ((i + 1))))]) (by rw [show (Int32.ofInt 1) = nI 1 from rfl, nI_add]; rfl) ?_
        refine r_goto 4 dX0_unevenBy_45 (by decide) ?_
        refine gG_ls (ls' := [_, _, some (.int (apF ok (fun k => givB (nI k) (nI t)) (i + 1))), _]) (by rw [apF_1 n_20 n_28]) ?_
        exact ih (i + 1) (by omega) (by omega) kk
theorem X_uneven {d : Nat} {h : Hp} (hx : LayX (hS h) (hR h)) {ok : Nat → Bool} (hF : ∀ i, i < 256 → hI h 60 i = b2 (ok i)) {t : Nat} : gC (d + 1) (0) (0) m_X0_unevenBy [.ref 21, .int (nI t)] (h) (Ret (some (.int (uvO ok t))) h) := by
  refine gC.of (ls := [some (.ref 21), some (.int (nI t)), none, none]) (by decide +kernel) rfl rfl rfl rfl (Nat.le_of_ble_eq_true rfl) ?_
  refine r_iconst (v := nI 0) dX0_unevenBy_0 rfl ?_
  refine r_istore_n 2 dX0_unevenBy_1 rfl (by decide) rfl ?_
  refine gG_ls (ls' := [_, _, _, _]) rfl ?_
  refine r_iconst (v := nI 0) dX0_unevenBy_2 rfl ?_
  refine r_istore_n 3 dX0_unevenBy_3 rfl (by decide) rfl ?_
  refine gG_ls (ls' := [_, _, _, _]) rfl ?_
  refine X_uneven_L hx hF 257 0 (by omega) (by omega) ?_
  refine r_iload_n 2 dX0_unevenBy_48 rfl rfl ?_
  refine r_mabs dX0_unevenBy_49 kX0_247 kM_sabs kM_I kM_cabs (Nat.le_of_ble_eq_true rfl) ?_
  refine e_iret dX0_unevenBy_52 rfl ?_
  exact ⟨by rw [absI_m]; rfl, rfl⟩
theorem X_toSend_L {d : Nat} {h : Hp} (hx : LayX (hS h) (hR h)) {ok : Nat → Bool} (hF : ∀ i, i < 256 → hI h 60 i = b2 (ok i)) {Q : gQ} : ∀ (k j : Nat), j + k = 15 → (gG (d + 2) (0) (0) m_X0_toSend 35 [some (.ref 21), some (.int (nI (evC (uvO ok) 15))), some (.int (nI (15 + 1)))] [] (h) (Q)) → gG (d + 2) (0) (0) m_X0_toSend 4 [some (.ref 21), some (.int (nI (evC (uvO ok) j))), some (.int (nI (j + 1)))] [] (h) (Q) := by
  intro k
  induction k with
  | zero =>
    intro j hj kk
    refine r_iload_n 2 dX0_toSend_4 rfl rfl ?_
    refine r_bipush (v := nI 16) dX0_toSend_5 (by decide +kernel) ?_
    refine r_icmp_ge 35 dX0_toSend_7 (by decide) (fun c_7 => ?_) (fun c_7 => ?_)
    · skip
      have n_7 : 16 ≤ (j + 1) := n_ge (by omega) (by omega) c_7
      have hj5 : j = 15 := by omega
      subst hj5
      exact kk
    · skip
      have n_7 : (j + 1) < 16 := n_gen (by omega) (by omega) c_7
      exact absurd n_7 (by omega)
  | succ k ih =>
  intro j hj kk
  have hle := evC_le (u := (uvO ok)) j
  refine r_iload_n 2 dX0_toSend_4 rfl rfl ?_
  refine r_bipush (v := nI 16) dX0_toSend_5 (by decide +kernel) ?_
  refine r_icmp_ge 35 dX0_toSend_7 (by decide) (fun c_7 => ?_) (fun c_7 => ?_)
  · skip
    have n_7 : 16 ≤ (j + 1) := n_ge (by omega) (by omega) c_7
    exact absurd n_7 (by omega)
  · skip
    have n_7 : (j + 1) < 16 := n_gen (by omega) (by omega) c_7
    refine r_aload_n 0 dX0_toSend_10 rfl rfl rfl ?_
    refine r_iload_n 2 dX0_toSend_11 rfl rfl ?_
    refine r_callV_1 dX0_toSend_12 kX0_252 (X_uneven (t := (j + 1)) hx hF) (gRecv.of hx.s21 rfl) rfl rfl (Nat.le_of_ble_eq_true rfl) ?_
    refine r_aload_n 0 dX0_toSend_15 rfl rfl rfl ?_
    refine r_iload_n 1 dX0_toSend_16 rfl rfl ?_
    refine r_callV_1 dX0_toSend_17 kX0_252 (X_uneven (t := (evC (uvO ok) j)) hx hF) (gRecv.of hx.s21 rfl) rfl rfl (Nat.le_of_ble_eq_true rfl) ?_
    refine r_icmp_ge 27 dX0_toSend_20 (by decide) (fun c_20 => ?_) (fun c_20 => ?_)
    · skip
      refine r_iload_n 1 dX0_toSend_27 rfl rfl ?_
      refine r_istore_n 1 dX0_toSend_28 rfl (by decide) rfl ?_
      refine gG_ls (ls' := [_, _, _]) rfl ?_
      refine r_iinc dX0_toSend_29 rfl (by decide) rfl ?_
      refine gG_ls (ls' := [_, _, some (.int (nI (((j + 1) + 1))))]) (by rw [show (Int32.ofInt 1) = nI 1 from rfl, nI_add]; rfl) ?_
      refine r_goto 4 dX0_toSend_32 (by decide) ?_
      refine gG_ls (ls' := [_, some (.int (nI (evC (uvO ok) (j + 1)))), _]) (by rw [evC_f (u := uvO ok) (k := j) (i_le_nlt c_20)]) ?_
      exact ih (j + 1) (by omega) kk
    · skip
      refine r_iload_n 2 dX0_toSend_23 rfl rfl ?_
      refine r_goto 28 dX0_toSend_24 (by decide) ?_
      refine r_istore_n 1 dX0_toSend_28 rfl (by decide) rfl ?_
      refine gG_ls (ls' := [_, _, _]) rfl ?_
      refine r_iinc dX0_toSend_29 rfl (by decide) rfl ?_
      refine gG_ls (ls' := [_, _, some (.int (nI (((j + 1) + 1))))]) (by rw [show (Int32.ofInt 1) = nI 1 from rfl, nI_add]; rfl) ?_
      refine r_goto 4 dX0_toSend_32 (by decide) ?_
      refine gG_ls (ls' := [_, some (.int (nI (evC (uvO ok) (j + 1)))), _]) (by rw [evC_t (u := uvO ok) (k := j) (i_nle c_20)]) ?_
      exact ih (j + 1) (by omega) kk
theorem X_toSend {d : Nat} {h : Hp} (hx : LayX (hS h) (hR h)) {ok : Nat → Bool} (hF : ∀ i, i < 256 → hI h 60 i = b2 (ok i)) : gC (d + 2) (0) (0) m_X0_toSend [.ref 21] (h) (Ret (some (.int (nI (evC (uvO ok) 15)))) h) := by
  refine gC.of (ls := [some (.ref 21), none, none]) (by decide +kernel) rfl rfl rfl rfl (Nat.le_of_ble_eq_true rfl) ?_
  refine r_iconst (v := nI 0) dX0_toSend_0 rfl ?_
  refine r_istore_n 1 dX0_toSend_1 rfl (by decide) rfl ?_
  refine gG_ls (ls' := [_, _, _]) rfl ?_
  refine r_iconst (v := nI 1) dX0_toSend_2 rfl ?_
  refine r_istore_n 2 dX0_toSend_3 rfl (by decide) rfl ?_
  refine gG_ls (ls' := [_, _, _]) rfl ?_
  refine X_toSend_L hx hF 15 0 (by omega) ?_
  refine r_iload_n 1 dX0_toSend_35 rfl rfl ?_
  refine e_iret dX0_toSend_36 rfl ?_
  exact ⟨rfl, rfl⟩
theorem X_rules {d : Nat} {h : Hp} {S : MSt} (hX : CX h S) (w : WF S.r) {s q : Int32} : gC (d + 5) (0) (0) m_X0_rules [.ref 21, .int s, .int q] (h) (RX h (aRules S s q)) := by
  have e_0 : aRules S s q = (if inB s (nI 0) (nI 3) = true then (if inB q (nI 0) (nI 2) = true then (if S.bits (toN s) = 0 then errA S (-1000000002) 2 else if toN q = 1 then (if manG (fitN S.r S.sheets (toN (S.size (toN s))) (toN s)) 256 0 = 0 then errA S (-1000000002) 2 else (nI (leaG (fitN S.r S.sheets (toN (S.size (toN s))) (toN s)) 256 0), S)) else if toN q = 0 then (nI (manG (fitN S.r S.sheets (toN (S.size (toN s))) (toN s)) 256 0), S) else (nI (evF (uvN S.r S.sheets (toN (S.size (toN s))) (toN s)) 16).1, S)) else errA S (-1000000001) 1) else errA S (-1000000001) 1) := rfl
  rw [e_0]
  have hn8 := w.n8
  have hx := hX.hx
  have hl := hX.hl
  have hb : 21 ≤ 23 ∧ 23 + 10 < 78 := by decide
  have hn : S.r 2 = nI (np S.r) := w.n
  have lw := hX.lw
  have Vr := w.V
  have K := w.K
  refine gC.ofH (ls := [some (.ref 21), some (.int s), some (.int q), none]) (by decide +kernel) rfl rfl rfl rfl (Nat.le_of_ble_eq_true rfl) ?_
  refine r_aload_n 0 dX0_rules_0 rfl rfl rfl ?_
  refine r_iload_n 1 dX0_rules_1 rfl rfl ?_
  refine r_callS_1 dX0_rules_2 kX0_255 (X_isSheet (v := s))  rfl rfl (Nat.le_of_ble_eq_true rfl) ?_
  refine r_if_eq 21 dX0_rules_5 (by decide) (fun c_5 => ?_) (fun c_5 => ?_)
  · skip
    have n_5 : (inB (s) (nI 0) (nI 3)) = false := b2_f c_5
    first | rw [ifT n_5] | rw [ifF n_5] | skip
    refine r_iconst (v := nI 0) dX0_rules_21 rfl ?_
    refine r_iconst (v := nI 1) dX0_rules_22 rfl ?_
    refine r_need0 dX0_rules_23 rfl (by exact hx) (Nat.le_of_ble_eq_true rfl) ?_
    refine t_catch [] (0, 79, 80, 8) [] (hx).s22 rfl rfl (fun z hz => by cases hz) rfl (by decide) q126 q128 ?_
    refine r_astore_n 3 dX0_rules_80 rfl (by decide) rfl rfl ?_
    refine gG_ls (ls' := [_, _, _, _]) rfl ?_
    refine r_aload_n 0 dX0_rules_81 rfl rfl rfl ?_
    refine r_aload_n 3 dX0_rules_82 rfl rfl rfl ?_
    refine r_callV_1 dX0_rules_83 kX0_131 (X_finds (k := 1) (by exact hx) (by decide)) (gRecv.of hx.s21 rfl) rfl rfl (Nat.le_of_ble_eq_true rfl) ?_
    refine e_iret dX0_rules_86 rfl ?_
    exact RX.err hX FrX.r (by decide) (by decide) (by decide)
  · skip
    have n_5 : (inB (s) (nI 0) (nI 3)) = true := b2_t c_5
    first | rw [ifT n_5] | rw [ifF n_5] | skip
    obtain ⟨k, h_k, rfl⟩ := inB_n (by decide) n_5
    have e_k : toN (nI k) = k := toN_nI (by omega)
    try simp only [e_k]
    refine r_iload_n 2 dX0_rules_8 rfl rfl ?_
    refine r_iconst (v := nI 0) dX0_rules_9 rfl ?_
    refine r_iconst (v := nI 2) dX0_rules_10 rfl ?_
    refine r_callS_1 dX0_rules_11 kX0_86 (X_in)  rfl rfl (Nat.le_of_ble_eq_true rfl) ?_
    refine r_if_eq 21 dX0_rules_14 (by decide) (fun c_14 => ?_) (fun c_14 => ?_)
    · skip
      have n_14 : (inB (q) (nI 0) (nI 2)) = false := b2_f c_14
      first | rw [ifT n_14] | rw [ifF n_14] | skip
      refine r_iconst (v := nI 0) dX0_rules_21 rfl ?_
      refine r_iconst (v := nI 1) dX0_rules_22 rfl ?_
      refine r_need0 dX0_rules_23 rfl (by exact hx) (Nat.le_of_ble_eq_true rfl) ?_
      refine t_catch [] (0, 79, 80, 8) [] (hx).s22 rfl rfl (fun z hz => by cases hz) rfl (by decide) q126 q128 ?_
      refine r_astore_n 3 dX0_rules_80 rfl (by decide) rfl rfl ?_
      refine gG_ls (ls' := [_, _, _, _]) rfl ?_
      refine r_aload_n 0 dX0_rules_81 rfl rfl rfl ?_
      refine r_aload_n 3 dX0_rules_82 rfl rfl rfl ?_
      refine r_callV_1 dX0_rules_83 kX0_131 (X_finds (k := 1) (by exact hx) (by decide)) (gRecv.of hx.s21 rfl) rfl rfl (Nat.le_of_ble_eq_true rfl) ?_
      refine e_iret dX0_rules_86 rfl ?_
      exact RX.err hX FrX.r (by decide) (by decide) (by decide)
    · skip
      have n_14 : (inB (q) (nI 0) (nI 2)) = true := b2_t c_14
      first | rw [ifT n_14] | rw [ifF n_14] | skip
      obtain ⟨c, h_c, rfl⟩ := inB_n (by decide) n_14
      have e_c : toN (nI c) = c := toN_nI (by omega)
      try simp only [e_c]
      refine r_iconst (v := nI 1) dX0_rules_17 rfl ?_
      refine r_goto 22 dX0_rules_18 (by decide) ?_
      refine r_iconst (v := nI 1) dX0_rules_22 rfl ?_
      refine r_need1 dX0_rules_23 rfl (by exact hx) (Nat.le_of_ble_eq_true rfl) ?_
      refine r_aload_n 0 dX0_rules_26 rfl rfl rfl ?_
      refine r_aload_n 0 dX0_rules_27 rfl rfl rfl ?_
      refine r_iload_n 1 dX0_rules_28 rfl rfl ?_
      rcases Classical.em (S.bits k = 0) with hb0 | hb0
      · skip
        rw [iP hb0]
        refine r_sheetAt_n rfl dX0_rules_29 (by exact hx) (by omega) (hX.nosh (by omega) hb0) (Nat.le_of_ble_eq_true rfl) ?_
        refine t_catch [] (0, 79, 80, 8) [] (hx).s22 rfl rfl (fun z hz => by cases hz) rfl (by decide) q126 q128 ?_
        refine r_astore_n 3 dX0_rules_80 rfl (by decide) rfl rfl ?_
        refine gG_ls (ls' := [_, _, _, _]) rfl ?_
        refine r_aload_n 0 dX0_rules_81 rfl rfl rfl ?_
        refine r_aload_n 3 dX0_rules_82 rfl rfl rfl ?_
        refine r_callV_1 dX0_rules_83 kX0_131 (X_finds (k := 2) (by exact hx) (by decide)) (gRecv.of hx.s21 rfl) rfl rfl (Nat.le_of_ble_eq_true rfl) ?_
        refine e_iret dX0_rules_86 rfl ?_
        exact RX.err hX FrX.r (by decide) (by decide) (by decide)
      · skip
        rw [iN hb0]
        obtain ⟨a, A, t, z, s1, so, sz, z40, sv⟩ := hX.sat (s := k) (by omega) hb0
        have e_z : toN (S.size k) = z := by rw [sz]; exact toN_nI (by omega)
        simp only [e_z]
        have ha := so.1
        have hman : manG (fitN S.r S.sheets z k) 256 0 = manF (fitN S.r S.sheets z k) 256 := by rw [manG_F, Nat.zero_add]
        rw [hman]
        have hml := manF_le (ok := (fitN S.r S.sheets z k)) 256
        refine r_sheetAt_s rfl dX0_rules_29 (by exact hx) (by omega) s1 so (Nat.le_of_ble_eq_true rfl) ?_
        refine gG_h (bI_60 (h := h)) ?_
        refine r_callV_1 dX0_rules_32 kX0_262 (X_findRules (s := k) (F := hI h 60) hX w (by omega) so z40 sv) (gRecv.of hx.s21 rfl) rfl rfl (Nat.le_of_ble_eq_true rfl) ?_
        refine r_istore_n 3 dX0_rules_35 rfl (by decide) rfl ?_
        refine gG_ls (ls' := [_, _, _, _]) rfl ?_
        refine r_aload_n 0 dX0_rules_36 rfl rfl rfl ?_
        refine r_iload_n 2 dX0_rules_37 rfl rfl ?_
        refine r_iconst (v := nI 1) dX0_rules_38 rfl ?_
        refine r_icmp_ne 46 dX0_rules_39 (by decide) (fun c_39 => ?_) (fun c_39 => ?_)
        · skip
          have n_39 : ¬ c = 1 := n_ne (by omega) (by omega) c_39
          first | rw [iP n_39] | rw [iN n_39] | rw [iN (Nat.not_lt.mpr n_39)] | rw [iN (Nat.not_le.mpr n_39)] | skip
          refine r_iconst (v := nI 1) dX0_rules_46 rfl ?_
          refine r_goto 51 dX0_rules_47 (by decide) ?_
          refine r_iconst (v := nI 2) dX0_rules_51 rfl ?_
          refine r_need1 dX0_rules_52 rfl (by exact hx) (Nat.le_of_ble_eq_true rfl) ?_
          refine r_iload_n 2 dX0_rules_55 rfl rfl ?_
          refine r_if_ne 63 dX0_rules_56 (by decide) (fun c_56 => ?_) (fun c_56 => ?_)
          · skip
            have n_56 : ¬ c = 0 := n_ne0 (by omega) c_56
            first | rw [iP n_56] | rw [iN n_56] | rw [iN (Nat.not_lt.mpr n_56)] | rw [iN (Nat.not_le.mpr n_56)] | skip
            refine r_iload_n 2 dX0_rules_63 rfl rfl ?_
            refine r_iconst (v := nI 1) dX0_rules_64 rfl ?_
            refine r_icmp_ne 75 dX0_rules_65 (by decide) (fun c_65 => ?_) (fun c_65 => ?_)
            · skip
              have n_65 : ¬ c = 1 := n_ne (by omega) (by omega) c_65
              first | rw [iP n_65] | rw [iN n_65] | rw [iN (Nat.not_lt.mpr n_65)] | rw [iN (Nat.not_le.mpr n_65)] | skip
              refine r_aload_n 0 dX0_rules_75 rfl rfl rfl ?_
              refine r_callV_1 dX0_rules_76 kX0_269 (X_toSend (ok := (fitN S.r S.sheets z k)) (by exact hx) (fun i hi => (congrFun (bI_s _ _ _) i).trans (fiF_at _ hi))) (gRecv.of hx.s21 rfl) rfl rfl (Nat.le_of_ble_eq_true rfl) ?_
              refine e_iret dX0_rules_79 rfl ?_
              exact RX.same (hX.fr FrC.b60) (FrX.b (by decide)) (by rw [evF_C uv_0 15, uvO_N]) rfl
            · skip
              have n_65 : c = 1 := n_nen (by omega) (by omega) c_65
              first | rw [iP n_65] | rw [iN n_65] | rw [iN (Nat.not_lt.mpr n_65)] | rw [iN (Nat.not_le.mpr n_65)] | skip
              exact absurd n_65 n_39
          · skip
            have n_56 : c = 0 := n_eq0 (by omega) c_56
            first | rw [iP n_56] | rw [iN n_56] | rw [iN (Nat.not_lt.mpr n_56)] | rw [iN (Nat.not_le.mpr n_56)] | skip
            refine r_iload_n 3 dX0_rules_59 rfl rfl ?_
            refine r_goto 79 dX0_rules_60 (by decide) ?_
            refine e_iret dX0_rules_79 rfl ?_
            exact RX.same (hX.fr FrC.b60) (FrX.b (by decide)) (rfl) rfl
        · skip
          have n_39 : c = 1 := n_nen (by omega) (by omega) c_39
          first | rw [iP n_39] | rw [iN n_39] | rw [iN (Nat.not_lt.mpr n_39)] | rw [iN (Nat.not_le.mpr n_39)] | skip
          refine r_iload_n 3 dX0_rules_42 rfl rfl ?_
          refine r_if_le 50 dX0_rules_43 (by decide) (fun c_43 => ?_) (fun c_43 => ?_)
          · skip
            have n_43 : (manF (fitN S.r S.sheets z k) 256) = 0 := n_le0 (by omega) c_43
            first | rw [iP n_43] | rw [iN n_43] | rw [iN (Nat.not_lt.mpr n_43)] | rw [iN (Nat.not_le.mpr n_43)] | skip
            refine r_iconst (v := nI 0) dX0_rules_50 rfl ?_
            refine r_iconst (v := nI 2) dX0_rules_51 rfl ?_
            refine r_need0 dX0_rules_52 rfl (by exact hx) (Nat.le_of_ble_eq_true rfl) ?_
            refine t_catch [] (0, 79, 80, 8) [] (hx).s22 rfl rfl (fun z hz => by cases hz) rfl (by decide) q126 q128 ?_
            refine r_astore_n 3 dX0_rules_80 rfl (by decide) rfl rfl ?_
            refine gG_ls (ls' := [_, _, _, _]) rfl ?_
            refine r_aload_n 0 dX0_rules_81 rfl rfl rfl ?_
            refine r_aload_n 3 dX0_rules_82 rfl rfl rfl ?_
            refine r_callV_1 dX0_rules_83 kX0_131 (X_finds (k := 2) (by exact hx) (by decide)) (gRecv.of hx.s21 rfl) rfl rfl (Nat.le_of_ble_eq_true rfl) ?_
            refine e_iret dX0_rules_86 rfl ?_
            exact RX.err (hX.fr FrC.b60) (FrX.b (by decide)) (by decide) (by decide) (by decide)
          · skip
            have n_43 : 0 < (manF (fitN S.r S.sheets z k) 256) := n_le0n (by omega) c_43
            first | rw [iP n_43] | rw [iN n_43] | rw [iN (Nat.not_lt.mpr n_43)] | rw [iN (Nat.not_le.mpr n_43)] | skip
            rw [iN (show ¬ manF (fitN S.r S.sheets z k) 256 = 0 by omega)]
            refine r_iconst (v := nI 1) dX0_rules_46 rfl ?_
            refine r_goto 51 dX0_rules_47 (by decide) ?_
            refine r_iconst (v := nI 2) dX0_rules_51 rfl ?_
            refine r_need1 dX0_rules_52 rfl (by exact hx) (Nat.le_of_ble_eq_true rfl) ?_
            refine r_iload_n 2 dX0_rules_55 rfl rfl ?_
            refine r_if_ne 63 dX0_rules_56 (by decide) (fun c_56 => ?_) (fun c_56 => ?_)
            · skip
              have n_56 : ¬ c = 0 := n_ne0 (by omega) c_56
              first | rw [iP n_56] | rw [iN n_56] | rw [iN (Nat.not_lt.mpr n_56)] | rw [iN (Nat.not_le.mpr n_56)] | skip
              refine r_iload_n 2 dX0_rules_63 rfl rfl ?_
              refine r_iconst (v := nI 1) dX0_rules_64 rfl ?_
              refine r_icmp_ne 75 dX0_rules_65 (by decide) (fun c_65 => ?_) (fun c_65 => ?_)
              · skip
                have n_65 : ¬ c = 1 := n_ne (by omega) (by omega) c_65
                first | rw [iP n_65] | rw [iN n_65] | rw [iN (Nat.not_lt.mpr n_65)] | rw [iN (Nat.not_le.mpr n_65)] | skip
                exact absurd n_39 n_65
              · skip
                have n_65 : c = 1 := n_nen (by omega) (by omega) c_65
                first | rw [iP n_65] | rw [iN n_65] | rw [iN (Nat.not_lt.mpr n_65)] | rw [iN (Nat.not_le.mpr n_65)] | skip
                refine r_aload_n 0 dX0_rules_68 rfl rfl rfl ?_
                refine r_callV_1 dX0_rules_69 kX0_266 (X_least (ok := (fitN S.r S.sheets z k)) (by exact hx) (fun i hi => (congrFun (bI_s _ _ _) i).trans (fiF_at _ hi)) (manF_pos 256 (by omega))) (gRecv.of hx.s21 rfl) rfl rfl (Nat.le_of_ble_eq_true rfl) ?_
                refine r_goto 79 dX0_rules_72 (by decide) ?_
                refine e_iret dX0_rules_79 rfl ?_
                exact RX.same (hX.fr FrC.b60) (FrX.b (by decide)) (rfl) rfl
            · skip
              have n_56 : c = 0 := n_eq0 (by omega) c_56
              first | rw [iP n_56] | rw [iN n_56] | rw [iN (Nat.not_lt.mpr n_56)] | rw [iN (Nat.not_le.mpr n_56)] | skip
              exact absurd n_56 (by omega)
