theorem M_byteAt {d : Nat} {h : Hp} {r o : Row} (hm : LayM (hS h) (hR h)) {u e : Nat} {a b c : Int32} {s : PS} {k : Nat} (hu : u < 2) (he2 : e ≤ 50) (hk : k ≤ 60) (hp : PO o u e a b c s) : gC (d) (0) (0) m_X6_byteAt [.ref 66, .int (nI k)] (MH h r o) (Ret (some (.int (byV r u e k))) (MH h r o)) := by
  refine gC.of (ls := [some (.ref 66), some (.int (nI k))]) (by decide +kernel) rfl rfl rfl rfl (Nat.le_of_ble_eq_true rfl) ?_
  refine r_iload_n 1 dX6_byteAt_0 rfl rfl ?_
  refine r_aload_n 0 dX6_byteAt_1 rfl rfl rfl ?_
  refine r_geti (k := 9) dX6_byteAt_2 hm.s66 rfl (by decide) (Or.inl q1425) (Or.inl rfl) rfl ?_
  refine r_eqi (show _ = nI (e) from (hp).fin) ?_
  refine r_icmp_ge 29 dX6_byteAt_5 (by decide) (fun c_5 => ?_) (fun c_5 => ?_)
  · skip
    have n_5 : e ≤ k := n_ge (by omega) (by omega) c_5
    refine r_iconst (v := (-1)) dX6_byteAt_29 (by decide +kernel) ?_
    refine e_iret dX6_byteAt_30 rfl ?_
    exact ⟨by rw [byV_e n_5], rfl⟩
  · skip
    have n_5 : k < e := n_gen (by omega) (by omega) c_5
    refine r_aload_n 0 dX6_byteAt_8 rfl rfl rfl ?_
    refine r_getr (k := 0) (b := 67) dX6_byteAt_9 hm.s66 rfl (by decide) (Or.inl q1416) (Or.inl rfl) rfl hm.r_row ?_
    refine r_sipush (v := nI 181) dX6_byteAt_12 (by decide +kernel) ?_
    refine r_bipush (v := nI 50) dX6_byteAt_15 (by decide +kernel) ?_
    refine r_aload_n 0 dX6_byteAt_17 rfl rfl rfl ?_
    refine r_geti (k := 7) dX6_byteAt_18 hm.s66 rfl (by decide) (Or.inl q1423) (Or.inl rfl) rfl ?_
    refine r_eqi (show _ = nI (u) from (hp).use) ?_
    refine r_imul dX6_byteAt_21 ?_
    refine r_iadd dX6_byteAt_22 ?_
    refine r_eqi (show _ = nI (181 + (50 * u)) from by simp only [pk_mul, nI_add]) ?_
    refine r_iload_n 1 dX6_byteAt_23 rfl rfl ?_
    refine r_iadd dX6_byteAt_24 ?_
    refine r_ialdN (((181 + (50 * u)) + k)) dX6_byteAt_25 hm.s67 (by simp only [pk_mul, nI_add]) (by omega) (by decide) ?_
    refine r_goto 30 dX6_byteAt_26 (by decide) ?_
    refine e_iret dX6_byteAt_30 rfl ?_
    exact ⟨by rw [show byV r u e k = r (181 + 50 * u + k) from if_pos n_5]; rfl, rfl⟩
theorem M_isDigit {d : Nat} {h : Hp} {v : Int32} : gC (d + 1) (0) (0) m_X6_isDigit [.int v] (h) (Ret (some (.int (b2 (isDg v)))) h) := by
  refine gC.of (ls := [some (.int v)]) (by decide +kernel) rfl rfl rfl rfl (Nat.le_of_ble_eq_true rfl) ?_
  refine r_iload_n 0 dX6_isDigit_0 rfl rfl ?_
  refine r_bipush (v := nI 48) dX6_isDigit_1 (by decide +kernel) ?_
  refine r_bipush (v := nI 57) dX6_isDigit_3 (by decide +kernel) ?_
  refine r_callS_1 dX6_isDigit_5 kX6_48 (M_in)  rfl rfl (Nat.le_of_ble_eq_true rfl) ?_
  refine e_zret dX6_isDigit_8 rfl (nar_b2 _) ?_
  exact ⟨rfl, rfl⟩
theorem M_fails {d : Nat} {h : Hp} {r o : Row} (hm : LayM (hS h) (hR h)) {u e : Nat} {a b c : Int32} {s : PS} : gC (d) (0) (0) m_X6_fails [.ref 66] (MH h r o) (Ret (some (.int 0)) (MH h r (ru o 14 (nI 0)))) := by
  refine gC.of (ls := [some (.ref 66)]) (by decide +kernel) rfl rfl rfl rfl (Nat.le_of_ble_eq_true rfl) ?_
  refine r_aload_n 0 dX6_fails_0 rfl rfl rfl ?_
  refine r_iconst (v := nI 0) dX6_fails_1 rfl ?_
  refine r_puti (k := 14) dX6_fails_2 hm.s66 rfl (by decide) (Or.inl q1430) (Or.inl rfl) (Or.inl rfl) rfl rfl rfl ?_
  refine gG_h (MH_66 _ _ _ _ _) ?_
  refine r_iconst (v := nI 0) dX6_fails_5 rfl ?_
  refine e_iret dX6_fails_6 rfl ?_
  exact ⟨rfl, rfl⟩
theorem M_number_L {d : Nat} {h : Hp} {r : Row} (hm : LayM (hS h) (hR h)) {u e : Nat} {a b c : Int32} (hu : u < 2) (he2 : e ≤ 50) : ∀ (k i : Nat) (v : Int32) (o : Row) (s : PS), i + k = 4 → s.1 ≤ e → PO o u e a b c s → gG (d + 2) (0) (0) m_X6_number 4 [some (.ref 66), some (.int v), some (.int (nI i))] [] (MH h r o) (RP h r o u e a b c ((numV (byV r u e) k s.1 v).1, (numV (byV r u e) k s.1 v).2, s.2)) := by
  intro k
  induction k with
  | zero => 
    intro i v o s hi hs hp
    have hi4 : i = 4 := by omega
    subst hi4
    refine r_iload_n 2 dX6_number_4 rfl rfl ?_
    refine r_iconst (v := nI 4) dX6_number_5 rfl ?_
    refine r_icmp_ge 56 dX6_number_6 (by decide) (fun c_6 => ?_) (fun c_6 => ?_)
    · skip
      have n_6 : 4 ≤ 4 := n_ge (by omega) (by omega) c_6
      refine r_iload_n 1 dX6_number_56 rfl rfl ?_
      refine e_iret dX6_number_57 rfl ?_
      exact ⟨rfl, _, Jo.r, hp, rfl⟩
    · skip
      have n_6 : 4 < 4 := n_gen (by omega) (by omega) c_6
      exact absurd n_6 (by decide)
  | succ k ih =>
  intro i v o s hi hs hp
  refine r_iload_n 2 dX6_number_4 rfl rfl ?_
  refine r_iconst (v := nI 4) dX6_number_5 rfl ?_
  refine r_icmp_ge 56 dX6_number_6 (by decide) (fun c_6 => ?_) (fun c_6 => ?_)
  · skip
    have n_6 : 4 ≤ i := n_ge (by omega) (by omega) c_6
    exact absurd n_6 (by omega)
  · skip
    have n_6 : i < 4 := n_gen (by omega) (by omega) c_6
    refine r_aload_n 0 dX6_number_9 rfl rfl rfl ?_
    refine r_aload_n 0 dX6_number_10 rfl rfl rfl ?_
    refine r_geti (k := 8) dX6_number_11 hm.s66 rfl (by decide) (Or.inl q1424) (Or.inl rfl) rfl ?_
    refine r_eqi (show _ = nI (s.1) from (hp).at_) ?_
    refine r_callV_1 dX6_number_14 kX6_106 (M_byteAt (k := s.1) hm hu he2 (by omega) (hp)) (gRecv.of hm.s66 rfl) rfl rfl (Nat.le_of_ble_eq_true rfl) ?_
    refine r_callS_1 dX6_number_17 kX6_109 (M_isDigit (v := byV r u e (s.1)))  rfl rfl (Nat.le_of_ble_eq_true rfl) ?_
    refine r_if_eq 56 dX6_number_20 (by decide) (fun c_20 => ?_) (fun c_20 => ?_)
    · skip
      have n_20 : (isDg (byV r u e (s.1))) = false := b2_f c_20
      rw [numV_n n_20]
      refine r_iload_n 1 dX6_number_56 rfl rfl ?_
      refine e_iret dX6_number_57 rfl ?_
      exact ⟨rfl, _, Jo.r, hp, rfl⟩
    · skip
      have n_20 : (isDg (byV r u e (s.1))) = true := b2_t c_20
      rw [numV_s n_20]
      have hlt : s.1 < e := isDg_lt n_20
      refine r_bipush (v := nI 10) dX6_number_23 (by decide +kernel) ?_
      refine r_iload_n 1 dX6_number_25 rfl rfl ?_
      refine r_imul dX6_number_26 ?_
      refine r_aload_n 0 dX6_number_27 rfl rfl rfl ?_
      refine r_aload_n 0 dX6_number_28 rfl rfl rfl ?_
      refine r_geti (k := 8) dX6_number_29 hm.s66 rfl (by decide) (Or.inl q1424) (Or.inl rfl) rfl ?_
      refine r_eqi (show _ = nI (s.1) from (hp).at_) ?_
      refine r_callV_1 dX6_number_32 kX6_106 (M_byteAt (k := s.1) hm hu he2 (by omega) (hp)) (gRecv.of hm.s66 rfl) rfl rfl (Nat.le_of_ble_eq_true rfl) ?_
      refine r_iadd dX6_number_35 ?_
      refine r_bipush (v := nI 48) dX6_number_36 (by decide +kernel) ?_
      refine r_isub dX6_number_38 ?_
      refine r_istore_n 1 dX6_number_39 rfl (by decide) rfl ?_
      refine gG_ls (ls' := [_, _, _]) rfl ?_
      refine r_aload_n 0 dX6_number_40 rfl rfl rfl ?_
      refine r_dup dX6_number_41 rfl ?_
      refine r_geti (k := 8) dX6_number_42 hm.s66 rfl (by decide) (Or.inl q1424) (Or.inl rfl) rfl ?_
      refine r_eqi (show _ = nI (s.1) from (hp).at_) ?_
      refine r_iconst (v := nI 1) dX6_number_45 rfl ?_
      refine r_iadd dX6_number_46 ?_
      refine r_eqi (show _ = nI (s.1 + 1) from by simp only [pk_mul, nI_add]) ?_
      refine r_puti (k := 8) dX6_number_47 hm.s66 rfl (by decide) (Or.inl q1424) (Or.inl rfl) (Or.inl rfl) rfl rfl rfl ?_
      refine gG_h (MH_66 _ _ _ _ _) ?_
      refine r_iinc dX6_number_50 rfl (by decide) rfl ?_
      refine gG_ls (ls' := [_, _, some (.int (nI ((i + 1))))]) (by rw [show (Int32.ofInt 1) = nI 1 from rfl, nI_add]; rfl) ?_
      refine r_goto 4 dX6_number_53 (by decide) ?_
      refine gG_mono (fun out h9 q => ?_) (ih (i + 1) _ _ (s.1 + 1, s.2) (by omega) hlt ((hp).setAt (k := (s.1 + 1))))
      obtain ⟨e1, o9, j9, p9, e2⟩ := q
      exact ⟨e1, o9, ((Jo.r).t (Jo.u (by decide))).t j9, p9, e2⟩
theorem M_number {d : Nat} {h : Hp} {r o : Row} (hm : LayM (hS h) (hR h)) {u e : Nat} {a b c : Int32} {s : PS} (hu : u < 2) (he2 : e ≤ 50) (hs : s.1 ≤ e) (hp : PO o u e a b c s) : gC (d + 2) (0) (0) m_X6_number [.ref 66] (MH h r o) (RP h r o u e a b c ((numV (byV r u e) 4 s.1 0).1, (numV (byV r u e) 4 s.1 0).2, s.2)) := by
  refine gC.of (ls := [some (.ref 66), none, none]) (by decide +kernel) rfl rfl rfl rfl (Nat.le_of_ble_eq_true rfl) ?_
  refine r_iconst (v := nI 0) dX6_number_0 rfl ?_
  refine r_istore_n 1 dX6_number_1 rfl (by decide) rfl ?_
  refine gG_ls (ls' := [_, _, _]) rfl ?_
  refine r_iconst (v := nI 0) dX6_number_2 rfl ?_
  refine r_istore_n 2 dX6_number_3 rfl (by decide) rfl ?_
  refine gG_ls (ls' := [_, _, _]) rfl ?_
  exact M_number_L hm hu he2 4 0 0 o s rfl hs hp
theorem M_named0 {d : Nat} {h : Hp} {r o : Row} (hm : LayM (hS h) (hR h)) {e : Nat} {a b c : Int32} {s : PS} {x : Int32} (he2 : e ≤ 50) (hs : s.1 ≤ e) (hp : PO o 0 e a b c s) : gC (d + 1) (0) (0) m_X6_named [.ref 66, .int x] (MH h r o) (RP h r o 0 e a b c (match namV 0 a b c x with
  | none => ((0 : Int32), s.1, s.2.1, false)
  | some w => (w, s.1 + 1, s.2.1, s.2.2))) := by
  refine gC.of (ls := [some (.ref 66), some (.int x), none, none, none]) (by decide +kernel) rfl rfl rfl rfl (Nat.le_of_ble_eq_true rfl) ?_
  refine r_iload_n 1 dX6_named_0 rfl rfl ?_
  refine r_aload_n 0 dX6_named_1 rfl rfl rfl ?_
  refine r_geti (k := 7) dX6_named_2 hm.s66 rfl (by decide) (Or.inl q1423) (Or.inl rfl) rfl ?_
  refine r_eqi (show _ = nI 0 from (hp).use) ?_
  refine r_if_ne 13 dX6_named_5 (by decide) (fun c_5 => ?_) (fun c_5 => ?_)
  · skip
    have n_5 : ¬ 0 = 0 := n_ne0 (by omega) c_5
    exact absurd n_5 (by decide)
  · skip
    have n_5 : 0 = 0 := n_eq0 (by omega) c_5
    refine r_bipush (v := nI 116) dX6_named_8 (by decide +kernel) ?_
    refine r_goto 15 dX6_named_10 (by decide) ?_
    refine r_icmp_ne 22 dX6_named_15 (by decide) (fun c_15 => ?_) (fun c_15 => ?_)
    · skip
      refine r_iconst (v := nI 0) dX6_named_22 rfl ?_
      refine r_istore_n 2 dX6_named_23 rfl (by decide) rfl ?_
      refine gG_ls (ls' := [_, _, _, _, _]) rfl ?_
      refine r_iload_n 1 dX6_named_24 rfl rfl ?_
      refine r_aload_n 0 dX6_named_25 rfl rfl rfl ?_
      refine r_geti (k := 7) dX6_named_26 hm.s66 rfl (by decide) (Or.inl q1423) (Or.inl rfl) rfl ?_
      refine r_eqi (show _ = nI 0 from (hp).use) ?_
      refine r_if_ne 37 dX6_named_29 (by decide) (fun c_29 => ?_) (fun c_29 => ?_)
      · skip
        have n_29 : ¬ 0 = 0 := n_ne0 (by omega) c_29
        exact absurd n_29 (by decide)
      · skip
        have n_29 : 0 = 0 := n_eq0 (by omega) c_29
        refine r_bipush (v := nI 100) dX6_named_32 (by decide +kernel) ?_
        refine r_goto 39 dX6_named_34 (by decide) ?_
        refine r_icmp_ne 46 dX6_named_39 (by decide) (fun c_39 => ?_) (fun c_39 => ?_)
        · skip
          refine r_iconst (v := nI 0) dX6_named_46 rfl ?_
          refine r_istore_n 3 dX6_named_47 rfl (by decide) rfl ?_
          refine gG_ls (ls' := [_, _, _, _, _]) rfl ?_
          refine r_iload_n 1 dX6_named_48 rfl rfl ?_
          refine r_aload_n 0 dX6_named_49 rfl rfl rfl ?_
          refine r_geti (k := 7) dX6_named_50 hm.s66 rfl (by decide) (Or.inl q1423) (Or.inl rfl) rfl ?_
          refine r_eqi (show _ = nI 0 from (hp).use) ?_
          refine r_if_ne 61 dX6_named_53 (by decide) (fun c_53 => ?_) (fun c_53 => ?_)
          · skip
            have n_53 : ¬ 0 = 0 := n_ne0 (by omega) c_53
            exact absurd n_53 (by decide)
          · skip
            have n_53 : 0 = 0 := n_eq0 (by omega) c_53
            refine r_bipush (v := nI 119) dX6_named_56 (by decide +kernel) ?_
            refine r_goto 63 dX6_named_58 (by decide) ?_
            refine r_icmp_ne 70 dX6_named_63 (by decide) (fun c_63 => ?_) (fun c_63 => ?_)
            · skip
              refine r_iconst (v := nI 0) dX6_named_70 rfl ?_
              refine r_istore dX6_named_71 (by decide) rfl ?_
              refine gG_ls (ls' := [_, _, _, _, _]) rfl ?_
              refine r_iload_n 2 dX6_named_73 rfl rfl ?_
              refine r_if_ne 91 dX6_named_74 (by decide) (fun c_74 => ?_) (fun c_74 => ?_)
              · skip
                have n_74 : ¬ 0 = 0 := n_ne0 (by omega) c_74
                exact absurd n_74 (by decide)
              · skip
                have n_74 : 0 = 0 := n_eq0 (by omega) c_74
                refine r_iload_n 3 dX6_named_77 rfl rfl ?_
                refine r_if_ne 91 dX6_named_78 (by decide) (fun c_78 => ?_) (fun c_78 => ?_)
                · skip
                  have n_78 : ¬ 0 = 0 := n_ne0 (by omega) c_78
                  exact absurd n_78 (by decide)
                · skip
                  have n_78 : 0 = 0 := n_eq0 (by omega) c_78
                  refine r_iload dX6_named_81 rfl ?_
                  refine r_if_ne 91 dX6_named_83 (by decide) (fun c_83 => ?_) (fun c_83 => ?_)
                  · skip
                    have n_83 : ¬ 0 = 0 := n_ne0 (by omega) c_83
                    exact absurd n_83 (by decide)
                  · skip
                    have n_83 : 0 = 0 := n_eq0 (by omega) c_83
                    refine r_aload_n 0 dX6_named_86 rfl rfl rfl ?_
                    refine r_callV_1 dX6_named_87 kX6_112 (M_fails (s := s) (u := 0) (e := e) (a := a) (b := b) (c := c) hm) (gRecv.of hm.s66 rfl) rfl rfl (Nat.le_of_ble_eq_true rfl) ?_
                    refine e_iret dX6_named_90 rfl ?_
                    have e9 : namV 0 a b c x = none := by
                      unfold namV
                      exact (by rw [if_neg (show ¬ x = 116 from c_15), if_neg (show ¬ x = 100 from c_39), if_neg (show ¬ x = 119 from c_63)] : (if x = 116 then some a else if x = 100 then some b else if x = 119 then some c else none) = none)
                    rw [e9]
                    exact ⟨rfl, _, (Jo.r).t (Jo.u (by decide)), (hp).setBad, rfl⟩
            · skip
              refine r_iconst (v := nI 1) dX6_named_66 rfl ?_
              refine r_goto 71 dX6_named_67 (by decide) ?_
              refine r_istore dX6_named_71 (by decide) rfl ?_
              refine gG_ls (ls' := [_, _, _, _, _]) rfl ?_
              refine r_iload_n 2 dX6_named_73 rfl rfl ?_
              refine r_if_ne 91 dX6_named_74 (by decide) (fun c_74 => ?_) (fun c_74 => ?_)
              · skip
                have n_74 : ¬ 0 = 0 := n_ne0 (by omega) c_74
                exact absurd n_74 (by decide)
              · skip
                have n_74 : 0 = 0 := n_eq0 (by omega) c_74
                refine r_iload_n 3 dX6_named_77 rfl rfl ?_
                refine r_if_ne 91 dX6_named_78 (by decide) (fun c_78 => ?_) (fun c_78 => ?_)
                · skip
                  have n_78 : ¬ 0 = 0 := n_ne0 (by omega) c_78
                  exact absurd n_78 (by decide)
                · skip
                  have n_78 : 0 = 0 := n_eq0 (by omega) c_78
                  refine r_iload dX6_named_81 rfl ?_
                  refine r_if_ne 91 dX6_named_83 (by decide) (fun c_83 => ?_) (fun c_83 => ?_)
                  · skip
                    have n_83 : ¬ 1 = 0 := n_ne0 (by omega) c_83
                    refine r_aload_n 0 dX6_named_91 rfl rfl rfl ?_
                    refine r_dup dX6_named_92 rfl ?_
                    refine r_geti (k := 8) dX6_named_93 hm.s66 rfl (by decide) (Or.inl q1424) (Or.inl rfl) rfl ?_
                    refine r_eqi (show _ = nI (s.1) from (hp).at_) ?_
                    refine r_iconst (v := nI 1) dX6_named_96 rfl ?_
                    refine r_iadd dX6_named_97 ?_
                    refine r_eqi (show _ = nI (s.1 + 1) from by simp only [pk_mul, nI_add]) ?_
                    refine r_puti (k := 8) dX6_named_98 hm.s66 rfl (by decide) (Or.inl q1424) (Or.inl rfl) (Or.inl rfl) rfl rfl rfl ?_
                    refine gG_h (MH_66 _ _ _ _ _) ?_
                    refine r_iload_n 2 dX6_named_101 rfl rfl ?_
                    refine r_if_eq 112 dX6_named_102 (by decide) (fun c_102 => ?_) (fun c_102 => ?_)
                    · skip
                      have n_102 : 0 = 0 := n_eq0 (by omega) c_102
                      refine r_iload_n 3 dX6_named_112 rfl rfl ?_
                      refine r_if_eq 123 dX6_named_113 (by decide) (fun c_113 => ?_) (fun c_113 => ?_)
                      · skip
                        have n_113 : 0 = 0 := n_eq0 (by omega) c_113
                        refine r_aload_n 0 dX6_named_123 rfl rfl rfl ?_
                        refine r_geti (k := 13) dX6_named_124 hm.s66 rfl (by decide) (Or.inl q1429) (Or.inl rfl) rfl ?_
                        refine r_eqi (show _ = c from ((hp).setAt (k := (s.1 + 1))).nc) ?_
                        refine e_iret dX6_named_127 rfl ?_
                        have e9 : namV 0 a b c x = some c := by
                          unfold namV
                          exact (by rw [if_neg (show ¬ x = 116 from c_15), if_neg (show ¬ x = 100 from c_39), if_pos (show x = 119 from c_63)] : (if x = 116 then some a else if x = 100 then some b else if x = 119 then some c else none) = some c)
                        rw [e9]
                        exact ⟨rfl, _, (Jo.r).t (Jo.u (by decide)), (hp).setAt (k := (s.1 + 1)), rfl⟩
                      · skip
                        have n_113 : ¬ 0 = 0 := n_ne0 (by omega) c_113
                        exact absurd n_113 (by decide)
                    · skip
                      have n_102 : ¬ 0 = 0 := n_ne0 (by omega) c_102
                      exact absurd n_102 (by decide)
                  · skip
                    have n_83 : 1 = 0 := n_eq0 (by omega) c_83
                    exact absurd n_83 (by decide)
        · skip
          refine r_iconst (v := nI 1) dX6_named_42 rfl ?_
          refine r_goto 47 dX6_named_43 (by decide) ?_
          refine r_istore_n 3 dX6_named_47 rfl (by decide) rfl ?_
          refine gG_ls (ls' := [_, _, _, _, _]) rfl ?_
          refine r_iload_n 1 dX6_named_48 rfl rfl ?_
          refine r_aload_n 0 dX6_named_49 rfl rfl rfl ?_
          refine r_geti (k := 7) dX6_named_50 hm.s66 rfl (by decide) (Or.inl q1423) (Or.inl rfl) rfl ?_
          refine r_eqi (show _ = nI 0 from (hp).use) ?_
          refine r_if_ne 61 dX6_named_53 (by decide) (fun c_53 => ?_) (fun c_53 => ?_)
          · skip
            have n_53 : ¬ 0 = 0 := n_ne0 (by omega) c_53
            exact absurd n_53 (by decide)
          · skip
            have n_53 : 0 = 0 := n_eq0 (by omega) c_53
            refine r_bipush (v := nI 119) dX6_named_56 (by decide +kernel) ?_
            refine r_goto 63 dX6_named_58 (by decide) ?_
            refine r_icmp_ne 70 dX6_named_63 (by decide) (fun c_63 => ?_) (fun c_63 => ?_)
            · skip
              refine r_iconst (v := nI 0) dX6_named_70 rfl ?_
              refine r_istore dX6_named_71 (by decide) rfl ?_
              refine gG_ls (ls' := [_, _, _, _, _]) rfl ?_
              refine r_iload_n 2 dX6_named_73 rfl rfl ?_
              refine r_if_ne 91 dX6_named_74 (by decide) (fun c_74 => ?_) (fun c_74 => ?_)
              · skip
                have n_74 : ¬ 0 = 0 := n_ne0 (by omega) c_74
                exact absurd n_74 (by decide)
              · skip
                have n_74 : 0 = 0 := n_eq0 (by omega) c_74
                refine r_iload_n 3 dX6_named_77 rfl rfl ?_
                refine r_if_ne 91 dX6_named_78 (by decide) (fun c_78 => ?_) (fun c_78 => ?_)
                · skip
                  have n_78 : ¬ 1 = 0 := n_ne0 (by omega) c_78
                  refine r_aload_n 0 dX6_named_91 rfl rfl rfl ?_
                  refine r_dup dX6_named_92 rfl ?_
                  refine r_geti (k := 8) dX6_named_93 hm.s66 rfl (by decide) (Or.inl q1424) (Or.inl rfl) rfl ?_
                  refine r_eqi (show _ = nI (s.1) from (hp).at_) ?_
                  refine r_iconst (v := nI 1) dX6_named_96 rfl ?_
                  refine r_iadd dX6_named_97 ?_
                  refine r_eqi (show _ = nI (s.1 + 1) from by simp only [pk_mul, nI_add]) ?_
                  refine r_puti (k := 8) dX6_named_98 hm.s66 rfl (by decide) (Or.inl q1424) (Or.inl rfl) (Or.inl rfl) rfl rfl rfl ?_
                  refine gG_h (MH_66 _ _ _ _ _) ?_
                  refine r_iload_n 2 dX6_named_101 rfl rfl ?_
                  refine r_if_eq 112 dX6_named_102 (by decide) (fun c_102 => ?_) (fun c_102 => ?_)
                  · skip
                    have n_102 : 0 = 0 := n_eq0 (by omega) c_102
                    refine r_iload_n 3 dX6_named_112 rfl rfl ?_
                    refine r_if_eq 123 dX6_named_113 (by decide) (fun c_113 => ?_) (fun c_113 => ?_)
                    · skip
                      have n_113 : 1 = 0 := n_eq0 (by omega) c_113
                      exact absurd n_113 (by decide)
                    · skip
                      have n_113 : ¬ 1 = 0 := n_ne0 (by omega) c_113
                      refine r_aload_n 0 dX6_named_116 rfl rfl rfl ?_
                      refine r_geti (k := 12) dX6_named_117 hm.s66 rfl (by decide) (Or.inl q1428) (Or.inl rfl) rfl ?_
                      refine r_eqi (show _ = b from ((hp).setAt (k := (s.1 + 1))).nb) ?_
                      refine r_goto 127 dX6_named_120 (by decide) ?_
                      refine e_iret dX6_named_127 rfl ?_
                      have e9 : namV 0 a b c x = some b := by
                        unfold namV
                        exact (by rw [if_neg (show ¬ x = 116 from c_15), if_pos (show x = 100 from c_39)] : (if x = 116 then some a else if x = 100 then some b else if x = 119 then some c else none) = some b)
                      rw [e9]
                      exact ⟨rfl, _, (Jo.r).t (Jo.u (by decide)), (hp).setAt (k := (s.1 + 1)), rfl⟩
                  · skip
                    have n_102 : ¬ 0 = 0 := n_ne0 (by omega) c_102
                    exact absurd n_102 (by decide)
                · skip
                  have n_78 : 1 = 0 := n_eq0 (by omega) c_78
                  exact absurd n_78 (by decide)
            · skip
              refine r_iconst (v := nI 1) dX6_named_66 rfl ?_
              refine r_goto 71 dX6_named_67 (by decide) ?_
              refine r_istore dX6_named_71 (by decide) rfl ?_
              refine gG_ls (ls' := [_, _, _, _, _]) rfl ?_
              refine r_iload_n 2 dX6_named_73 rfl rfl ?_
              refine r_if_ne 91 dX6_named_74 (by decide) (fun c_74 => ?_) (fun c_74 => ?_)
              · skip
                have n_74 : ¬ 0 = 0 := n_ne0 (by omega) c_74
                exact absurd n_74 (by decide)
              · skip
                have n_74 : 0 = 0 := n_eq0 (by omega) c_74
                refine r_iload_n 3 dX6_named_77 rfl rfl ?_
                refine r_if_ne 91 dX6_named_78 (by decide) (fun c_78 => ?_) (fun c_78 => ?_)
                · skip
                  have n_78 : ¬ 1 = 0 := n_ne0 (by omega) c_78
                  refine r_aload_n 0 dX6_named_91 rfl rfl rfl ?_
                  refine r_dup dX6_named_92 rfl ?_
                  refine r_geti (k := 8) dX6_named_93 hm.s66 rfl (by decide) (Or.inl q1424) (Or.inl rfl) rfl ?_
                  refine r_eqi (show _ = nI (s.1) from (hp).at_) ?_
                  refine r_iconst (v := nI 1) dX6_named_96 rfl ?_
                  refine r_iadd dX6_named_97 ?_
                  refine r_eqi (show _ = nI (s.1 + 1) from by simp only [pk_mul, nI_add]) ?_
                  refine r_puti (k := 8) dX6_named_98 hm.s66 rfl (by decide) (Or.inl q1424) (Or.inl rfl) (Or.inl rfl) rfl rfl rfl ?_
                  refine gG_h (MH_66 _ _ _ _ _) ?_
                  refine r_iload_n 2 dX6_named_101 rfl rfl ?_
                  refine r_if_eq 112 dX6_named_102 (by decide) (fun c_102 => ?_) (fun c_102 => ?_)
                  · skip
                    have n_102 : 0 = 0 := n_eq0 (by omega) c_102
                    refine r_iload_n 3 dX6_named_112 rfl rfl ?_
                    refine r_if_eq 123 dX6_named_113 (by decide) (fun c_113 => ?_) (fun c_113 => ?_)
                    · skip
                      have n_113 : 1 = 0 := n_eq0 (by omega) c_113
                      exact absurd n_113 (by decide)
                    · skip
                      have n_113 : ¬ 1 = 0 := n_ne0 (by omega) c_113
                      refine r_aload_n 0 dX6_named_116 rfl rfl rfl ?_
                      refine r_geti (k := 12) dX6_named_117 hm.s66 rfl (by decide) (Or.inl q1428) (Or.inl rfl) rfl ?_
                      refine r_eqi (show _ = b from ((hp).setAt (k := (s.1 + 1))).nb) ?_
                      refine r_goto 127 dX6_named_120 (by decide) ?_
                      refine e_iret dX6_named_127 rfl ?_
                      have e9 : namV 0 a b c x = some b := by
                        unfold namV
                        exact (by rw [if_neg (show ¬ x = 116 from c_15), if_pos (show x = 100 from c_39)] : (if x = 116 then some a else if x = 100 then some b else if x = 119 then some c else none) = some b)
                      rw [e9]
                      exact ⟨rfl, _, (Jo.r).t (Jo.u (by decide)), (hp).setAt (k := (s.1 + 1)), rfl⟩
                  · skip
                    have n_102 : ¬ 0 = 0 := n_ne0 (by omega) c_102
                    exact absurd n_102 (by decide)
                · skip
                  have n_78 : 1 = 0 := n_eq0 (by omega) c_78
                  exact absurd n_78 (by decide)
    · skip
      refine r_iconst (v := nI 1) dX6_named_18 rfl ?_
      refine r_goto 23 dX6_named_19 (by decide) ?_
      refine r_istore_n 2 dX6_named_23 rfl (by decide) rfl ?_
      refine gG_ls (ls' := [_, _, _, _, _]) rfl ?_
      refine r_iload_n 1 dX6_named_24 rfl rfl ?_
      refine r_aload_n 0 dX6_named_25 rfl rfl rfl ?_
      refine r_geti (k := 7) dX6_named_26 hm.s66 rfl (by decide) (Or.inl q1423) (Or.inl rfl) rfl ?_
      refine r_eqi (show _ = nI 0 from (hp).use) ?_
      refine r_if_ne 37 dX6_named_29 (by decide) (fun c_29 => ?_) (fun c_29 => ?_)
      · skip
        have n_29 : ¬ 0 = 0 := n_ne0 (by omega) c_29
        exact absurd n_29 (by decide)
      · skip
        have n_29 : 0 = 0 := n_eq0 (by omega) c_29
        refine r_bipush (v := nI 100) dX6_named_32 (by decide +kernel) ?_
        refine r_goto 39 dX6_named_34 (by decide) ?_
        refine r_icmp_ne 46 dX6_named_39 (by decide) (fun c_39 => ?_) (fun c_39 => ?_)
        · skip
          refine r_iconst (v := nI 0) dX6_named_46 rfl ?_
          refine r_istore_n 3 dX6_named_47 rfl (by decide) rfl ?_
          refine gG_ls (ls' := [_, _, _, _, _]) rfl ?_
          refine r_iload_n 1 dX6_named_48 rfl rfl ?_
          refine r_aload_n 0 dX6_named_49 rfl rfl rfl ?_
          refine r_geti (k := 7) dX6_named_50 hm.s66 rfl (by decide) (Or.inl q1423) (Or.inl rfl) rfl ?_
          refine r_eqi (show _ = nI 0 from (hp).use) ?_
          refine r_if_ne 61 dX6_named_53 (by decide) (fun c_53 => ?_) (fun c_53 => ?_)
          · skip
            have n_53 : ¬ 0 = 0 := n_ne0 (by omega) c_53
            exact absurd n_53 (by decide)
          · skip
            have n_53 : 0 = 0 := n_eq0 (by omega) c_53
            refine r_bipush (v := nI 119) dX6_named_56 (by decide +kernel) ?_
            refine r_goto 63 dX6_named_58 (by decide) ?_
            refine r_icmp_ne 70 dX6_named_63 (by decide) (fun c_63 => ?_) (fun c_63 => ?_)
            · skip
              refine r_iconst (v := nI 0) dX6_named_70 rfl ?_
              refine r_istore dX6_named_71 (by decide) rfl ?_
              refine gG_ls (ls' := [_, _, _, _, _]) rfl ?_
              refine r_iload_n 2 dX6_named_73 rfl rfl ?_
              refine r_if_ne 91 dX6_named_74 (by decide) (fun c_74 => ?_) (fun c_74 => ?_)
              · skip
                have n_74 : ¬ 1 = 0 := n_ne0 (by omega) c_74
                refine r_aload_n 0 dX6_named_91 rfl rfl rfl ?_
                refine r_dup dX6_named_92 rfl ?_
                refine r_geti (k := 8) dX6_named_93 hm.s66 rfl (by decide) (Or.inl q1424) (Or.inl rfl) rfl ?_
                refine r_eqi (show _ = nI (s.1) from (hp).at_) ?_
                refine r_iconst (v := nI 1) dX6_named_96 rfl ?_
                refine r_iadd dX6_named_97 ?_
                refine r_eqi (show _ = nI (s.1 + 1) from by simp only [pk_mul, nI_add]) ?_
                refine r_puti (k := 8) dX6_named_98 hm.s66 rfl (by decide) (Or.inl q1424) (Or.inl rfl) (Or.inl rfl) rfl rfl rfl ?_
                refine gG_h (MH_66 _ _ _ _ _) ?_
                refine r_iload_n 2 dX6_named_101 rfl rfl ?_
                refine r_if_eq 112 dX6_named_102 (by decide) (fun c_102 => ?_) (fun c_102 => ?_)
                · skip
                  have n_102 : 1 = 0 := n_eq0 (by omega) c_102
                  exact absurd n_102 (by decide)
                · skip
                  have n_102 : ¬ 1 = 0 := n_ne0 (by omega) c_102
                  refine r_aload_n 0 dX6_named_105 rfl rfl rfl ?_
                  refine r_geti (k := 11) dX6_named_106 hm.s66 rfl (by decide) (Or.inl q1427) (Or.inl rfl) rfl ?_
                  refine r_eqi (show _ = a from ((hp).setAt (k := (s.1 + 1))).na) ?_
                  refine r_goto 127 dX6_named_109 (by decide) ?_
                  refine e_iret dX6_named_127 rfl ?_
                  have e9 : namV 0 a b c x = some a := by
                    unfold namV
                    exact (by rw [if_pos (show x = 116 from c_15)] : (if x = 116 then some a else if x = 100 then some b else if x = 119 then some c else none) = some a)
                  rw [e9]
                  exact ⟨rfl, _, (Jo.r).t (Jo.u (by decide)), (hp).setAt (k := (s.1 + 1)), rfl⟩
              · skip
                have n_74 : 1 = 0 := n_eq0 (by omega) c_74
                exact absurd n_74 (by decide)
            · skip
              refine r_iconst (v := nI 1) dX6_named_66 rfl ?_
              refine r_goto 71 dX6_named_67 (by decide) ?_
              refine r_istore dX6_named_71 (by decide) rfl ?_
              refine gG_ls (ls' := [_, _, _, _, _]) rfl ?_
              refine r_iload_n 2 dX6_named_73 rfl rfl ?_
              refine r_if_ne 91 dX6_named_74 (by decide) (fun c_74 => ?_) (fun c_74 => ?_)
              · skip
                have n_74 : ¬ 1 = 0 := n_ne0 (by omega) c_74
                refine r_aload_n 0 dX6_named_91 rfl rfl rfl ?_
                refine r_dup dX6_named_92 rfl ?_
                refine r_geti (k := 8) dX6_named_93 hm.s66 rfl (by decide) (Or.inl q1424) (Or.inl rfl) rfl ?_
                refine r_eqi (show _ = nI (s.1) from (hp).at_) ?_
                refine r_iconst (v := nI 1) dX6_named_96 rfl ?_
                refine r_iadd dX6_named_97 ?_
                refine r_eqi (show _ = nI (s.1 + 1) from by simp only [pk_mul, nI_add]) ?_
                refine r_puti (k := 8) dX6_named_98 hm.s66 rfl (by decide) (Or.inl q1424) (Or.inl rfl) (Or.inl rfl) rfl rfl rfl ?_
                refine gG_h (MH_66 _ _ _ _ _) ?_
                refine r_iload_n 2 dX6_named_101 rfl rfl ?_
                refine r_if_eq 112 dX6_named_102 (by decide) (fun c_102 => ?_) (fun c_102 => ?_)
                · skip
                  have n_102 : 1 = 0 := n_eq0 (by omega) c_102
                  exact absurd n_102 (by decide)
                · skip
                  have n_102 : ¬ 1 = 0 := n_ne0 (by omega) c_102
                  refine r_aload_n 0 dX6_named_105 rfl rfl rfl ?_
                  refine r_geti (k := 11) dX6_named_106 hm.s66 rfl (by decide) (Or.inl q1427) (Or.inl rfl) rfl ?_
                  refine r_eqi (show _ = a from ((hp).setAt (k := (s.1 + 1))).na) ?_
                  refine r_goto 127 dX6_named_109 (by decide) ?_
                  refine e_iret dX6_named_127 rfl ?_
                  have e9 : namV 0 a b c x = some a := by
                    unfold namV
                    exact (by rw [if_pos (show x = 116 from c_15)] : (if x = 116 then some a else if x = 100 then some b else if x = 119 then some c else none) = some a)
                  rw [e9]
                  exact ⟨rfl, _, (Jo.r).t (Jo.u (by decide)), (hp).setAt (k := (s.1 + 1)), rfl⟩
              · skip
                have n_74 : 1 = 0 := n_eq0 (by omega) c_74
                exact absurd n_74 (by decide)
        · skip
          refine r_iconst (v := nI 1) dX6_named_42 rfl ?_
          refine r_goto 47 dX6_named_43 (by decide) ?_
          refine r_istore_n 3 dX6_named_47 rfl (by decide) rfl ?_
          refine gG_ls (ls' := [_, _, _, _, _]) rfl ?_
          refine r_iload_n 1 dX6_named_48 rfl rfl ?_
          refine r_aload_n 0 dX6_named_49 rfl rfl rfl ?_
          refine r_geti (k := 7) dX6_named_50 hm.s66 rfl (by decide) (Or.inl q1423) (Or.inl rfl) rfl ?_
          refine r_eqi (show _ = nI 0 from (hp).use) ?_
          refine r_if_ne 61 dX6_named_53 (by decide) (fun c_53 => ?_) (fun c_53 => ?_)
          · skip
            have n_53 : ¬ 0 = 0 := n_ne0 (by omega) c_53
            exact absurd n_53 (by decide)
          · skip
            have n_53 : 0 = 0 := n_eq0 (by omega) c_53
            refine r_bipush (v := nI 119) dX6_named_56 (by decide +kernel) ?_
            refine r_goto 63 dX6_named_58 (by decide) ?_
            refine r_icmp_ne 70 dX6_named_63 (by decide) (fun c_63 => ?_) (fun c_63 => ?_)
            · skip
              refine r_iconst (v := nI 0) dX6_named_70 rfl ?_
              refine r_istore dX6_named_71 (by decide) rfl ?_
              refine gG_ls (ls' := [_, _, _, _, _]) rfl ?_
              refine r_iload_n 2 dX6_named_73 rfl rfl ?_
              refine r_if_ne 91 dX6_named_74 (by decide) (fun c_74 => ?_) (fun c_74 => ?_)
              · skip
                have n_74 : ¬ 1 = 0 := n_ne0 (by omega) c_74
                refine r_aload_n 0 dX6_named_91 rfl rfl rfl ?_
                refine r_dup dX6_named_92 rfl ?_
                refine r_geti (k := 8) dX6_named_93 hm.s66 rfl (by decide) (Or.inl q1424) (Or.inl rfl) rfl ?_
                refine r_eqi (show _ = nI (s.1) from (hp).at_) ?_
                refine r_iconst (v := nI 1) dX6_named_96 rfl ?_
                refine r_iadd dX6_named_97 ?_
                refine r_eqi (show _ = nI (s.1 + 1) from by simp only [pk_mul, nI_add]) ?_
                refine r_puti (k := 8) dX6_named_98 hm.s66 rfl (by decide) (Or.inl q1424) (Or.inl rfl) (Or.inl rfl) rfl rfl rfl ?_
                refine gG_h (MH_66 _ _ _ _ _) ?_
                refine r_iload_n 2 dX6_named_101 rfl rfl ?_
                refine r_if_eq 112 dX6_named_102 (by decide) (fun c_102 => ?_) (fun c_102 => ?_)
                · skip
                  have n_102 : 1 = 0 := n_eq0 (by omega) c_102
                  exact absurd n_102 (by decide)
                · skip
                  have n_102 : ¬ 1 = 0 := n_ne0 (by omega) c_102
                  refine r_aload_n 0 dX6_named_105 rfl rfl rfl ?_
                  refine r_geti (k := 11) dX6_named_106 hm.s66 rfl (by decide) (Or.inl q1427) (Or.inl rfl) rfl ?_
                  refine r_eqi (show _ = a from ((hp).setAt (k := (s.1 + 1))).na) ?_
                  refine r_goto 127 dX6_named_109 (by decide) ?_
                  refine e_iret dX6_named_127 rfl ?_
                  have e9 : namV 0 a b c x = some a := by
                    unfold namV
                    exact (by rw [if_pos (show x = 116 from c_15)] : (if x = 116 then some a else if x = 100 then some b else if x = 119 then some c else none) = some a)
                  rw [e9]
                  exact ⟨rfl, _, (Jo.r).t (Jo.u (by decide)), (hp).setAt (k := (s.1 + 1)), rfl⟩
              · skip
                have n_74 : 1 = 0 := n_eq0 (by omega) c_74
                exact absurd n_74 (by decide)
            · skip
              refine r_iconst (v := nI 1) dX6_named_66 rfl ?_
              refine r_goto 71 dX6_named_67 (by decide) ?_
              refine r_istore dX6_named_71 (by decide) rfl ?_
              refine gG_ls (ls' := [_, _, _, _, _]) rfl ?_
              refine r_iload_n 2 dX6_named_73 rfl rfl ?_
              refine r_if_ne 91 dX6_named_74 (by decide) (fun c_74 => ?_) (fun c_74 => ?_)
              · skip
                have n_74 : ¬ 1 = 0 := n_ne0 (by omega) c_74
                refine r_aload_n 0 dX6_named_91 rfl rfl rfl ?_
                refine r_dup dX6_named_92 rfl ?_
                refine r_geti (k := 8) dX6_named_93 hm.s66 rfl (by decide) (Or.inl q1424) (Or.inl rfl) rfl ?_
                refine r_eqi (show _ = nI (s.1) from (hp).at_) ?_
                refine r_iconst (v := nI 1) dX6_named_96 rfl ?_
                refine r_iadd dX6_named_97 ?_
                refine r_eqi (show _ = nI (s.1 + 1) from by simp only [pk_mul, nI_add]) ?_
                refine r_puti (k := 8) dX6_named_98 hm.s66 rfl (by decide) (Or.inl q1424) (Or.inl rfl) (Or.inl rfl) rfl rfl rfl ?_
                refine gG_h (MH_66 _ _ _ _ _) ?_
                refine r_iload_n 2 dX6_named_101 rfl rfl ?_
                refine r_if_eq 112 dX6_named_102 (by decide) (fun c_102 => ?_) (fun c_102 => ?_)
                · skip
                  have n_102 : 1 = 0 := n_eq0 (by omega) c_102
                  exact absurd n_102 (by decide)
                · skip
                  have n_102 : ¬ 1 = 0 := n_ne0 (by omega) c_102
                  refine r_aload_n 0 dX6_named_105 rfl rfl rfl ?_
                  refine r_geti (k := 11) dX6_named_106 hm.s66 rfl (by decide) (Or.inl q1427) (Or.inl rfl) rfl ?_
                  refine r_eqi (show _ = a from ((hp).setAt (k := (s.1 + 1))).na) ?_
                  refine r_goto 127 dX6_named_109 (by decide) ?_
                  refine e_iret dX6_named_127 rfl ?_
                  have e9 : namV 0 a b c x = some a := by
                    unfold namV
                    exact (by rw [if_pos (show x = 116 from c_15)] : (if x = 116 then some a else if x = 100 then some b else if x = 119 then some c else none) = some a)
                  rw [e9]
                  exact ⟨rfl, _, (Jo.r).t (Jo.u (by decide)), (hp).setAt (k := (s.1 + 1)), rfl⟩
              · skip
                have n_74 : 1 = 0 := n_eq0 (by omega) c_74
                exact absurd n_74 (by decide)
theorem M_named1 {d : Nat} {h : Hp} {r o : Row} (hm : LayM (hS h) (hR h)) {e : Nat} {a b c : Int32} {s : PS} {x : Int32} (he2 : e ≤ 50) (hs : s.1 ≤ e) (hp : PO o 1 e a b c s) : gC (d + 1) (0) (0) m_X6_named [.ref 66, .int x] (MH h r o) (RP h r o 1 e a b c (match namV 1 a b c x with
  | none => ((0 : Int32), s.1, s.2.1, false)
  | some w => (w, s.1 + 1, s.2.1, s.2.2))) := by
  refine gC.of (ls := [some (.ref 66), some (.int x), none, none, none]) (by decide +kernel) rfl rfl rfl rfl (Nat.le_of_ble_eq_true rfl) ?_
  refine r_iload_n 1 dX6_named_0 rfl rfl ?_
  refine r_aload_n 0 dX6_named_1 rfl rfl rfl ?_
  refine r_geti (k := 7) dX6_named_2 hm.s66 rfl (by decide) (Or.inl q1423) (Or.inl rfl) rfl ?_
  refine r_eqi (show _ = nI 1 from (hp).use) ?_
  refine r_if_ne 13 dX6_named_5 (by decide) (fun c_5 => ?_) (fun c_5 => ?_)
  · skip
    have n_5 : ¬ 1 = 0 := n_ne0 (by omega) c_5
    refine r_bipush (v := nI 119) dX6_named_13 (by decide +kernel) ?_
    refine r_icmp_ne 22 dX6_named_15 (by decide) (fun c_15 => ?_) (fun c_15 => ?_)
    · skip
      refine r_iconst (v := nI 0) dX6_named_22 rfl ?_
      refine r_istore_n 2 dX6_named_23 rfl (by decide) rfl ?_
      refine gG_ls (ls' := [_, _, _, _, _]) rfl ?_
      refine r_iload_n 1 dX6_named_24 rfl rfl ?_
      refine r_aload_n 0 dX6_named_25 rfl rfl rfl ?_
      refine r_geti (k := 7) dX6_named_26 hm.s66 rfl (by decide) (Or.inl q1423) (Or.inl rfl) rfl ?_
      refine r_eqi (show _ = nI 1 from (hp).use) ?_
      refine r_if_ne 37 dX6_named_29 (by decide) (fun c_29 => ?_) (fun c_29 => ?_)
      · skip
        have n_29 : ¬ 1 = 0 := n_ne0 (by omega) c_29
        refine r_bipush (v := nI 111) dX6_named_37 (by decide +kernel) ?_
        refine r_icmp_ne 46 dX6_named_39 (by decide) (fun c_39 => ?_) (fun c_39 => ?_)
        · skip
          refine r_iconst (v := nI 0) dX6_named_46 rfl ?_
          refine r_istore_n 3 dX6_named_47 rfl (by decide) rfl ?_
          refine gG_ls (ls' := [_, _, _, _, _]) rfl ?_
          refine r_iload_n 1 dX6_named_48 rfl rfl ?_
          refine r_aload_n 0 dX6_named_49 rfl rfl rfl ?_
          refine r_geti (k := 7) dX6_named_50 hm.s66 rfl (by decide) (Or.inl q1423) (Or.inl rfl) rfl ?_
          refine r_eqi (show _ = nI 1 from (hp).use) ?_
          refine r_if_ne 61 dX6_named_53 (by decide) (fun c_53 => ?_) (fun c_53 => ?_)
          · skip
            have n_53 : ¬ 1 = 0 := n_ne0 (by omega) c_53
            refine r_bipush (v := nI 109) dX6_named_61 (by decide +kernel) ?_
            refine r_icmp_ne 70 dX6_named_63 (by decide) (fun c_63 => ?_) (fun c_63 => ?_)
            · skip
              refine r_iconst (v := nI 0) dX6_named_70 rfl ?_
              refine r_istore dX6_named_71 (by decide) rfl ?_
              refine gG_ls (ls' := [_, _, _, _, _]) rfl ?_
              refine r_iload_n 2 dX6_named_73 rfl rfl ?_
              refine r_if_ne 91 dX6_named_74 (by decide) (fun c_74 => ?_) (fun c_74 => ?_)
              · skip
                have n_74 : ¬ 0 = 0 := n_ne0 (by omega) c_74
                exact absurd n_74 (by decide)
              · skip
                have n_74 : 0 = 0 := n_eq0 (by omega) c_74
                refine r_iload_n 3 dX6_named_77 rfl rfl ?_
                refine r_if_ne 91 dX6_named_78 (by decide) (fun c_78 => ?_) (fun c_78 => ?_)
                · skip
                  have n_78 : ¬ 0 = 0 := n_ne0 (by omega) c_78
                  exact absurd n_78 (by decide)
                · skip
                  have n_78 : 0 = 0 := n_eq0 (by omega) c_78
                  refine r_iload dX6_named_81 rfl ?_
                  refine r_if_ne 91 dX6_named_83 (by decide) (fun c_83 => ?_) (fun c_83 => ?_)
                  · skip
                    have n_83 : ¬ 0 = 0 := n_ne0 (by omega) c_83
                    exact absurd n_83 (by decide)
                  · skip
                    have n_83 : 0 = 0 := n_eq0 (by omega) c_83
                    refine r_aload_n 0 dX6_named_86 rfl rfl rfl ?_
                    refine r_callV_1 dX6_named_87 kX6_112 (M_fails (s := s) (u := 1) (e := e) (a := a) (b := b) (c := c) hm) (gRecv.of hm.s66 rfl) rfl rfl (Nat.le_of_ble_eq_true rfl) ?_
                    refine e_iret dX6_named_90 rfl ?_
                    have e9 : namV 1 a b c x = none := by
                      unfold namV
                      rw [if_neg (by decide : ¬ 1 = 0), if_neg (by decide : ¬ 1 = 0), if_neg (by decide : ¬ 1 = 0)]
                      exact (by rw [if_neg (show ¬ x = 119 from c_15), if_neg (show ¬ x = 111 from c_39), if_neg (show ¬ x = 109 from c_63)] : (if x = 119 then some a else if x = 111 then some b else if x = 109 then some c else none) = none)
                    rw [e9]
                    exact ⟨rfl, _, (Jo.r).t (Jo.u (by decide)), (hp).setBad, rfl⟩
            · skip
              refine r_iconst (v := nI 1) dX6_named_66 rfl ?_
              refine r_goto 71 dX6_named_67 (by decide) ?_
              refine r_istore dX6_named_71 (by decide) rfl ?_
              refine gG_ls (ls' := [_, _, _, _, _]) rfl ?_
              refine r_iload_n 2 dX6_named_73 rfl rfl ?_
              refine r_if_ne 91 dX6_named_74 (by decide) (fun c_74 => ?_) (fun c_74 => ?_)
              · skip
                have n_74 : ¬ 0 = 0 := n_ne0 (by omega) c_74
                exact absurd n_74 (by decide)
              · skip
                have n_74 : 0 = 0 := n_eq0 (by omega) c_74
                refine r_iload_n 3 dX6_named_77 rfl rfl ?_
                refine r_if_ne 91 dX6_named_78 (by decide) (fun c_78 => ?_) (fun c_78 => ?_)
                · skip
                  have n_78 : ¬ 0 = 0 := n_ne0 (by omega) c_78
                  exact absurd n_78 (by decide)
                · skip
                  have n_78 : 0 = 0 := n_eq0 (by omega) c_78
                  refine r_iload dX6_named_81 rfl ?_
                  refine r_if_ne 91 dX6_named_83 (by decide) (fun c_83 => ?_) (fun c_83 => ?_)
                  · skip
                    have n_83 : ¬ 1 = 0 := n_ne0 (by omega) c_83
                    refine r_aload_n 0 dX6_named_91 rfl rfl rfl ?_
                    refine r_dup dX6_named_92 rfl ?_
                    refine r_geti (k := 8) dX6_named_93 hm.s66 rfl (by decide) (Or.inl q1424) (Or.inl rfl) rfl ?_
                    refine r_eqi (show _ = nI (s.1) from (hp).at_) ?_
                    refine r_iconst (v := nI 1) dX6_named_96 rfl ?_
                    refine r_iadd dX6_named_97 ?_
                    refine r_eqi (show _ = nI (s.1 + 1) from by simp only [pk_mul, nI_add]) ?_
                    refine r_puti (k := 8) dX6_named_98 hm.s66 rfl (by decide) (Or.inl q1424) (Or.inl rfl) (Or.inl rfl) rfl rfl rfl ?_
                    refine gG_h (MH_66 _ _ _ _ _) ?_
                    refine r_iload_n 2 dX6_named_101 rfl rfl ?_
                    refine r_if_eq 112 dX6_named_102 (by decide) (fun c_102 => ?_) (fun c_102 => ?_)
                    · skip
                      have n_102 : 0 = 0 := n_eq0 (by omega) c_102
                      refine r_iload_n 3 dX6_named_112 rfl rfl ?_
                      refine r_if_eq 123 dX6_named_113 (by decide) (fun c_113 => ?_) (fun c_113 => ?_)
                      · skip
                        have n_113 : 0 = 0 := n_eq0 (by omega) c_113
                        refine r_aload_n 0 dX6_named_123 rfl rfl rfl ?_
                        refine r_geti (k := 13) dX6_named_124 hm.s66 rfl (by decide) (Or.inl q1429) (Or.inl rfl) rfl ?_
                        refine r_eqi (show _ = c from ((hp).setAt (k := (s.1 + 1))).nc) ?_
                        refine e_iret dX6_named_127 rfl ?_
                        have e9 : namV 1 a b c x = some c := by
                          unfold namV
                          rw [if_neg (by decide : ¬ 1 = 0), if_neg (by decide : ¬ 1 = 0), if_neg (by decide : ¬ 1 = 0)]
                          exact (by rw [if_neg (show ¬ x = 119 from c_15), if_neg (show ¬ x = 111 from c_39), if_pos (show x = 109 from c_63)] : (if x = 119 then some a else if x = 111 then some b else if x = 109 then some c else none) = some c)
                        rw [e9]
                        exact ⟨rfl, _, (Jo.r).t (Jo.u (by decide)), (hp).setAt (k := (s.1 + 1)), rfl⟩
                      · skip
                        have n_113 : ¬ 0 = 0 := n_ne0 (by omega) c_113
                        exact absurd n_113 (by decide)
                    · skip
                      have n_102 : ¬ 0 = 0 := n_ne0 (by omega) c_102
                      exact absurd n_102 (by decide)
                  · skip
                    have n_83 : 1 = 0 := n_eq0 (by omega) c_83
                    exact absurd n_83 (by decide)
          · skip
            have n_53 : 1 = 0 := n_eq0 (by omega) c_53
            exact absurd n_53 (by decide)
        · skip
          refine r_iconst (v := nI 1) dX6_named_42 rfl ?_
          refine r_goto 47 dX6_named_43 (by decide) ?_
          refine r_istore_n 3 dX6_named_47 rfl (by decide) rfl ?_
          refine gG_ls (ls' := [_, _, _, _, _]) rfl ?_
          refine r_iload_n 1 dX6_named_48 rfl rfl ?_
          refine r_aload_n 0 dX6_named_49 rfl rfl rfl ?_
          refine r_geti (k := 7) dX6_named_50 hm.s66 rfl (by decide) (Or.inl q1423) (Or.inl rfl) rfl ?_
          refine r_eqi (show _ = nI 1 from (hp).use) ?_
          refine r_if_ne 61 dX6_named_53 (by decide) (fun c_53 => ?_) (fun c_53 => ?_)
          · skip
            have n_53 : ¬ 1 = 0 := n_ne0 (by omega) c_53
            refine r_bipush (v := nI 109) dX6_named_61 (by decide +kernel) ?_
            refine r_icmp_ne 70 dX6_named_63 (by decide) (fun c_63 => ?_) (fun c_63 => ?_)
            · skip
              refine r_iconst (v := nI 0) dX6_named_70 rfl ?_
              refine r_istore dX6_named_71 (by decide) rfl ?_
              refine gG_ls (ls' := [_, _, _, _, _]) rfl ?_
              refine r_iload_n 2 dX6_named_73 rfl rfl ?_
              refine r_if_ne 91 dX6_named_74 (by decide) (fun c_74 => ?_) (fun c_74 => ?_)
              · skip
                have n_74 : ¬ 0 = 0 := n_ne0 (by omega) c_74
                exact absurd n_74 (by decide)
              · skip
                have n_74 : 0 = 0 := n_eq0 (by omega) c_74
                refine r_iload_n 3 dX6_named_77 rfl rfl ?_
                refine r_if_ne 91 dX6_named_78 (by decide) (fun c_78 => ?_) (fun c_78 => ?_)
                · skip
                  have n_78 : ¬ 1 = 0 := n_ne0 (by omega) c_78
                  refine r_aload_n 0 dX6_named_91 rfl rfl rfl ?_
                  refine r_dup dX6_named_92 rfl ?_
                  refine r_geti (k := 8) dX6_named_93 hm.s66 rfl (by decide) (Or.inl q1424) (Or.inl rfl) rfl ?_
                  refine r_eqi (show _ = nI (s.1) from (hp).at_) ?_
                  refine r_iconst (v := nI 1) dX6_named_96 rfl ?_
                  refine r_iadd dX6_named_97 ?_
                  refine r_eqi (show _ = nI (s.1 + 1) from by simp only [pk_mul, nI_add]) ?_
                  refine r_puti (k := 8) dX6_named_98 hm.s66 rfl (by decide) (Or.inl q1424) (Or.inl rfl) (Or.inl rfl) rfl rfl rfl ?_
                  refine gG_h (MH_66 _ _ _ _ _) ?_
                  refine r_iload_n 2 dX6_named_101 rfl rfl ?_
                  refine r_if_eq 112 dX6_named_102 (by decide) (fun c_102 => ?_) (fun c_102 => ?_)
                  · skip
                    have n_102 : 0 = 0 := n_eq0 (by omega) c_102
                    refine r_iload_n 3 dX6_named_112 rfl rfl ?_
                    refine r_if_eq 123 dX6_named_113 (by decide) (fun c_113 => ?_) (fun c_113 => ?_)
                    · skip
                      have n_113 : 1 = 0 := n_eq0 (by omega) c_113
                      exact absurd n_113 (by decide)
                    · skip
                      have n_113 : ¬ 1 = 0 := n_ne0 (by omega) c_113
                      refine r_aload_n 0 dX6_named_116 rfl rfl rfl ?_
                      refine r_geti (k := 12) dX6_named_117 hm.s66 rfl (by decide) (Or.inl q1428) (Or.inl rfl) rfl ?_
                      refine r_eqi (show _ = b from ((hp).setAt (k := (s.1 + 1))).nb) ?_
                      refine r_goto 127 dX6_named_120 (by decide) ?_
                      refine e_iret dX6_named_127 rfl ?_
                      have e9 : namV 1 a b c x = some b := by
                        unfold namV
                        rw [if_neg (by decide : ¬ 1 = 0), if_neg (by decide : ¬ 1 = 0), if_neg (by decide : ¬ 1 = 0)]
                        exact (by rw [if_neg (show ¬ x = 119 from c_15), if_pos (show x = 111 from c_39)] : (if x = 119 then some a else if x = 111 then some b else if x = 109 then some c else none) = some b)
                      rw [e9]
                      exact ⟨rfl, _, (Jo.r).t (Jo.u (by decide)), (hp).setAt (k := (s.1 + 1)), rfl⟩
                  · skip
                    have n_102 : ¬ 0 = 0 := n_ne0 (by omega) c_102
                    exact absurd n_102 (by decide)
                · skip
                  have n_78 : 1 = 0 := n_eq0 (by omega) c_78
                  exact absurd n_78 (by decide)
            · skip
              refine r_iconst (v := nI 1) dX6_named_66 rfl ?_
              refine r_goto 71 dX6_named_67 (by decide) ?_
              refine r_istore dX6_named_71 (by decide) rfl ?_
              refine gG_ls (ls' := [_, _, _, _, _]) rfl ?_
              refine r_iload_n 2 dX6_named_73 rfl rfl ?_
              refine r_if_ne 91 dX6_named_74 (by decide) (fun c_74 => ?_) (fun c_74 => ?_)
              · skip
                have n_74 : ¬ 0 = 0 := n_ne0 (by omega) c_74
                exact absurd n_74 (by decide)
              · skip
                have n_74 : 0 = 0 := n_eq0 (by omega) c_74
                refine r_iload_n 3 dX6_named_77 rfl rfl ?_
                refine r_if_ne 91 dX6_named_78 (by decide) (fun c_78 => ?_) (fun c_78 => ?_)
                · skip
                  have n_78 : ¬ 1 = 0 := n_ne0 (by omega) c_78
                  refine r_aload_n 0 dX6_named_91 rfl rfl rfl ?_
                  refine r_dup dX6_named_92 rfl ?_
                  refine r_geti (k := 8) dX6_named_93 hm.s66 rfl (by decide) (Or.inl q1424) (Or.inl rfl) rfl ?_
                  refine r_eqi (show _ = nI (s.1) from (hp).at_) ?_
                  refine r_iconst (v := nI 1) dX6_named_96 rfl ?_
                  refine r_iadd dX6_named_97 ?_
                  refine r_eqi (show _ = nI (s.1 + 1) from by simp only [pk_mul, nI_add]) ?_
                  refine r_puti (k := 8) dX6_named_98 hm.s66 rfl (by decide) (Or.inl q1424) (Or.inl rfl) (Or.inl rfl) rfl rfl rfl ?_
                  refine gG_h (MH_66 _ _ _ _ _) ?_
                  refine r_iload_n 2 dX6_named_101 rfl rfl ?_
                  refine r_if_eq 112 dX6_named_102 (by decide) (fun c_102 => ?_) (fun c_102 => ?_)
                  · skip
                    have n_102 : 0 = 0 := n_eq0 (by omega) c_102
                    refine r_iload_n 3 dX6_named_112 rfl rfl ?_
                    refine r_if_eq 123 dX6_named_113 (by decide) (fun c_113 => ?_) (fun c_113 => ?_)
                    · skip
                      have n_113 : 1 = 0 := n_eq0 (by omega) c_113
                      exact absurd n_113 (by decide)
                    · skip
                      have n_113 : ¬ 1 = 0 := n_ne0 (by omega) c_113
                      refine r_aload_n 0 dX6_named_116 rfl rfl rfl ?_
                      refine r_geti (k := 12) dX6_named_117 hm.s66 rfl (by decide) (Or.inl q1428) (Or.inl rfl) rfl ?_
                      refine r_eqi (show _ = b from ((hp).setAt (k := (s.1 + 1))).nb) ?_
                      refine r_goto 127 dX6_named_120 (by decide) ?_
                      refine e_iret dX6_named_127 rfl ?_
                      have e9 : namV 1 a b c x = some b := by
                        unfold namV
                        rw [if_neg (by decide : ¬ 1 = 0), if_neg (by decide : ¬ 1 = 0), if_neg (by decide : ¬ 1 = 0)]
                        exact (by rw [if_neg (show ¬ x = 119 from c_15), if_pos (show x = 111 from c_39)] : (if x = 119 then some a else if x = 111 then some b else if x = 109 then some c else none) = some b)
                      rw [e9]
                      exact ⟨rfl, _, (Jo.r).t (Jo.u (by decide)), (hp).setAt (k := (s.1 + 1)), rfl⟩
                  · skip
                    have n_102 : ¬ 0 = 0 := n_ne0 (by omega) c_102
                    exact absurd n_102 (by decide)
                · skip
                  have n_78 : 1 = 0 := n_eq0 (by omega) c_78
                  exact absurd n_78 (by decide)
          · skip
            have n_53 : 1 = 0 := n_eq0 (by omega) c_53
            exact absurd n_53 (by decide)
      · skip
        have n_29 : 1 = 0 := n_eq0 (by omega) c_29
        exact absurd n_29 (by decide)
    · skip
      refine r_iconst (v := nI 1) dX6_named_18 rfl ?_
      refine r_goto 23 dX6_named_19 (by decide) ?_
      refine r_istore_n 2 dX6_named_23 rfl (by decide) rfl ?_
      refine gG_ls (ls' := [_, _, _, _, _]) rfl ?_
      refine r_iload_n 1 dX6_named_24 rfl rfl ?_
      refine r_aload_n 0 dX6_named_25 rfl rfl rfl ?_
      refine r_geti (k := 7) dX6_named_26 hm.s66 rfl (by decide) (Or.inl q1423) (Or.inl rfl) rfl ?_
      refine r_eqi (show _ = nI 1 from (hp).use) ?_
      refine r_if_ne 37 dX6_named_29 (by decide) (fun c_29 => ?_) (fun c_29 => ?_)
      · skip
        have n_29 : ¬ 1 = 0 := n_ne0 (by omega) c_29
        refine r_bipush (v := nI 111) dX6_named_37 (by decide +kernel) ?_
        refine r_icmp_ne 46 dX6_named_39 (by decide) (fun c_39 => ?_) (fun c_39 => ?_)
        · skip
          refine r_iconst (v := nI 0) dX6_named_46 rfl ?_
          refine r_istore_n 3 dX6_named_47 rfl (by decide) rfl ?_
          refine gG_ls (ls' := [_, _, _, _, _]) rfl ?_
          refine r_iload_n 1 dX6_named_48 rfl rfl ?_
          refine r_aload_n 0 dX6_named_49 rfl rfl rfl ?_
          refine r_geti (k := 7) dX6_named_50 hm.s66 rfl (by decide) (Or.inl q1423) (Or.inl rfl) rfl ?_
          refine r_eqi (show _ = nI 1 from (hp).use) ?_
          refine r_if_ne 61 dX6_named_53 (by decide) (fun c_53 => ?_) (fun c_53 => ?_)
          · skip
            have n_53 : ¬ 1 = 0 := n_ne0 (by omega) c_53
            refine r_bipush (v := nI 109) dX6_named_61 (by decide +kernel) ?_
            refine r_icmp_ne 70 dX6_named_63 (by decide) (fun c_63 => ?_) (fun c_63 => ?_)
            · skip
              refine r_iconst (v := nI 0) dX6_named_70 rfl ?_
              refine r_istore dX6_named_71 (by decide) rfl ?_
              refine gG_ls (ls' := [_, _, _, _, _]) rfl ?_
              refine r_iload_n 2 dX6_named_73 rfl rfl ?_
              refine r_if_ne 91 dX6_named_74 (by decide) (fun c_74 => ?_) (fun c_74 => ?_)
              · skip
                have n_74 : ¬ 1 = 0 := n_ne0 (by omega) c_74
                refine r_aload_n 0 dX6_named_91 rfl rfl rfl ?_
                refine r_dup dX6_named_92 rfl ?_
                refine r_geti (k := 8) dX6_named_93 hm.s66 rfl (by decide) (Or.inl q1424) (Or.inl rfl) rfl ?_
                refine r_eqi (show _ = nI (s.1) from (hp).at_) ?_
                refine r_iconst (v := nI 1) dX6_named_96 rfl ?_
                refine r_iadd dX6_named_97 ?_
                refine r_eqi (show _ = nI (s.1 + 1) from by simp only [pk_mul, nI_add]) ?_
                refine r_puti (k := 8) dX6_named_98 hm.s66 rfl (by decide) (Or.inl q1424) (Or.inl rfl) (Or.inl rfl) rfl rfl rfl ?_
                refine gG_h (MH_66 _ _ _ _ _) ?_
                refine r_iload_n 2 dX6_named_101 rfl rfl ?_
                refine r_if_eq 112 dX6_named_102 (by decide) (fun c_102 => ?_) (fun c_102 => ?_)
                · skip
                  have n_102 : 1 = 0 := n_eq0 (by omega) c_102
                  exact absurd n_102 (by decide)
                · skip
                  have n_102 : ¬ 1 = 0 := n_ne0 (by omega) c_102
                  refine r_aload_n 0 dX6_named_105 rfl rfl rfl ?_
                  refine r_geti (k := 11) dX6_named_106 hm.s66 rfl (by decide) (Or.inl q1427) (Or.inl rfl) rfl ?_
                  refine r_eqi (show _ = a from ((hp).setAt (k := (s.1 + 1))).na) ?_
                  refine r_goto 127 dX6_named_109 (by decide) ?_
                  refine e_iret dX6_named_127 rfl ?_
                  have e9 : namV 1 a b c x = some a := by
                    unfold namV
                    rw [if_neg (by decide : ¬ 1 = 0), if_neg (by decide : ¬ 1 = 0), if_neg (by decide : ¬ 1 = 0)]
                    exact (by rw [if_pos (show x = 119 from c_15)] : (if x = 119 then some a else if x = 111 then some b else if x = 109 then some c else none) = some a)
                  rw [e9]
                  exact ⟨rfl, _, (Jo.r).t (Jo.u (by decide)), (hp).setAt (k := (s.1 + 1)), rfl⟩
              · skip
                have n_74 : 1 = 0 := n_eq0 (by omega) c_74
                exact absurd n_74 (by decide)
            · skip
              refine r_iconst (v := nI 1) dX6_named_66 rfl ?_
              refine r_goto 71 dX6_named_67 (by decide) ?_
              refine r_istore dX6_named_71 (by decide) rfl ?_
              refine gG_ls (ls' := [_, _, _, _, _]) rfl ?_
              refine r_iload_n 2 dX6_named_73 rfl rfl ?_
              refine r_if_ne 91 dX6_named_74 (by decide) (fun c_74 => ?_) (fun c_74 => ?_)
              · skip
                have n_74 : ¬ 1 = 0 := n_ne0 (by omega) c_74
                refine r_aload_n 0 dX6_named_91 rfl rfl rfl ?_
                refine r_dup dX6_named_92 rfl ?_
                refine r_geti (k := 8) dX6_named_93 hm.s66 rfl (by decide) (Or.inl q1424) (Or.inl rfl) rfl ?_
                refine r_eqi (show _ = nI (s.1) from (hp).at_) ?_
                refine r_iconst (v := nI 1) dX6_named_96 rfl ?_
                refine r_iadd dX6_named_97 ?_
                refine r_eqi (show _ = nI (s.1 + 1) from by simp only [pk_mul, nI_add]) ?_
                refine r_puti (k := 8) dX6_named_98 hm.s66 rfl (by decide) (Or.inl q1424) (Or.inl rfl) (Or.inl rfl) rfl rfl rfl ?_
                refine gG_h (MH_66 _ _ _ _ _) ?_
                refine r_iload_n 2 dX6_named_101 rfl rfl ?_
                refine r_if_eq 112 dX6_named_102 (by decide) (fun c_102 => ?_) (fun c_102 => ?_)
                · skip
                  have n_102 : 1 = 0 := n_eq0 (by omega) c_102
                  exact absurd n_102 (by decide)
                · skip
                  have n_102 : ¬ 1 = 0 := n_ne0 (by omega) c_102
                  refine r_aload_n 0 dX6_named_105 rfl rfl rfl ?_
                  refine r_geti (k := 11) dX6_named_106 hm.s66 rfl (by decide) (Or.inl q1427) (Or.inl rfl) rfl ?_
                  refine r_eqi (show _ = a from ((hp).setAt (k := (s.1 + 1))).na) ?_
                  refine r_goto 127 dX6_named_109 (by decide) ?_
                  refine e_iret dX6_named_127 rfl ?_
                  have e9 : namV 1 a b c x = some a := by
                    unfold namV
                    rw [if_neg (by decide : ¬ 1 = 0), if_neg (by decide : ¬ 1 = 0), if_neg (by decide : ¬ 1 = 0)]
                    exact (by rw [if_pos (show x = 119 from c_15)] : (if x = 119 then some a else if x = 111 then some b else if x = 109 then some c else none) = some a)
                  rw [e9]
                  exact ⟨rfl, _, (Jo.r).t (Jo.u (by decide)), (hp).setAt (k := (s.1 + 1)), rfl⟩
              · skip
                have n_74 : 1 = 0 := n_eq0 (by omega) c_74
                exact absurd n_74 (by decide)
          · skip
            have n_53 : 1 = 0 := n_eq0 (by omega) c_53
            exact absurd n_53 (by decide)
        · skip
          refine r_iconst (v := nI 1) dX6_named_42 rfl ?_
          refine r_goto 47 dX6_named_43 (by decide) ?_
          refine r_istore_n 3 dX6_named_47 rfl (by decide) rfl ?_
          refine gG_ls (ls' := [_, _, _, _, _]) rfl ?_
          refine r_iload_n 1 dX6_named_48 rfl rfl ?_
          refine r_aload_n 0 dX6_named_49 rfl rfl rfl ?_
          refine r_geti (k := 7) dX6_named_50 hm.s66 rfl (by decide) (Or.inl q1423) (Or.inl rfl) rfl ?_
          refine r_eqi (show _ = nI 1 from (hp).use) ?_
          refine r_if_ne 61 dX6_named_53 (by decide) (fun c_53 => ?_) (fun c_53 => ?_)
          · skip
            have n_53 : ¬ 1 = 0 := n_ne0 (by omega) c_53
            refine r_bipush (v := nI 109) dX6_named_61 (by decide +kernel) ?_
            refine r_icmp_ne 70 dX6_named_63 (by decide) (fun c_63 => ?_) (fun c_63 => ?_)
            · skip
              refine r_iconst (v := nI 0) dX6_named_70 rfl ?_
              refine r_istore dX6_named_71 (by decide) rfl ?_
              refine gG_ls (ls' := [_, _, _, _, _]) rfl ?_
              refine r_iload_n 2 dX6_named_73 rfl rfl ?_
              refine r_if_ne 91 dX6_named_74 (by decide) (fun c_74 => ?_) (fun c_74 => ?_)
              · skip
                have n_74 : ¬ 1 = 0 := n_ne0 (by omega) c_74
                refine r_aload_n 0 dX6_named_91 rfl rfl rfl ?_
                refine r_dup dX6_named_92 rfl ?_
                refine r_geti (k := 8) dX6_named_93 hm.s66 rfl (by decide) (Or.inl q1424) (Or.inl rfl) rfl ?_
                refine r_eqi (show _ = nI (s.1) from (hp).at_) ?_
                refine r_iconst (v := nI 1) dX6_named_96 rfl ?_
                refine r_iadd dX6_named_97 ?_
                refine r_eqi (show _ = nI (s.1 + 1) from by simp only [pk_mul, nI_add]) ?_
                refine r_puti (k := 8) dX6_named_98 hm.s66 rfl (by decide) (Or.inl q1424) (Or.inl rfl) (Or.inl rfl) rfl rfl rfl ?_
                refine gG_h (MH_66 _ _ _ _ _) ?_
                refine r_iload_n 2 dX6_named_101 rfl rfl ?_
                refine r_if_eq 112 dX6_named_102 (by decide) (fun c_102 => ?_) (fun c_102 => ?_)
                · skip
                  have n_102 : 1 = 0 := n_eq0 (by omega) c_102
                  exact absurd n_102 (by decide)
                · skip
                  have n_102 : ¬ 1 = 0 := n_ne0 (by omega) c_102
                  refine r_aload_n 0 dX6_named_105 rfl rfl rfl ?_
                  refine r_geti (k := 11) dX6_named_106 hm.s66 rfl (by decide) (Or.inl q1427) (Or.inl rfl) rfl ?_
                  refine r_eqi (show _ = a from ((hp).setAt (k := (s.1 + 1))).na) ?_
                  refine r_goto 127 dX6_named_109 (by decide) ?_
                  refine e_iret dX6_named_127 rfl ?_
                  have e9 : namV 1 a b c x = some a := by
                    unfold namV
                    rw [if_neg (by decide : ¬ 1 = 0), if_neg (by decide : ¬ 1 = 0), if_neg (by decide : ¬ 1 = 0)]
                    exact (by rw [if_pos (show x = 119 from c_15)] : (if x = 119 then some a else if x = 111 then some b else if x = 109 then some c else none) = some a)
                  rw [e9]
                  exact ⟨rfl, _, (Jo.r).t (Jo.u (by decide)), (hp).setAt (k := (s.1 + 1)), rfl⟩
              · skip
                have n_74 : 1 = 0 := n_eq0 (by omega) c_74
                exact absurd n_74 (by decide)
            · skip
              refine r_iconst (v := nI 1) dX6_named_66 rfl ?_
              refine r_goto 71 dX6_named_67 (by decide) ?_
              refine r_istore dX6_named_71 (by decide) rfl ?_
              refine gG_ls (ls' := [_, _, _, _, _]) rfl ?_
              refine r_iload_n 2 dX6_named_73 rfl rfl ?_
              refine r_if_ne 91 dX6_named_74 (by decide) (fun c_74 => ?_) (fun c_74 => ?_)
              · skip
                have n_74 : ¬ 1 = 0 := n_ne0 (by omega) c_74
                refine r_aload_n 0 dX6_named_91 rfl rfl rfl ?_
                refine r_dup dX6_named_92 rfl ?_
                refine r_geti (k := 8) dX6_named_93 hm.s66 rfl (by decide) (Or.inl q1424) (Or.inl rfl) rfl ?_
                refine r_eqi (show _ = nI (s.1) from (hp).at_) ?_
                refine r_iconst (v := nI 1) dX6_named_96 rfl ?_
                refine r_iadd dX6_named_97 ?_
                refine r_eqi (show _ = nI (s.1 + 1) from by simp only [pk_mul, nI_add]) ?_
                refine r_puti (k := 8) dX6_named_98 hm.s66 rfl (by decide) (Or.inl q1424) (Or.inl rfl) (Or.inl rfl) rfl rfl rfl ?_
                refine gG_h (MH_66 _ _ _ _ _) ?_
                refine r_iload_n 2 dX6_named_101 rfl rfl ?_
                refine r_if_eq 112 dX6_named_102 (by decide) (fun c_102 => ?_) (fun c_102 => ?_)
                · skip
                  have n_102 : 1 = 0 := n_eq0 (by omega) c_102
                  exact absurd n_102 (by decide)
                · skip
                  have n_102 : ¬ 1 = 0 := n_ne0 (by omega) c_102
                  refine r_aload_n 0 dX6_named_105 rfl rfl rfl ?_
                  refine r_geti (k := 11) dX6_named_106 hm.s66 rfl (by decide) (Or.inl q1427) (Or.inl rfl) rfl ?_
                  refine r_eqi (show _ = a from ((hp).setAt (k := (s.1 + 1))).na) ?_
                  refine r_goto 127 dX6_named_109 (by decide) ?_
                  refine e_iret dX6_named_127 rfl ?_
                  have e9 : namV 1 a b c x = some a := by
                    unfold namV
                    rw [if_neg (by decide : ¬ 1 = 0), if_neg (by decide : ¬ 1 = 0), if_neg (by decide : ¬ 1 = 0)]
                    exact (by rw [if_pos (show x = 119 from c_15)] : (if x = 119 then some a else if x = 111 then some b else if x = 109 then some c else none) = some a)
                  rw [e9]
                  exact ⟨rfl, _, (Jo.r).t (Jo.u (by decide)), (hp).setAt (k := (s.1 + 1)), rfl⟩
              · skip
                have n_74 : 1 = 0 := n_eq0 (by omega) c_74
                exact absurd n_74 (by decide)
          · skip
            have n_53 : 1 = 0 := n_eq0 (by omega) c_53
            exact absurd n_53 (by decide)
      · skip
        have n_29 : 1 = 0 := n_eq0 (by omega) c_29
        exact absurd n_29 (by decide)
  · skip
    have n_5 : 1 = 0 := n_eq0 (by omega) c_5
    exact absurd n_5 (by decide)
theorem M_named {d : Nat} {h : Hp} {r o : Row} (hm : LayM (hS h) (hR h)) {u e : Nat} {a b c : Int32} {s : PS} {x : Int32} (hu : u < 2) (he2 : e ≤ 50) (hs : s.1 ≤ e) (hp : PO o u e a b c s) : gC (d + 1) 0 0 m_X6_named [.ref 66, .int x] (MH h r o) (RP h r o u e a b c (match namV u a b c x with
  | none => ((0 : Int32), s.1, s.2.1, false)
  | some w => (w, s.1 + 1, s.2.1, s.2.2))) := by
  rcases (show u = 0 ∨ u = 1 by omega) with rfl | rfl
  · exact M_named0 hm he2 hs hp
  · exact M_named1 hm he2 hs hp
theorem M_factor {d : Nat} {h : Hp} {r o : Row} (hm : LayM (hS h) (hR h)) {u e : Nat} {a b c : Int32} {s : PS} {n : Nat} (hu : u < 2) (he2 : e ≤ 50) (ihC : PC h r u e a b c n) (hd : n + 1 ≤ d) (hp : PO o u e a b c s) (hs : s.1 ≤ e) (h5 : s.2.1 ≤ 5) (hf : 7 * (e - s.1) + 1 ≤ n + 1) : gC (d + 4) (0) (0) m_X6_factor [.ref 66] (MH h r o) (RP h r o u e a b c ((P (byV r u e) (namV u a b c) (n + 1) 0 (0) (s)))) := by
  refine gC.of (ls := [some (.ref 66), none, none]) (by decide +kernel) rfl rfl rfl rfl (Nat.le_of_ble_eq_true rfl) ?_
  refine r_aload_n 0 dX6_factor_0 rfl rfl rfl ?_
  refine r_aload_n 0 dX6_factor_1 rfl rfl rfl ?_
  refine r_geti (k := 8) dX6_factor_2 hm.s66 rfl (by decide) (Or.inl q1424) (Or.inl rfl) rfl ?_
  refine r_eqi (show _ = nI (s.1) from (hp).at_) ?_
  refine r_callV_1 dX6_factor_5 kX6_106 (M_byteAt (k := s.1) hm hu he2 (by omega) (hp)) (gRecv.of hm.s66 rfl) rfl rfl (Nat.le_of_ble_eq_true rfl) ?_
  refine r_istore_n 1 dX6_factor_8 rfl (by decide) rfl ?_
  refine gG_ls (ls' := [_, _, _]) rfl ?_
  refine r_iload_n 1 dX6_factor_9 rfl rfl ?_
  refine r_callS_1 dX6_factor_10 kX6_109 (M_isDigit (v := byV r u e (s.1)))  rfl rfl (Nat.le_of_ble_eq_true rfl) ?_
  refine r_if_eq 21 dX6_factor_13 (by decide) (fun c_13 => ?_) (fun c_13 => ?_)
  · skip
    have n_13 : (isDg (byV r u e (s.1))) = false := b2_f c_13
    refine r_iload_n 1 dX6_factor_21 rfl rfl ?_
    refine r_bipush (v := nI 33) dX6_factor_22 (by decide +kernel) ?_
    refine r_icmp_eq 39 dX6_factor_24 (by decide) (fun c_24 => ?_) (fun c_24 => ?_)
    · skip
      have c_9 : ¬ (¬ byV r u e s.1 = 33 ∧ ¬ byV r u e s.1 = 40) := fun q => q.1 c_24
      refine r_aload_n 0 dX6_factor_39 rfl rfl rfl ?_
      refine r_geti (k := 10) dX6_factor_40 hm.s66 rfl (by decide) (Or.inl q1426) (Or.inl rfl) rfl ?_
      refine r_eqi (show _ = nI (s.2.1) from (hp).op) ?_
      refine r_iconst (v := nI 5) dX6_factor_43 rfl ?_
      refine r_icmp_ne 52 dX6_factor_44 (by decide) (fun c_44 => ?_) (fun c_44 => ?_)
      · skip
        have n_44 : ¬ s.2.1 = 5 := n_ne (by omega) (by omega) c_44
        refine r_aload_n 0 dX6_factor_52 rfl rfl rfl ?_
        refine r_dup dX6_factor_53 rfl ?_
        refine r_geti (k := 10) dX6_factor_54 hm.s66 rfl (by decide) (Or.inl q1426) (Or.inl rfl) rfl ?_
        refine r_eqi (show _ = nI (s.2.1) from (hp).op) ?_
        refine r_iconst (v := nI 1) dX6_factor_57 rfl ?_
        refine r_iadd dX6_factor_58 ?_
        refine r_eqi (show _ = nI (s.2.1 + 1) from by simp only [pk_mul, nI_add]) ?_
        refine r_puti (k := 10) dX6_factor_59 hm.s66 rfl (by decide) (Or.inl q1426) (Or.inl rfl) (Or.inl rfl) rfl rfl rfl ?_
        refine gG_h (MH_66 _ _ _ _ _) ?_
        refine r_aload_n 0 dX6_factor_62 rfl rfl rfl ?_
        refine r_dup dX6_factor_63 rfl ?_
        refine r_geti (k := 8) dX6_factor_64 hm.s66 rfl (by decide) (Or.inl q1424) (Or.inl rfl) rfl ?_
        refine r_eqi (show _ = nI (s.1) from ((hp).setOp (k := (s.2.1 + 1))).at_) ?_
        refine r_iconst (v := nI 1) dX6_factor_67 rfl ?_
        refine r_iadd dX6_factor_68 ?_
        refine r_eqi (show _ = nI (s.1 + 1) from by simp only [pk_mul, nI_add]) ?_
        refine r_puti (k := 8) dX6_factor_69 hm.s66 rfl (by decide) (Or.inl q1424) (Or.inl rfl) (Or.inl rfl) rfl rfl rfl ?_
        refine gG_h (MH_66 _ _ _ _ _) ?_
        refine r_iload_n 1 dX6_factor_72 rfl rfl ?_
        refine r_bipush (v := nI 33) dX6_factor_73 (by decide +kernel) ?_
        refine r_icmp_ne 85 dX6_factor_75 (by decide) (fun c_75 => ?_) (fun c_75 => ?_)
        · skip
          exact absurd c_24 c_75
        · skip
          rw [P_0, if_neg (show ¬ isDg (byV r u e s.1) = true from by rw [n_13]; decide), if_neg c_9, if_neg n_44, if_pos (show byV r u e s.1 = 33 from c_24)]
          have hlt : s.1 < e := byV_lt (fun q => by rw [q] at c_24; exact absurd c_24 (by decide))
          refine r_aload_n 0 dX6_factor_78 rfl rfl rfl ?_
          refine r_callV_1p dX6_factor_79 kX6_134 (ihC 0 (d + 3) ((s.1 + 1), (s.2.1 + 1), s.2.2) _ (by decide) (by omega) (((hp).setOp (k := (s.2.1 + 1))).setAt (k := (s.1 + 1))) (by first | assumption | (show _ ≤ e; (try dsimp only); omega)) (by first | assumption | (show _ ≤ 5; (try dsimp only); omega)) (by show 7 * (e - _) + 1 + 0 ≤ n; (try dsimp only); omega)) (gRecv.of hm.s66 rfl) rfl rfl (Nat.le_of_ble_eq_true rfl) (fun o_1 j_1 p_1 => ?_)
          have i_1 := P_in (r := r) (u := u) (e := e) (namV_m (u := u) (a := a) (b := b) (c := c)) n 0 0 ((s.1 + 1), (s.2.1 + 1), s.2.2) (by first | assumption | (show _ ≤ e; (try dsimp only); omega))
          have u_1 := P_up (by_ := byV r u e) (nam := namV u a b c) n 0 0 ((s.1 + 1), (s.2.1 + 1), s.2.2)
          try dsimp only at i_1 u_1
          refine r_goto 89 dX6_factor_82 (by decide) ?_
          refine r_istore_n 2 dX6_factor_89 rfl (by decide) rfl ?_
          refine gG_ls (ls' := [_, _, _]) rfl ?_
          refine r_aload_n 0 dX6_factor_90 rfl rfl rfl ?_
          refine r_dup dX6_factor_91 rfl ?_
          have e_8 : (P (byV r u e) (namV u a b c) n 0 (0) ((s.1 + 1, s.2.1 + 1, s.2.2))).2.2.1 - 1 = s.2.1 := by rw [i_1.2]; rfl
          refine r_geti (k := 10) dX6_factor_92 hm.s66 rfl (by decide) (Or.inl q1426) (Or.inl rfl) rfl ?_
          refine r_eqi (show _ = nI ((s.2.1 + 1)) from ((p_1).op).trans (by rw [i_1.2])) ?_
          refine r_iconst (v := nI 1) dX6_factor_95 rfl ?_
          refine r_isub dX6_factor_96 ?_
          refine r_eqi (show _ = nI (s.2.1) from nI_pred s.2.1) ?_
          refine r_puti (k := 10) dX6_factor_97 hm.s66 rfl (by decide) (Or.inl q1426) (Or.inl rfl) (Or.inl rfl) rfl rfl rfl ?_
          refine gG_h (MH_66 _ _ _ _ _) ?_
          refine r_iload_n 1 dX6_factor_100 rfl rfl ?_
          refine r_bipush (v := nI 33) dX6_factor_101 (by decide +kernel) ?_
          refine r_icmp_ne 116 dX6_factor_103 (by decide) (fun c_103 => ?_) (fun c_103 => ?_)
          · skip
            exact absurd c_24 c_103
          · skip
            rw [e_8]
            refine r_iload_n 2 dX6_factor_106 rfl rfl ?_
            refine r_if_ne 114 dX6_factor_107 (by decide) (fun c_107 => ?_) (fun c_107 => ?_)
            · skip
              rw [if_neg (show ¬ (P (byV r u e) (namV u a b c) n 0 (0) ((s.1 + 1, s.2.1 + 1, s.2.2))).1 = 0 from c_107)]
              refine r_iconst (v := nI 0) dX6_factor_114 rfl ?_
              refine e_iret dX6_factor_115 rfl ?_
              exact ⟨rfl, _, ((((Jo.r).t (Jo.u (by decide))).t (Jo.u (by decide))).t j_1).t (Jo.u (by decide)), (p_1).setOp (k := s.2.1), rfl⟩
            · skip
              rw [if_pos (show (P (byV r u e) (namV u a b c) n 0 (0) ((s.1 + 1, s.2.1 + 1, s.2.2))).1 = 0 from c_107)]
              refine r_iconst (v := nI 1) dX6_factor_110 rfl ?_
              refine r_goto 115 dX6_factor_111 (by decide) ?_
              refine e_iret dX6_factor_115 rfl ?_
              exact ⟨rfl, _, ((((Jo.r).t (Jo.u (by decide))).t (Jo.u (by decide))).t j_1).t (Jo.u (by decide)), (p_1).setOp (k := s.2.1), rfl⟩
      · skip
        have n_44 : s.2.1 = 5 := n_nen (by omega) (by omega) c_44
        rw [P_0, if_neg (show ¬ isDg (byV r u e s.1) = true from by rw [n_13]; decide), if_neg c_9, if_pos n_44]
        refine r_aload_n 0 dX6_factor_47 rfl rfl rfl ?_
        refine r_callV_1 dX6_factor_48 kX6_112 (M_fails (s := s) (u := u) (e := e) (a := a) (b := b) (c := c) hm) (gRecv.of hm.s66 rfl) rfl rfl (Nat.le_of_ble_eq_true rfl) ?_
        refine e_iret dX6_factor_51 rfl ?_
        exact ⟨rfl, _, (Jo.r).t (Jo.u (by decide)), (hp).setBad, rfl⟩
    · skip
      refine r_iload_n 1 dX6_factor_27 rfl rfl ?_
      refine r_bipush (v := nI 40) dX6_factor_28 (by decide +kernel) ?_
      refine r_icmp_eq 39 dX6_factor_30 (by decide) (fun c_30 => ?_) (fun c_30 => ?_)
      · skip
        have c_9 : ¬ (¬ byV r u e s.1 = 33 ∧ ¬ byV r u e s.1 = 40) := fun q => q.2 c_30
        refine r_aload_n 0 dX6_factor_39 rfl rfl rfl ?_
        refine r_geti (k := 10) dX6_factor_40 hm.s66 rfl (by decide) (Or.inl q1426) (Or.inl rfl) rfl ?_
        refine r_eqi (show _ = nI (s.2.1) from (hp).op) ?_
        refine r_iconst (v := nI 5) dX6_factor_43 rfl ?_
        refine r_icmp_ne 52 dX6_factor_44 (by decide) (fun c_44 => ?_) (fun c_44 => ?_)
        · skip
          have n_44 : ¬ s.2.1 = 5 := n_ne (by omega) (by omega) c_44
          refine r_aload_n 0 dX6_factor_52 rfl rfl rfl ?_
          refine r_dup dX6_factor_53 rfl ?_
          refine r_geti (k := 10) dX6_factor_54 hm.s66 rfl (by decide) (Or.inl q1426) (Or.inl rfl) rfl ?_
          refine r_eqi (show _ = nI (s.2.1) from (hp).op) ?_
          refine r_iconst (v := nI 1) dX6_factor_57 rfl ?_
          refine r_iadd dX6_factor_58 ?_
          refine r_eqi (show _ = nI (s.2.1 + 1) from by simp only [pk_mul, nI_add]) ?_
          refine r_puti (k := 10) dX6_factor_59 hm.s66 rfl (by decide) (Or.inl q1426) (Or.inl rfl) (Or.inl rfl) rfl rfl rfl ?_
          refine gG_h (MH_66 _ _ _ _ _) ?_
          refine r_aload_n 0 dX6_factor_62 rfl rfl rfl ?_
          refine r_dup dX6_factor_63 rfl ?_
          refine r_geti (k := 8) dX6_factor_64 hm.s66 rfl (by decide) (Or.inl q1424) (Or.inl rfl) rfl ?_
          refine r_eqi (show _ = nI (s.1) from ((hp).setOp (k := (s.2.1 + 1))).at_) ?_
          refine r_iconst (v := nI 1) dX6_factor_67 rfl ?_
          refine r_iadd dX6_factor_68 ?_
          refine r_eqi (show _ = nI (s.1 + 1) from by simp only [pk_mul, nI_add]) ?_
          refine r_puti (k := 8) dX6_factor_69 hm.s66 rfl (by decide) (Or.inl q1424) (Or.inl rfl) (Or.inl rfl) rfl rfl rfl ?_
          refine gG_h (MH_66 _ _ _ _ _) ?_
          refine r_iload_n 1 dX6_factor_72 rfl rfl ?_
          refine r_bipush (v := nI 33) dX6_factor_73 (by decide +kernel) ?_
          refine r_icmp_ne 85 dX6_factor_75 (by decide) (fun c_75 => ?_) (fun c_75 => ?_)
          · skip
            rw [P_0, if_neg (show ¬ isDg (byV r u e s.1) = true from by rw [n_13]; decide), if_neg c_9, if_neg n_44, if_neg (show ¬ byV r u e s.1 = 33 from c_24)]
            have hlt : s.1 < e := byV_lt (fun q => by rw [q] at c_30; exact absurd c_30 (by decide))
            refine r_aload_n 0 dX6_factor_85 rfl rfl rfl ?_
            refine r_callV_1p dX6_factor_86 kX6_137 (ihC 5 (d + 3) ((s.1 + 1), (s.2.1 + 1), s.2.2) _ (by decide) (by omega) (((hp).setOp (k := (s.2.1 + 1))).setAt (k := (s.1 + 1))) (by first | assumption | (show _ ≤ e; (try dsimp only); omega)) (by first | assumption | (show _ ≤ 5; (try dsimp only); omega)) (by show 7 * (e - _) + 1 + 5 ≤ n; (try dsimp only); omega)) (gRecv.of hm.s66 rfl) rfl rfl (Nat.le_of_ble_eq_true rfl) (fun o_2 j_2 p_2 => ?_)
            have i_2 := P_in (r := r) (u := u) (e := e) (namV_m (u := u) (a := a) (b := b) (c := c)) n 5 0 ((s.1 + 1), (s.2.1 + 1), s.2.2) (by first | assumption | (show _ ≤ e; (try dsimp only); omega))
            have u_2 := P_up (by_ := byV r u e) (nam := namV u a b c) n 5 0 ((s.1 + 1), (s.2.1 + 1), s.2.2)
            try dsimp only at i_2 u_2
            refine r_istore_n 2 dX6_factor_89 rfl (by decide) rfl ?_
            refine gG_ls (ls' := [_, _, _]) rfl ?_
            refine r_aload_n 0 dX6_factor_90 rfl rfl rfl ?_
            refine r_dup dX6_factor_91 rfl ?_
            have e_8 : (P (byV r u e) (namV u a b c) n 5 (0) ((s.1 + 1, s.2.1 + 1, s.2.2))).2.2.1 - 1 = s.2.1 := by rw [i_2.2]; rfl
            refine r_geti (k := 10) dX6_factor_92 hm.s66 rfl (by decide) (Or.inl q1426) (Or.inl rfl) rfl ?_
            refine r_eqi (show _ = nI ((s.2.1 + 1)) from ((p_2).op).trans (by rw [i_2.2])) ?_
            refine r_iconst (v := nI 1) dX6_factor_95 rfl ?_
            refine r_isub dX6_factor_96 ?_
            refine r_eqi (show _ = nI (s.2.1) from nI_pred s.2.1) ?_
            refine r_puti (k := 10) dX6_factor_97 hm.s66 rfl (by decide) (Or.inl q1426) (Or.inl rfl) (Or.inl rfl) rfl rfl rfl ?_
            refine gG_h (MH_66 _ _ _ _ _) ?_
            refine r_iload_n 1 dX6_factor_100 rfl rfl ?_
            refine r_bipush (v := nI 33) dX6_factor_101 (by decide +kernel) ?_
            refine r_icmp_ne 116 dX6_factor_103 (by decide) (fun c_103 => ?_) (fun c_103 => ?_)
            · skip
              refine r_aload_n 0 dX6_factor_116 rfl rfl rfl ?_
              refine r_geti (k := 14) dX6_factor_117 hm.s66 rfl (by decide) (Or.inl q1430) (Or.inl rfl) rfl ?_
              refine r_eqi (show _ = b2 ((P (byV r u e) (namV u a b c) n 5 (0) (((s.1 + 1), (s.2.1 + 1), s.2.2))).2.2.2) from ((p_2).setOp (k := s.2.1)).good) ?_
              refine r_if_eq 148 dX6_factor_120 (by decide) (fun c_120 => ?_) (fun c_120 => ?_)
              · skip
                have n_120 : (P (byV r u e) (namV u a b c) n 5 (0) (((s.1 + 1), (s.2.1 + 1), s.2.2))).2.2.2 = false := b2_f c_120
                rw [if_neg (show ¬ ((P (byV r u e) (namV u a b c) n 5 (0) ((s.1 + 1, s.2.1 + 1, s.2.2))).2.2.2 = true ∧ byV r u e (P (byV r u e) (namV u a b c) n 5 (0) ((s.1 + 1, s.2.1 + 1, s.2.2))).2.1 = 41) from fun q => by rw [n_120] at q; exact absurd q.1 (by decide)), e_8]
                refine r_aload_n 0 dX6_factor_148 rfl rfl rfl ?_
                refine r_callV_1 dX6_factor_149 kX6_112 (M_fails (s := s) (u := u) (e := e) (a := a) (b := b) (c := c) hm) (gRecv.of hm.s66 rfl) rfl rfl (Nat.le_of_ble_eq_true rfl) ?_
                refine e_iret dX6_factor_152 rfl ?_
                exact ⟨rfl, _, (((((Jo.r).t (Jo.u (by decide))).t (Jo.u (by decide))).t j_2).t (Jo.u (by decide))).t (Jo.u (by decide)), ((p_2).setOp (k := s.2.1)).setBad, rfl⟩
              · skip
                have n_120 : (P (byV r u e) (namV u a b c) n 5 (0) (((s.1 + 1), (s.2.1 + 1), s.2.2))).2.2.2 = true := b2_t c_120
                refine r_aload_n 0 dX6_factor_123 rfl rfl rfl ?_
                refine r_aload_n 0 dX6_factor_124 rfl rfl rfl ?_
                refine r_geti (k := 8) dX6_factor_125 hm.s66 rfl (by decide) (Or.inl q1424) (Or.inl rfl) rfl ?_
                refine r_eqi (show _ = nI ((P (byV r u e) (namV u a b c) n 5 (0) (((s.1 + 1), (s.2.1 + 1), s.2.2))).2.1) from ((p_2).setOp (k := s.2.1)).at_) ?_
                refine r_callV_1 dX6_factor_128 kX6_106 (M_byteAt (k := (P (byV r u e) (namV u a b c) n 5 (0) (((s.1 + 1), (s.2.1 + 1), s.2.2))).2.1) hm hu he2 (by omega) ((p_2).setOp (k := s.2.1))) (gRecv.of hm.s66 rfl) rfl rfl (Nat.le_of_ble_eq_true rfl) ?_
                refine r_bipush (v := nI 41) dX6_factor_131 (by decide +kernel) ?_
                refine r_icmp_ne 148 dX6_factor_133 (by decide) (fun c_133 => ?_) (fun c_133 => ?_)
                · skip
                  rw [if_neg (show ¬ ((P (byV r u e) (namV u a b c) n 5 (0) ((s.1 + 1, s.2.1 + 1, s.2.2))).2.2.2 = true ∧ byV r u e (P (byV r u e) (namV u a b c) n 5 (0) ((s.1 + 1, s.2.1 + 1, s.2.2))).2.1 = 41) from fun q => c_133 q.2), e_8]
                  refine r_aload_n 0 dX6_factor_148 rfl rfl rfl ?_
                  refine r_callV_1 dX6_factor_149 kX6_112 (M_fails (s := s) (u := u) (e := e) (a := a) (b := b) (c := c) hm) (gRecv.of hm.s66 rfl) rfl rfl (Nat.le_of_ble_eq_true rfl) ?_
                  refine e_iret dX6_factor_152 rfl ?_
                  exact ⟨rfl, _, (((((Jo.r).t (Jo.u (by decide))).t (Jo.u (by decide))).t j_2).t (Jo.u (by decide))).t (Jo.u (by decide)), ((p_2).setOp (k := s.2.1)).setBad, rfl⟩
                · skip
                  rw [if_pos (show ((P (byV r u e) (namV u a b c) n 5 (0) ((s.1 + 1, s.2.1 + 1, s.2.2))).2.2.2 = true ∧ byV r u e (P (byV r u e) (namV u a b c) n 5 (0) ((s.1 + 1, s.2.1 + 1, s.2.2))).2.1 = 41) from ⟨n_120, c_133⟩), e_8]
                  have hl2 : (P (byV r u e) (namV u a b c) n 5 (0) ((s.1 + 1, s.2.1 + 1, s.2.2))).2.1 < e := byV_lt (fun q => by rw [q] at c_133; exact absurd c_133 (by decide))
                  refine r_aload_n 0 dX6_factor_136 rfl rfl rfl ?_
                  refine r_dup dX6_factor_137 rfl ?_
                  refine r_geti (k := 8) dX6_factor_138 hm.s66 rfl (by decide) (Or.inl q1424) (Or.inl rfl) rfl ?_
                  refine r_eqi (show _ = nI ((P (byV r u e) (namV u a b c) n 5 (0) (((s.1 + 1), (s.2.1 + 1), s.2.2))).2.1) from ((p_2).setOp (k := s.2.1)).at_) ?_
                  refine r_iconst (v := nI 1) dX6_factor_141 rfl ?_
                  refine r_iadd dX6_factor_142 ?_
                  refine r_eqi (show _ = nI ((P (byV r u e) (namV u a b c) n 5 (0) (((s.1 + 1), (s.2.1 + 1), s.2.2))).2.1 + 1) from by simp only [pk_mul, nI_add]) ?_
                  refine r_puti (k := 8) dX6_factor_143 hm.s66 rfl (by decide) (Or.inl q1424) (Or.inl rfl) (Or.inl rfl) rfl rfl rfl ?_
                  refine gG_h (MH_66 _ _ _ _ _) ?_
                  refine r_iload_n 2 dX6_factor_146 rfl rfl ?_
                  refine e_iret dX6_factor_147 rfl ?_
                  exact ⟨rfl, _, (((((Jo.r).t (Jo.u (by decide))).t (Jo.u (by decide))).t j_2).t (Jo.u (by decide))).t (Jo.u (by decide)), ((p_2).setOp (k := s.2.1)).setAt (k := ((P (byV r u e) (namV u a b c) n 5 (0) (((s.1 + 1), (s.2.1 + 1), s.2.2))).2.1 + 1)), rfl⟩
            · skip
              exact absurd c_103 c_24
          · skip
            exact absurd c_75 c_24
        · skip
          have n_44 : s.2.1 = 5 := n_nen (by omega) (by omega) c_44
          rw [P_0, if_neg (show ¬ isDg (byV r u e s.1) = true from by rw [n_13]; decide), if_neg c_9, if_pos n_44]
          refine r_aload_n 0 dX6_factor_47 rfl rfl rfl ?_
          refine r_callV_1 dX6_factor_48 kX6_112 (M_fails (s := s) (u := u) (e := e) (a := a) (b := b) (c := c) hm) (gRecv.of hm.s66 rfl) rfl rfl (Nat.le_of_ble_eq_true rfl) ?_
          refine e_iret dX6_factor_51 rfl ?_
          exact ⟨rfl, _, (Jo.r).t (Jo.u (by decide)), (hp).setBad, rfl⟩
      · skip
        rw [P_0, if_neg (show ¬ isDg (byV r u e s.1) = true from by rw [n_13]; decide), if_pos (show ¬ byV r u e s.1 = 33 ∧ ¬ byV r u e s.1 = 40 from ⟨c_24, c_30⟩)]
        refine r_aload_n 0 dX6_factor_33 rfl rfl rfl ?_
        refine r_iload_n 1 dX6_factor_34 rfl rfl ?_
        refine r_callV_1p dX6_factor_35 kX6_128 (M_named (s := s) (x := byV r u e (s.1)) hm hu he2 hs hp) (gRecv.of hm.s66 rfl) rfl rfl (Nat.le_of_ble_eq_true rfl) (fun o_3 j_3 p_3 => ?_)
        refine e_iret dX6_factor_38 rfl ?_
        exact ⟨rfl, _, (Jo.r).t j_3, p_3, rfl⟩
  · skip
    have n_13 : (isDg (byV r u e (s.1))) = true := b2_t c_13
    rw [P_0, if_pos n_13]
    refine r_aload_n 0 dX6_factor_16 rfl rfl rfl ?_
    refine r_callV_1p dX6_factor_17 kX6_125 (M_number (s := s) hm hu he2 hs hp) (gRecv.of hm.s66 rfl) rfl rfl (Nat.le_of_ble_eq_true rfl) (fun o_4 j_4 p_4 => ?_)
    refine e_iret dX6_factor_20 rfl ?_
    exact ⟨rfl, _, (Jo.r).t j_4, p_4, rfl⟩
theorem RP.t {h : Hp} {r o o1 : Row} {u e : Nat} {a b c : Int32} {q : Int32 × PS} {out : Option Value ⊕ Nat} {h' : Hp} (j : Jo o o1) (k : RP h r o1 u e a b c q out h') : RP h r o u e a b c q out h' := by
  obtain ⟨e1, o9, j9, p9, e2⟩ := k
  exact ⟨e1, o9, j.t j9, p9, e2⟩
def t2 (xs : List (Option Value)) : Prop := ∃ x y, xs = [x, y]
def t1 (xs : List (Option Value)) : Prop := ∃ x, xs = [x]
theorem M_product {d : Nat} {h : Hp} {r o : Row} (hm : LayM (hS h) (hR h)) {u e : Nat} {a b c : Int32} {s : PS} {n : Nat} (hu : u < 2) (he2 : e ≤ 50) (ihC : PC h r u e a b c n) (ihL : PL h r u e a b c n 1 t2) (hd : n + 1 ≤ d) (hp : PO o u e a b c s) (hs : s.1 ≤ e) (h5 : s.2.1 ≤ 5) (hf : 7 * (e - s.1) + 1 + 1 ≤ n + 1) : gC (d + 4) (0) (0) m_X6_product [.ref 66] (MH h r o) (RP h r o u e a b c ((P (byV r u e) (namV u a b c) (n + 1) 1 (0) (s)))) := by
  rw [P_1]
  refine gC.of (ls := [some (.ref 66), none, none, none]) (by decide +kernel) rfl rfl rfl rfl (Nat.le_of_ble_eq_true rfl) ?_
  refine r_aload_n 0 dX6_product_0 rfl rfl rfl ?_
  refine r_callV_1p dX6_product_1 kX6_134 (ihC 0 (d + 3) s _ (by decide) (by omega) (hp) (by first | assumption | (show _ ≤ e; (try dsimp only); omega)) (by first | assumption | (show _ ≤ 5; (try dsimp only); omega)) (by show 7 * (e - _) + 1 + 0 ≤ n; (try dsimp only); omega)) (gRecv.of hm.s66 rfl) rfl rfl (Nat.le_of_ble_eq_true rfl) (fun o_1 j_1 p_1 => ?_)
  have i_1 := P_in (r := r) (u := u) (e := e) (namV_m (u := u) (a := a) (b := b) (c := c)) n 0 0 s (by first | assumption | (show _ ≤ e; (try dsimp only); omega))
  have u_1 := P_up (by_ := byV r u e) (nam := namV u a b c) n 0 0 s
  try dsimp only at i_1 u_1
  refine r_istore_n 1 dX6_product_4 rfl (by decide) rfl ?_
  refine gG_ls (ls' := [_, _, _, _]) rfl ?_
  exact gG_mono (fun _ _ q => q.t ((Jo.r).t j_1)) (ihL (d + 4) _ _ _ _ ⟨_, _, rfl⟩ (by omega) (p_1) (by omega) (by omega) (by omega))
theorem M_product_L {d : Nat} {h : Hp} {r o : Row} (hm : LayM (hS h) (hR h)) {u e : Nat} {a b c : Int32} {s : PS} {n : Nat} (hu : u < 2) (he2 : e ≤ 50) (ihC : PC h r u e a b c n) (ihL : PL h r u e a b c n 1 t2) {v : Int32} {x2 x3 : Option Value} (hd : n + 1 ≤ d) (hp : PO o u e a b c s) (hs : s.1 ≤ e) (h5 : s.2.1 ≤ 5) (hf : 7 * (e - s.1) + 1 + 0 ≤ n + 1) : gG (d + 4) (0) (0) m_X6_product 5 [some (.ref 66), some (.int v), x2, x3] [] (MH h r o) (RP h r o u e a b c ((P (byV r u e) (namV u a b c) (n + 1) 11 (v) (s)))) := by

  refine r_aload_n 0 dX6_product_5 rfl rfl rfl ?_
  refine r_geti (k := 14) dX6_product_6 hm.s66 rfl (by decide) (Or.inl q1430) (Or.inl rfl) rfl ?_
  refine r_eqi (show _ = b2 (s.2.2) from (hp).good) ?_
  refine r_if_eq 114 dX6_product_9 (by decide) (fun c_9 => ?_) (fun c_9 => ?_)
  · skip
    have n_9 : s.2.2 = false := b2_f c_9
    rw [P_11, if_neg (fun q => by rw [n_9] at q; exact absurd q.1 (by decide))]
    refine r_iload_n 1 dX6_product_114 rfl rfl ?_
    refine e_iret dX6_product_115 rfl ?_
    exact ⟨rfl, _, Jo.r, hp, rfl⟩
  · skip
    have n_9 : s.2.2 = true := b2_t c_9
    refine r_aload_n 0 dX6_product_12 rfl rfl rfl ?_
    refine r_aload_n 0 dX6_product_13 rfl rfl rfl ?_
    refine r_geti (k := 8) dX6_product_14 hm.s66 rfl (by decide) (Or.inl q1424) (Or.inl rfl) rfl ?_
    refine r_eqi (show _ = nI (s.1) from (hp).at_) ?_
    refine r_callV_1 dX6_product_17 kX6_106 (M_byteAt (k := s.1) hm hu he2 (by omega) (hp)) (gRecv.of hm.s66 rfl) rfl rfl (Nat.le_of_ble_eq_true rfl) ?_
    refine r_bipush (v := nI 42) dX6_product_20 (by decide +kernel) ?_
    refine r_icmp_eq 51 dX6_product_22 (by decide) (fun c_22 => ?_) (fun c_22 => ?_)
    · skip
      rw [P_11, if_pos (show s.2.2 = true ∧ (byV r u e s.1 = 42 ∨ byV r u e s.1 = 47 ∨ byV r u e s.1 = 37) from ⟨n_9, Or.inl c_22⟩)]
      have hlt : s.1 < e := byV_lt (fun q => by rw [q] at c_22; exact absurd c_22 (by decide))
      refine r_aload_n 0 dX6_product_51 rfl rfl rfl ?_
      refine r_aload_n 0 dX6_product_52 rfl rfl rfl ?_
      refine r_geti (k := 8) dX6_product_53 hm.s66 rfl (by decide) (Or.inl q1424) (Or.inl rfl) rfl ?_
      refine r_eqi (show _ = nI (s.1) from (hp).at_) ?_
      refine r_callV_1 dX6_product_56 kX6_106 (M_byteAt (k := s.1) hm hu he2 (by omega) (hp)) (gRecv.of hm.s66 rfl) rfl rfl (Nat.le_of_ble_eq_true rfl) ?_
      refine r_istore_n 2 dX6_product_59 rfl (by decide) rfl ?_
      refine gG_ls (ls' := [_, _, _, _]) rfl ?_
      refine r_aload_n 0 dX6_product_60 rfl rfl rfl ?_
      refine r_dup dX6_product_61 rfl ?_
      refine r_geti (k := 8) dX6_product_62 hm.s66 rfl (by decide) (Or.inl q1424) (Or.inl rfl) rfl ?_
      refine r_eqi (show _ = nI (s.1) from (hp).at_) ?_
      refine r_iconst (v := nI 1) dX6_product_65 rfl ?_
      refine r_iadd dX6_product_66 ?_
      refine r_eqi (show _ = nI (s.1 + 1) from by simp only [pk_mul, nI_add]) ?_
      refine r_puti (k := 8) dX6_product_67 hm.s66 rfl (by decide) (Or.inl q1424) (Or.inl rfl) (Or.inl rfl) rfl rfl rfl ?_
      refine gG_h (MH_66 _ _ _ _ _) ?_
      refine r_aload_n 0 dX6_product_70 rfl rfl rfl ?_
      refine r_callV_1p dX6_product_71 kX6_134 (ihC 0 (d + 3) ((s.1 + 1), s.2) _ (by decide) (by omega) ((hp).setAt (k := (s.1 + 1))) (by first | assumption | (show _ ≤ e; (try dsimp only); omega)) (by first | assumption | (show _ ≤ 5; (try dsimp only); omega)) (by show 7 * (e - _) + 1 + 0 ≤ n; (try dsimp only); omega)) (gRecv.of hm.s66 rfl) rfl rfl (Nat.le_of_ble_eq_true rfl) (fun o_1 j_1 p_1 => ?_)
      have i_1 := P_in (r := r) (u := u) (e := e) (namV_m (u := u) (a := a) (b := b) (c := c)) n 0 0 ((s.1 + 1), s.2) (by first | assumption | (show _ ≤ e; (try dsimp only); omega))
      have u_1 := P_up (by_ := byV r u e) (nam := namV u a b c) n 0 0 ((s.1 + 1), s.2)
      try dsimp only at i_1 u_1
      refine r_istore_n 3 dX6_product_74 rfl (by decide) rfl ?_
      refine gG_ls (ls' := [_, _, _, _]) rfl ?_
      refine r_iload_n 2 dX6_product_75 rfl rfl ?_
      refine r_bipush (v := nI 42) dX6_product_76 (by decide +kernel) ?_
      refine r_icmp_ne 87 dX6_product_78 (by decide) (fun c_78 => ?_) (fun c_78 => ?_)
      · skip
        rw [if_neg (show ¬ byV r u e s.1 = 42 from c_78)]
        refine r_iload_n 3 dX6_product_87 rfl rfl ?_
        refine r_if_ne 95 dX6_product_88 (by decide) (fun c_88 => ?_) (fun c_88 => ?_)
        · skip
          rw [if_neg (show ¬ (P (byV r u e) (namV u a b c) n 0 (0) ((s.1 + 1, s.2))).1 = 0 from c_88)]
          refine r_iload_n 2 dX6_product_95 rfl rfl ?_
          refine r_bipush (v := nI 47) dX6_product_96 (by decide +kernel) ?_
          refine r_icmp_ne 107 dX6_product_98 (by decide) (fun c_98 => ?_) (fun c_98 => ?_)
          · skip
            rw [if_neg (show ¬ byV r u e s.1 = 47 from c_98)]
            refine r_iload_n 1 dX6_product_107 rfl rfl ?_
            refine r_iload_n 3 dX6_product_108 rfl rfl ?_
            refine r_irem dX6_product_109 c_88 ?_
            refine r_istore_n 1 dX6_product_110 rfl (by decide) rfl ?_
            refine gG_ls (ls' := [_, _, _, _]) rfl ?_
            refine r_goto 5 dX6_product_111 (by decide) ?_
            exact gG_mono (fun _ _ q => q.t (((Jo.r).t (Jo.u (by decide))).t j_1)) (ihL (d + 4) _ _ _ _ ⟨_, _, rfl⟩ (by omega) (p_1) (by omega) (by omega) (by omega))
          · skip
            rw [if_pos (show byV r u e s.1 = 47 from c_98)]
            refine r_iload_n 1 dX6_product_101 rfl rfl ?_
            refine r_iload_n 3 dX6_product_102 rfl rfl ?_
            refine r_idiv dX6_product_103 c_88 ?_
            refine r_goto 110 dX6_product_104 (by decide) ?_
            refine r_istore_n 1 dX6_product_110 rfl (by decide) rfl ?_
            refine gG_ls (ls' := [_, _, _, _]) rfl ?_
            refine r_goto 5 dX6_product_111 (by decide) ?_
            exact gG_mono (fun _ _ q => q.t (((Jo.r).t (Jo.u (by decide))).t j_1)) (ihL (d + 4) _ _ _ _ ⟨_, _, rfl⟩ (by omega) (p_1) (by omega) (by omega) (by omega))
        · skip
          rw [if_pos (show (P (byV r u e) (namV u a b c) n 0 (0) ((s.1 + 1, s.2))).1 = 0 from c_88)]
          refine r_iconst (v := nI 0) dX6_product_91 rfl ?_
          refine r_goto 110 dX6_product_92 (by decide) ?_
          refine r_istore_n 1 dX6_product_110 rfl (by decide) rfl ?_
          refine gG_ls (ls' := [_, _, _, _]) rfl ?_
          refine r_goto 5 dX6_product_111 (by decide) ?_
          exact gG_mono (fun _ _ q => q.t (((Jo.r).t (Jo.u (by decide))).t j_1)) (ihL (d + 4) _ _ _ _ ⟨_, _, rfl⟩ (by omega) (p_1) (by omega) (by omega) (by omega))
      · skip
        rw [if_pos (show byV r u e s.1 = 42 from c_78)]
        refine r_iload_n 1 dX6_product_81 rfl rfl ?_
        refine r_iload_n 3 dX6_product_82 rfl rfl ?_
        refine r_imul dX6_product_83 ?_
        refine r_goto 110 dX6_product_84 (by decide) ?_
        refine r_istore_n 1 dX6_product_110 rfl (by decide) rfl ?_
        refine gG_ls (ls' := [_, _, _, _]) rfl ?_
        refine r_goto 5 dX6_product_111 (by decide) ?_
        exact gG_mono (fun _ _ q => q.t (((Jo.r).t (Jo.u (by decide))).t j_1)) (ihL (d + 4) _ _ _ _ ⟨_, _, rfl⟩ (by omega) (p_1) (by omega) (by omega) (by omega))
    · skip
      refine r_aload_n 0 dX6_product_25 rfl rfl rfl ?_
      refine r_aload_n 0 dX6_product_26 rfl rfl rfl ?_
      refine r_geti (k := 8) dX6_product_27 hm.s66 rfl (by decide) (Or.inl q1424) (Or.inl rfl) rfl ?_
      refine r_eqi (show _ = nI (s.1) from (hp).at_) ?_
      refine r_callV_1 dX6_product_30 kX6_106 (M_byteAt (k := s.1) hm hu he2 (by omega) (hp)) (gRecv.of hm.s66 rfl) rfl rfl (Nat.le_of_ble_eq_true rfl) ?_
      refine r_bipush (v := nI 47) dX6_product_33 (by decide +kernel) ?_
      refine r_icmp_eq 51 dX6_product_35 (by decide) (fun c_35 => ?_) (fun c_35 => ?_)
      · skip
        rw [P_11, if_pos (show s.2.2 = true ∧ (byV r u e s.1 = 42 ∨ byV r u e s.1 = 47 ∨ byV r u e s.1 = 37) from ⟨n_9, Or.inr (Or.inl c_35)⟩)]
        have hlt : s.1 < e := byV_lt (fun q => by rw [q] at c_35; exact absurd c_35 (by decide))
        refine r_aload_n 0 dX6_product_51 rfl rfl rfl ?_
        refine r_aload_n 0 dX6_product_52 rfl rfl rfl ?_
        refine r_geti (k := 8) dX6_product_53 hm.s66 rfl (by decide) (Or.inl q1424) (Or.inl rfl) rfl ?_
        refine r_eqi (show _ = nI (s.1) from (hp).at_) ?_
        refine r_callV_1 dX6_product_56 kX6_106 (M_byteAt (k := s.1) hm hu he2 (by omega) (hp)) (gRecv.of hm.s66 rfl) rfl rfl (Nat.le_of_ble_eq_true rfl) ?_
        refine r_istore_n 2 dX6_product_59 rfl (by decide) rfl ?_
        refine gG_ls (ls' := [_, _, _, _]) rfl ?_
        refine r_aload_n 0 dX6_product_60 rfl rfl rfl ?_
        refine r_dup dX6_product_61 rfl ?_
        refine r_geti (k := 8) dX6_product_62 hm.s66 rfl (by decide) (Or.inl q1424) (Or.inl rfl) rfl ?_
        refine r_eqi (show _ = nI (s.1) from (hp).at_) ?_
        refine r_iconst (v := nI 1) dX6_product_65 rfl ?_
        refine r_iadd dX6_product_66 ?_
        refine r_eqi (show _ = nI (s.1 + 1) from by simp only [pk_mul, nI_add]) ?_
        refine r_puti (k := 8) dX6_product_67 hm.s66 rfl (by decide) (Or.inl q1424) (Or.inl rfl) (Or.inl rfl) rfl rfl rfl ?_
        refine gG_h (MH_66 _ _ _ _ _) ?_
        refine r_aload_n 0 dX6_product_70 rfl rfl rfl ?_
        refine r_callV_1p dX6_product_71 kX6_134 (ihC 0 (d + 3) ((s.1 + 1), s.2) _ (by decide) (by omega) ((hp).setAt (k := (s.1 + 1))) (by first | assumption | (show _ ≤ e; (try dsimp only); omega)) (by first | assumption | (show _ ≤ 5; (try dsimp only); omega)) (by show 7 * (e - _) + 1 + 0 ≤ n; (try dsimp only); omega)) (gRecv.of hm.s66 rfl) rfl rfl (Nat.le_of_ble_eq_true rfl) (fun o_2 j_2 p_2 => ?_)
        have i_2 := P_in (r := r) (u := u) (e := e) (namV_m (u := u) (a := a) (b := b) (c := c)) n 0 0 ((s.1 + 1), s.2) (by first | assumption | (show _ ≤ e; (try dsimp only); omega))
        have u_2 := P_up (by_ := byV r u e) (nam := namV u a b c) n 0 0 ((s.1 + 1), s.2)
        try dsimp only at i_2 u_2
        refine r_istore_n 3 dX6_product_74 rfl (by decide) rfl ?_
        refine gG_ls (ls' := [_, _, _, _]) rfl ?_
        refine r_iload_n 2 dX6_product_75 rfl rfl ?_
        refine r_bipush (v := nI 42) dX6_product_76 (by decide +kernel) ?_
        refine r_icmp_ne 87 dX6_product_78 (by decide) (fun c_78 => ?_) (fun c_78 => ?_)
        · skip
          rw [if_neg (show ¬ byV r u e s.1 = 42 from c_78)]
          refine r_iload_n 3 dX6_product_87 rfl rfl ?_
          refine r_if_ne 95 dX6_product_88 (by decide) (fun c_88 => ?_) (fun c_88 => ?_)
          · skip
            rw [if_neg (show ¬ (P (byV r u e) (namV u a b c) n 0 (0) ((s.1 + 1, s.2))).1 = 0 from c_88)]
            refine r_iload_n 2 dX6_product_95 rfl rfl ?_
            refine r_bipush (v := nI 47) dX6_product_96 (by decide +kernel) ?_
            refine r_icmp_ne 107 dX6_product_98 (by decide) (fun c_98 => ?_) (fun c_98 => ?_)
            · skip
              rw [if_neg (show ¬ byV r u e s.1 = 47 from c_98)]
              refine r_iload_n 1 dX6_product_107 rfl rfl ?_
              refine r_iload_n 3 dX6_product_108 rfl rfl ?_
              refine r_irem dX6_product_109 c_88 ?_
              refine r_istore_n 1 dX6_product_110 rfl (by decide) rfl ?_
              refine gG_ls (ls' := [_, _, _, _]) rfl ?_
              refine r_goto 5 dX6_product_111 (by decide) ?_
              exact gG_mono (fun _ _ q => q.t (((Jo.r).t (Jo.u (by decide))).t j_2)) (ihL (d + 4) _ _ _ _ ⟨_, _, rfl⟩ (by omega) (p_2) (by omega) (by omega) (by omega))
            · skip
              rw [if_pos (show byV r u e s.1 = 47 from c_98)]
              refine r_iload_n 1 dX6_product_101 rfl rfl ?_
              refine r_iload_n 3 dX6_product_102 rfl rfl ?_
              refine r_idiv dX6_product_103 c_88 ?_
              refine r_goto 110 dX6_product_104 (by decide) ?_
              refine r_istore_n 1 dX6_product_110 rfl (by decide) rfl ?_
              refine gG_ls (ls' := [_, _, _, _]) rfl ?_
              refine r_goto 5 dX6_product_111 (by decide) ?_
              exact gG_mono (fun _ _ q => q.t (((Jo.r).t (Jo.u (by decide))).t j_2)) (ihL (d + 4) _ _ _ _ ⟨_, _, rfl⟩ (by omega) (p_2) (by omega) (by omega) (by omega))
          · skip
            rw [if_pos (show (P (byV r u e) (namV u a b c) n 0 (0) ((s.1 + 1, s.2))).1 = 0 from c_88)]
            refine r_iconst (v := nI 0) dX6_product_91 rfl ?_
            refine r_goto 110 dX6_product_92 (by decide) ?_
            refine r_istore_n 1 dX6_product_110 rfl (by decide) rfl ?_
            refine gG_ls (ls' := [_, _, _, _]) rfl ?_
            refine r_goto 5 dX6_product_111 (by decide) ?_
            exact gG_mono (fun _ _ q => q.t (((Jo.r).t (Jo.u (by decide))).t j_2)) (ihL (d + 4) _ _ _ _ ⟨_, _, rfl⟩ (by omega) (p_2) (by omega) (by omega) (by omega))
        · skip
          rw [if_pos (show byV r u e s.1 = 42 from c_78)]
          refine r_iload_n 1 dX6_product_81 rfl rfl ?_
          refine r_iload_n 3 dX6_product_82 rfl rfl ?_
          refine r_imul dX6_product_83 ?_
          refine r_goto 110 dX6_product_84 (by decide) ?_
          refine r_istore_n 1 dX6_product_110 rfl (by decide) rfl ?_
          refine gG_ls (ls' := [_, _, _, _]) rfl ?_
          refine r_goto 5 dX6_product_111 (by decide) ?_
          exact gG_mono (fun _ _ q => q.t (((Jo.r).t (Jo.u (by decide))).t j_2)) (ihL (d + 4) _ _ _ _ ⟨_, _, rfl⟩ (by omega) (p_2) (by omega) (by omega) (by omega))
      · skip
        refine r_aload_n 0 dX6_product_38 rfl rfl rfl ?_
        refine r_aload_n 0 dX6_product_39 rfl rfl rfl ?_
        refine r_geti (k := 8) dX6_product_40 hm.s66 rfl (by decide) (Or.inl q1424) (Or.inl rfl) rfl ?_
        refine r_eqi (show _ = nI (s.1) from (hp).at_) ?_
        refine r_callV_1 dX6_product_43 kX6_106 (M_byteAt (k := s.1) hm hu he2 (by omega) (hp)) (gRecv.of hm.s66 rfl) rfl rfl (Nat.le_of_ble_eq_true rfl) ?_
        refine r_bipush (v := nI 37) dX6_product_46 (by decide +kernel) ?_
        refine r_icmp_ne 114 dX6_product_48 (by decide) (fun c_48 => ?_) (fun c_48 => ?_)
        · skip
          rw [P_11, if_neg (fun q => by rcases q.2 with q | q | q <;> first | exact c_22 q | exact c_35 q | exact c_48 q)]
          refine r_iload_n 1 dX6_product_114 rfl rfl ?_
          refine e_iret dX6_product_115 rfl ?_
          exact ⟨rfl, _, Jo.r, hp, rfl⟩
        · skip
          rw [P_11, if_pos (show s.2.2 = true ∧ (byV r u e s.1 = 42 ∨ byV r u e s.1 = 47 ∨ byV r u e s.1 = 37) from ⟨n_9, Or.inr (Or.inr c_48)⟩)]
          have hlt : s.1 < e := byV_lt (fun q => by rw [q] at c_48; exact absurd c_48 (by decide))
          refine r_aload_n 0 dX6_product_51 rfl rfl rfl ?_
          refine r_aload_n 0 dX6_product_52 rfl rfl rfl ?_
          refine r_geti (k := 8) dX6_product_53 hm.s66 rfl (by decide) (Or.inl q1424) (Or.inl rfl) rfl ?_
          refine r_eqi (show _ = nI (s.1) from (hp).at_) ?_
          refine r_callV_1 dX6_product_56 kX6_106 (M_byteAt (k := s.1) hm hu he2 (by omega) (hp)) (gRecv.of hm.s66 rfl) rfl rfl (Nat.le_of_ble_eq_true rfl) ?_
          refine r_istore_n 2 dX6_product_59 rfl (by decide) rfl ?_
          refine gG_ls (ls' := [_, _, _, _]) rfl ?_
          refine r_aload_n 0 dX6_product_60 rfl rfl rfl ?_
          refine r_dup dX6_product_61 rfl ?_
          refine r_geti (k := 8) dX6_product_62 hm.s66 rfl (by decide) (Or.inl q1424) (Or.inl rfl) rfl ?_
          refine r_eqi (show _ = nI (s.1) from (hp).at_) ?_
          refine r_iconst (v := nI 1) dX6_product_65 rfl ?_
          refine r_iadd dX6_product_66 ?_
          refine r_eqi (show _ = nI (s.1 + 1) from by simp only [pk_mul, nI_add]) ?_
          refine r_puti (k := 8) dX6_product_67 hm.s66 rfl (by decide) (Or.inl q1424) (Or.inl rfl) (Or.inl rfl) rfl rfl rfl ?_
          refine gG_h (MH_66 _ _ _ _ _) ?_
          refine r_aload_n 0 dX6_product_70 rfl rfl rfl ?_
          refine r_callV_1p dX6_product_71 kX6_134 (ihC 0 (d + 3) ((s.1 + 1), s.2) _ (by decide) (by omega) ((hp).setAt (k := (s.1 + 1))) (by first | assumption | (show _ ≤ e; (try dsimp only); omega)) (by first | assumption | (show _ ≤ 5; (try dsimp only); omega)) (by show 7 * (e - _) + 1 + 0 ≤ n; (try dsimp only); omega)) (gRecv.of hm.s66 rfl) rfl rfl (Nat.le_of_ble_eq_true rfl) (fun o_3 j_3 p_3 => ?_)
          have i_3 := P_in (r := r) (u := u) (e := e) (namV_m (u := u) (a := a) (b := b) (c := c)) n 0 0 ((s.1 + 1), s.2) (by first | assumption | (show _ ≤ e; (try dsimp only); omega))
          have u_3 := P_up (by_ := byV r u e) (nam := namV u a b c) n 0 0 ((s.1 + 1), s.2)
          try dsimp only at i_3 u_3
          refine r_istore_n 3 dX6_product_74 rfl (by decide) rfl ?_
          refine gG_ls (ls' := [_, _, _, _]) rfl ?_
          refine r_iload_n 2 dX6_product_75 rfl rfl ?_
          refine r_bipush (v := nI 42) dX6_product_76 (by decide +kernel) ?_
          refine r_icmp_ne 87 dX6_product_78 (by decide) (fun c_78 => ?_) (fun c_78 => ?_)
          · skip
            rw [if_neg (show ¬ byV r u e s.1 = 42 from c_78)]
            refine r_iload_n 3 dX6_product_87 rfl rfl ?_
            refine r_if_ne 95 dX6_product_88 (by decide) (fun c_88 => ?_) (fun c_88 => ?_)
            · skip
              rw [if_neg (show ¬ (P (byV r u e) (namV u a b c) n 0 (0) ((s.1 + 1, s.2))).1 = 0 from c_88)]
              refine r_iload_n 2 dX6_product_95 rfl rfl ?_
              refine r_bipush (v := nI 47) dX6_product_96 (by decide +kernel) ?_
              refine r_icmp_ne 107 dX6_product_98 (by decide) (fun c_98 => ?_) (fun c_98 => ?_)
              · skip
                rw [if_neg (show ¬ byV r u e s.1 = 47 from c_98)]
                refine r_iload_n 1 dX6_product_107 rfl rfl ?_
                refine r_iload_n 3 dX6_product_108 rfl rfl ?_
                refine r_irem dX6_product_109 c_88 ?_
                refine r_istore_n 1 dX6_product_110 rfl (by decide) rfl ?_
                refine gG_ls (ls' := [_, _, _, _]) rfl ?_
                refine r_goto 5 dX6_product_111 (by decide) ?_
                exact gG_mono (fun _ _ q => q.t (((Jo.r).t (Jo.u (by decide))).t j_3)) (ihL (d + 4) _ _ _ _ ⟨_, _, rfl⟩ (by omega) (p_3) (by omega) (by omega) (by omega))
              · skip
                rw [if_pos (show byV r u e s.1 = 47 from c_98)]
                refine r_iload_n 1 dX6_product_101 rfl rfl ?_
                refine r_iload_n 3 dX6_product_102 rfl rfl ?_
                refine r_idiv dX6_product_103 c_88 ?_
                refine r_goto 110 dX6_product_104 (by decide) ?_
                refine r_istore_n 1 dX6_product_110 rfl (by decide) rfl ?_
                refine gG_ls (ls' := [_, _, _, _]) rfl ?_
                refine r_goto 5 dX6_product_111 (by decide) ?_
                exact gG_mono (fun _ _ q => q.t (((Jo.r).t (Jo.u (by decide))).t j_3)) (ihL (d + 4) _ _ _ _ ⟨_, _, rfl⟩ (by omega) (p_3) (by omega) (by omega) (by omega))
            · skip
              rw [if_pos (show (P (byV r u e) (namV u a b c) n 0 (0) ((s.1 + 1, s.2))).1 = 0 from c_88)]
              refine r_iconst (v := nI 0) dX6_product_91 rfl ?_
              refine r_goto 110 dX6_product_92 (by decide) ?_
              refine r_istore_n 1 dX6_product_110 rfl (by decide) rfl ?_
              refine gG_ls (ls' := [_, _, _, _]) rfl ?_
              refine r_goto 5 dX6_product_111 (by decide) ?_
              exact gG_mono (fun _ _ q => q.t (((Jo.r).t (Jo.u (by decide))).t j_3)) (ihL (d + 4) _ _ _ _ ⟨_, _, rfl⟩ (by omega) (p_3) (by omega) (by omega) (by omega))
          · skip
            rw [if_pos (show byV r u e s.1 = 42 from c_78)]
            refine r_iload_n 1 dX6_product_81 rfl rfl ?_
            refine r_iload_n 3 dX6_product_82 rfl rfl ?_
            refine r_imul dX6_product_83 ?_
            refine r_goto 110 dX6_product_84 (by decide) ?_
            refine r_istore_n 1 dX6_product_110 rfl (by decide) rfl ?_
            refine gG_ls (ls' := [_, _, _, _]) rfl ?_
            refine r_goto 5 dX6_product_111 (by decide) ?_
            exact gG_mono (fun _ _ q => q.t (((Jo.r).t (Jo.u (by decide))).t j_3)) (ihL (d + 4) _ _ _ _ ⟨_, _, rfl⟩ (by omega) (p_3) (by omega) (by omega) (by omega))
theorem M_sum {d : Nat} {h : Hp} {r o : Row} (hm : LayM (hS h) (hR h)) {u e : Nat} {a b c : Int32} {s : PS} {n : Nat} (hu : u < 2) (he2 : e ≤ 50) (ihC : PC h r u e a b c n) (ihL : PL h r u e a b c n 2 t2) (hd : n + 1 ≤ d) (hp : PO o u e a b c s) (hs : s.1 ≤ e) (h5 : s.2.1 ≤ 5) (hf : 7 * (e - s.1) + 1 + 2 ≤ n + 1) : gC (d + 4) (0) (0) m_X6_sum [.ref 66] (MH h r o) (RP h r o u e a b c ((P (byV r u e) (namV u a b c) (n + 1) 2 (0) (s)))) := by
  rw [P_2]
  refine gC.of (ls := [some (.ref 66), none, none, none]) (by decide +kernel) rfl rfl rfl rfl (Nat.le_of_ble_eq_true rfl) ?_
  refine r_aload_n 0 dX6_sum_0 rfl rfl rfl ?_
  refine r_callV_1p dX6_sum_1 kX6_140 (ihC 1 (d + 3) s _ (by decide) (by omega) (hp) (by first | assumption | (show _ ≤ e; (try dsimp only); omega)) (by first | assumption | (show _ ≤ 5; (try dsimp only); omega)) (by show 7 * (e - _) + 1 + 1 ≤ n; (try dsimp only); omega)) (gRecv.of hm.s66 rfl) rfl rfl (Nat.le_of_ble_eq_true rfl) (fun o_1 j_1 p_1 => ?_)
  have i_1 := P_in (r := r) (u := u) (e := e) (namV_m (u := u) (a := a) (b := b) (c := c)) n 1 0 s (by first | assumption | (show _ ≤ e; (try dsimp only); omega))
  have u_1 := P_up (by_ := byV r u e) (nam := namV u a b c) n 1 0 s
  try dsimp only at i_1 u_1
  refine r_istore_n 1 dX6_sum_4 rfl (by decide) rfl ?_
  refine gG_ls (ls' := [_, _, _, _]) rfl ?_
  exact gG_mono (fun _ _ q => q.t ((Jo.r).t j_1)) (ihL (d + 4) _ _ _ _ ⟨_, _, rfl⟩ (by omega) (p_1) (by omega) (by omega) (by omega))
theorem M_sum_L {d : Nat} {h : Hp} {r o : Row} (hm : LayM (hS h) (hR h)) {u e : Nat} {a b c : Int32} {s : PS} {n : Nat} (hu : u < 2) (he2 : e ≤ 50) (ihC : PC h r u e a b c n) (ihL : PL h r u e a b c n 2 t2) {v : Int32} {x2 x3 : Option Value} (hd : n + 1 ≤ d) (hp : PO o u e a b c s) (hs : s.1 ≤ e) (h5 : s.2.1 ≤ 5) (hf : 7 * (e - s.1) + 1 + 0 ≤ n + 1) : gG (d + 4) (0) (0) m_X6_sum 5 [some (.ref 66), some (.int v), x2, x3] [] (MH h r o) (RP h r o u e a b c ((P (byV r u e) (namV u a b c) (n + 1) 12 (v) (s)))) := by

  refine r_aload_n 0 dX6_sum_5 rfl rfl rfl ?_
  refine r_geti (k := 14) dX6_sum_6 hm.s66 rfl (by decide) (Or.inl q1430) (Or.inl rfl) rfl ?_
  refine r_eqi (show _ = b2 (s.2.2) from (hp).good) ?_
  refine r_if_eq 81 dX6_sum_9 (by decide) (fun c_9 => ?_) (fun c_9 => ?_)
  · skip
    have n_9 : s.2.2 = false := b2_f c_9
    rw [P_12, if_neg (fun q => by rw [n_9] at q; exact absurd q.1 (by decide))]
    refine r_iload_n 1 dX6_sum_81 rfl rfl ?_
    refine e_iret dX6_sum_82 rfl ?_
    exact ⟨rfl, _, Jo.r, hp, rfl⟩
  · skip
    have n_9 : s.2.2 = true := b2_t c_9
    refine r_aload_n 0 dX6_sum_12 rfl rfl rfl ?_
    refine r_aload_n 0 dX6_sum_13 rfl rfl rfl ?_
    refine r_geti (k := 8) dX6_sum_14 hm.s66 rfl (by decide) (Or.inl q1424) (Or.inl rfl) rfl ?_
    refine r_eqi (show _ = nI (s.1) from (hp).at_) ?_
    refine r_callV_1 dX6_sum_17 kX6_106 (M_byteAt (k := s.1) hm hu he2 (by omega) (hp)) (gRecv.of hm.s66 rfl) rfl rfl (Nat.le_of_ble_eq_true rfl) ?_
    refine r_bipush (v := nI 43) dX6_sum_20 (by decide +kernel) ?_
    refine r_icmp_eq 38 dX6_sum_22 (by decide) (fun c_22 => ?_) (fun c_22 => ?_)
    · skip
      rw [P_12, if_pos (show s.2.2 = true ∧ (byV r u e s.1 = 43 ∨ byV r u e s.1 = 45) from ⟨n_9, Or.inl c_22⟩)]
      have hlt : s.1 < e := byV_lt (fun q => by rw [q] at c_22; exact absurd c_22 (by decide))
      refine r_aload_n 0 dX6_sum_38 rfl rfl rfl ?_
      refine r_aload_n 0 dX6_sum_39 rfl rfl rfl ?_
      refine r_geti (k := 8) dX6_sum_40 hm.s66 rfl (by decide) (Or.inl q1424) (Or.inl rfl) rfl ?_
      refine r_eqi (show _ = nI (s.1) from (hp).at_) ?_
      refine r_callV_1 dX6_sum_43 kX6_106 (M_byteAt (k := s.1) hm hu he2 (by omega) (hp)) (gRecv.of hm.s66 rfl) rfl rfl (Nat.le_of_ble_eq_true rfl) ?_
      refine r_istore_n 2 dX6_sum_46 rfl (by decide) rfl ?_
      refine gG_ls (ls' := [_, _, _, _]) rfl ?_
      refine r_aload_n 0 dX6_sum_47 rfl rfl rfl ?_
      refine r_dup dX6_sum_48 rfl ?_
      refine r_geti (k := 8) dX6_sum_49 hm.s66 rfl (by decide) (Or.inl q1424) (Or.inl rfl) rfl ?_
      refine r_eqi (show _ = nI (s.1) from (hp).at_) ?_
      refine r_iconst (v := nI 1) dX6_sum_52 rfl ?_
      refine r_iadd dX6_sum_53 ?_
      refine r_eqi (show _ = nI (s.1 + 1) from by simp only [pk_mul, nI_add]) ?_
      refine r_puti (k := 8) dX6_sum_54 hm.s66 rfl (by decide) (Or.inl q1424) (Or.inl rfl) (Or.inl rfl) rfl rfl rfl ?_
      refine gG_h (MH_66 _ _ _ _ _) ?_
      refine r_aload_n 0 dX6_sum_57 rfl rfl rfl ?_
      refine r_callV_1p dX6_sum_58 kX6_140 (ihC 1 (d + 3) ((s.1 + 1), s.2) _ (by decide) (by omega) ((hp).setAt (k := (s.1 + 1))) (by first | assumption | (show _ ≤ e; (try dsimp only); omega)) (by first | assumption | (show _ ≤ 5; (try dsimp only); omega)) (by show 7 * (e - _) + 1 + 1 ≤ n; (try dsimp only); omega)) (gRecv.of hm.s66 rfl) rfl rfl (Nat.le_of_ble_eq_true rfl) (fun o_1 j_1 p_1 => ?_)
      have i_1 := P_in (r := r) (u := u) (e := e) (namV_m (u := u) (a := a) (b := b) (c := c)) n 1 0 ((s.1 + 1), s.2) (by first | assumption | (show _ ≤ e; (try dsimp only); omega))
      have u_1 := P_up (by_ := byV r u e) (nam := namV u a b c) n 1 0 ((s.1 + 1), s.2)
      try dsimp only at i_1 u_1
      refine r_istore_n 3 dX6_sum_61 rfl (by decide) rfl ?_
      refine gG_ls (ls' := [_, _, _, _]) rfl ?_
      refine r_iload_n 2 dX6_sum_62 rfl rfl ?_
      refine r_bipush (v := nI 43) dX6_sum_63 (by decide +kernel) ?_
      refine r_icmp_ne 74 dX6_sum_65 (by decide) (fun c_65 => ?_) (fun c_65 => ?_)
      · skip
        rw [if_neg (show ¬ byV r u e s.1 = 43 from c_65)]
        refine r_iload_n 1 dX6_sum_74 rfl rfl ?_
        refine r_iload_n 3 dX6_sum_75 rfl rfl ?_
        refine r_isub dX6_sum_76 ?_
        refine r_istore_n 1 dX6_sum_77 rfl (by decide) rfl ?_
        refine gG_ls (ls' := [_, _, _, _]) rfl ?_
        refine r_goto 5 dX6_sum_78 (by decide) ?_
        exact gG_mono (fun _ _ q => q.t (((Jo.r).t (Jo.u (by decide))).t j_1)) (ihL (d + 4) _ _ _ _ ⟨_, _, rfl⟩ (by omega) (p_1) (by omega) (by omega) (by omega))
      · skip
        rw [if_pos (show byV r u e s.1 = 43 from c_65)]
        refine r_iload_n 1 dX6_sum_68 rfl rfl ?_
        refine r_iload_n 3 dX6_sum_69 rfl rfl ?_
        refine r_iadd dX6_sum_70 ?_
        refine r_goto 77 dX6_sum_71 (by decide) ?_
        refine r_istore_n 1 dX6_sum_77 rfl (by decide) rfl ?_
        refine gG_ls (ls' := [_, _, _, _]) rfl ?_
        refine r_goto 5 dX6_sum_78 (by decide) ?_
        exact gG_mono (fun _ _ q => q.t (((Jo.r).t (Jo.u (by decide))).t j_1)) (ihL (d + 4) _ _ _ _ ⟨_, _, rfl⟩ (by omega) (p_1) (by omega) (by omega) (by omega))
    · skip
      refine r_aload_n 0 dX6_sum_25 rfl rfl rfl ?_
      refine r_aload_n 0 dX6_sum_26 rfl rfl rfl ?_
      refine r_geti (k := 8) dX6_sum_27 hm.s66 rfl (by decide) (Or.inl q1424) (Or.inl rfl) rfl ?_
      refine r_eqi (show _ = nI (s.1) from (hp).at_) ?_
      refine r_callV_1 dX6_sum_30 kX6_106 (M_byteAt (k := s.1) hm hu he2 (by omega) (hp)) (gRecv.of hm.s66 rfl) rfl rfl (Nat.le_of_ble_eq_true rfl) ?_
      refine r_bipush (v := nI 45) dX6_sum_33 (by decide +kernel) ?_
      refine r_icmp_ne 81 dX6_sum_35 (by decide) (fun c_35 => ?_) (fun c_35 => ?_)
      · skip
        rw [P_12, if_neg (fun q => by rcases q.2 with q | q <;> first | exact c_22 q | exact c_35 q | exact c_48 q)]
        refine r_iload_n 1 dX6_sum_81 rfl rfl ?_
        refine e_iret dX6_sum_82 rfl ?_
        exact ⟨rfl, _, Jo.r, hp, rfl⟩
      · skip
        rw [P_12, if_pos (show s.2.2 = true ∧ (byV r u e s.1 = 43 ∨ byV r u e s.1 = 45) from ⟨n_9, Or.inr c_35⟩)]
        have hlt : s.1 < e := byV_lt (fun q => by rw [q] at c_35; exact absurd c_35 (by decide))
        refine r_aload_n 0 dX6_sum_38 rfl rfl rfl ?_
        refine r_aload_n 0 dX6_sum_39 rfl rfl rfl ?_
        refine r_geti (k := 8) dX6_sum_40 hm.s66 rfl (by decide) (Or.inl q1424) (Or.inl rfl) rfl ?_
        refine r_eqi (show _ = nI (s.1) from (hp).at_) ?_
        refine r_callV_1 dX6_sum_43 kX6_106 (M_byteAt (k := s.1) hm hu he2 (by omega) (hp)) (gRecv.of hm.s66 rfl) rfl rfl (Nat.le_of_ble_eq_true rfl) ?_
        refine r_istore_n 2 dX6_sum_46 rfl (by decide) rfl ?_
        refine gG_ls (ls' := [_, _, _, _]) rfl ?_
        refine r_aload_n 0 dX6_sum_47 rfl rfl rfl ?_
        refine r_dup dX6_sum_48 rfl ?_
        refine r_geti (k := 8) dX6_sum_49 hm.s66 rfl (by decide) (Or.inl q1424) (Or.inl rfl) rfl ?_
        refine r_eqi (show _ = nI (s.1) from (hp).at_) ?_
        refine r_iconst (v := nI 1) dX6_sum_52 rfl ?_
        refine r_iadd dX6_sum_53 ?_
        refine r_eqi (show _ = nI (s.1 + 1) from by simp only [pk_mul, nI_add]) ?_
        refine r_puti (k := 8) dX6_sum_54 hm.s66 rfl (by decide) (Or.inl q1424) (Or.inl rfl) (Or.inl rfl) rfl rfl rfl ?_
        refine gG_h (MH_66 _ _ _ _ _) ?_
        refine r_aload_n 0 dX6_sum_57 rfl rfl rfl ?_
        refine r_callV_1p dX6_sum_58 kX6_140 (ihC 1 (d + 3) ((s.1 + 1), s.2) _ (by decide) (by omega) ((hp).setAt (k := (s.1 + 1))) (by first | assumption | (show _ ≤ e; (try dsimp only); omega)) (by first | assumption | (show _ ≤ 5; (try dsimp only); omega)) (by show 7 * (e - _) + 1 + 1 ≤ n; (try dsimp only); omega)) (gRecv.of hm.s66 rfl) rfl rfl (Nat.le_of_ble_eq_true rfl) (fun o_2 j_2 p_2 => ?_)
        have i_2 := P_in (r := r) (u := u) (e := e) (namV_m (u := u) (a := a) (b := b) (c := c)) n 1 0 ((s.1 + 1), s.2) (by first | assumption | (show _ ≤ e; (try dsimp only); omega))
        have u_2 := P_up (by_ := byV r u e) (nam := namV u a b c) n 1 0 ((s.1 + 1), s.2)
        try dsimp only at i_2 u_2
        refine r_istore_n 3 dX6_sum_61 rfl (by decide) rfl ?_
        refine gG_ls (ls' := [_, _, _, _]) rfl ?_
        refine r_iload_n 2 dX6_sum_62 rfl rfl ?_
        refine r_bipush (v := nI 43) dX6_sum_63 (by decide +kernel) ?_
        refine r_icmp_ne 74 dX6_sum_65 (by decide) (fun c_65 => ?_) (fun c_65 => ?_)
        · skip
          rw [if_neg (show ¬ byV r u e s.1 = 43 from c_65)]
          refine r_iload_n 1 dX6_sum_74 rfl rfl ?_
          refine r_iload_n 3 dX6_sum_75 rfl rfl ?_
          refine r_isub dX6_sum_76 ?_
          refine r_istore_n 1 dX6_sum_77 rfl (by decide) rfl ?_
          refine gG_ls (ls' := [_, _, _, _]) rfl ?_
          refine r_goto 5 dX6_sum_78 (by decide) ?_
          exact gG_mono (fun _ _ q => q.t (((Jo.r).t (Jo.u (by decide))).t j_2)) (ihL (d + 4) _ _ _ _ ⟨_, _, rfl⟩ (by omega) (p_2) (by omega) (by omega) (by omega))
        · skip
          rw [if_pos (show byV r u e s.1 = 43 from c_65)]
          refine r_iload_n 1 dX6_sum_68 rfl rfl ?_
          refine r_iload_n 3 dX6_sum_69 rfl rfl ?_
          refine r_iadd dX6_sum_70 ?_
          refine r_goto 77 dX6_sum_71 (by decide) ?_
          refine r_istore_n 1 dX6_sum_77 rfl (by decide) rfl ?_
          refine gG_ls (ls' := [_, _, _, _]) rfl ?_
          refine r_goto 5 dX6_sum_78 (by decide) ?_
          exact gG_mono (fun _ _ q => q.t (((Jo.r).t (Jo.u (by decide))).t j_2)) (ihL (d + 4) _ _ _ _ ⟨_, _, rfl⟩ (by omega) (p_2) (by omega) (by omega) (by omega))
theorem M_both {d : Nat} {h : Hp} {r o : Row} (hm : LayM (hS h) (hR h)) {u e : Nat} {a b c : Int32} {s : PS} {n : Nat} (hu : u < 2) (he2 : e ≤ 50) (ihC : PC h r u e a b c n) (ihL : PL h r u e a b c n 4 t1) (hd : n + 1 ≤ d) (hp : PO o u e a b c s) (hs : s.1 ≤ e) (h5 : s.2.1 ≤ 5) (hf : 7 * (e - s.1) + 1 + 4 ≤ n + 1) : gC (d + 4) (0) (0) m_X6_both [.ref 66] (MH h r o) (RP h r o u e a b c ((P (byV r u e) (namV u a b c) (n + 1) 4 (0) (s)))) := by
  rw [P_4]
  refine gC.of (ls := [some (.ref 66), none, none]) (by decide +kernel) rfl rfl rfl rfl (Nat.le_of_ble_eq_true rfl) ?_
  refine r_aload_n 0 dX6_both_0 rfl rfl rfl ?_
  refine r_callV_1p dX6_both_1 kX6_146 (ihC 3 (d + 3) s _ (by decide) (by omega) (hp) (by first | assumption | (show _ ≤ e; (try dsimp only); omega)) (by first | assumption | (show _ ≤ 5; (try dsimp only); omega)) (by show 7 * (e - _) + 1 + 3 ≤ n; (try dsimp only); omega)) (gRecv.of hm.s66 rfl) rfl rfl (Nat.le_of_ble_eq_true rfl) (fun o_1 j_1 p_1 => ?_)
  have i_1 := P_in (r := r) (u := u) (e := e) (namV_m (u := u) (a := a) (b := b) (c := c)) n 3 0 s (by first | assumption | (show _ ≤ e; (try dsimp only); omega))
  have u_1 := P_up (by_ := byV r u e) (nam := namV u a b c) n 3 0 s
  try dsimp only at i_1 u_1
  refine r_istore_n 1 dX6_both_4 rfl (by decide) rfl ?_
  refine gG_ls (ls' := [_, _, _]) rfl ?_
  exact gG_mono (fun _ _ q => q.t ((Jo.r).t j_1)) (ihL (d + 4) _ _ _ _ ⟨_, rfl⟩ (by omega) (p_1) (by omega) (by omega) (by omega))
theorem M_both_L {d : Nat} {h : Hp} {r o : Row} (hm : LayM (hS h) (hR h)) {u e : Nat} {a b c : Int32} {s : PS} {n : Nat} (hu : u < 2) (he2 : e ≤ 50) (ihC : PC h r u e a b c n) (ihL : PL h r u e a b c n 4 t1) {v : Int32} {x2 : Option Value} (hd : n + 1 ≤ d) (hp : PO o u e a b c s) (hs : s.1 ≤ e) (h5 : s.2.1 ≤ 5) (hf : 7 * (e - s.1) + 1 + 0 ≤ n + 1) : gG (d + 4) (0) (0) m_X6_both 5 [some (.ref 66), some (.int v), x2] [] (MH h r o) (RP h r o u e a b c ((P (byV r u e) (namV u a b c) (n + 1) 14 (v) (s)))) := by

  refine r_aload_n 0 dX6_both_5 rfl rfl rfl ?_
  refine r_geti (k := 14) dX6_both_6 hm.s66 rfl (by decide) (Or.inl q1430) (Or.inl rfl) rfl ?_
  refine r_eqi (show _ = b2 (s.2.2) from (hp).good) ?_
  refine r_if_eq 57 dX6_both_9 (by decide) (fun c_9 => ?_) (fun c_9 => ?_)
  · skip
    have n_9 : s.2.2 = false := b2_f c_9
    rw [P_14, if_neg (fun q => by rw [n_9] at q; exact absurd q.1 (by decide))]
    refine r_iload_n 1 dX6_both_57 rfl rfl ?_
    refine e_iret dX6_both_58 rfl ?_
    exact ⟨rfl, _, Jo.r, hp, rfl⟩
  · skip
    have n_9 : s.2.2 = true := b2_t c_9
    refine r_aload_n 0 dX6_both_12 rfl rfl rfl ?_
    refine r_aload_n 0 dX6_both_13 rfl rfl rfl ?_
    refine r_geti (k := 8) dX6_both_14 hm.s66 rfl (by decide) (Or.inl q1424) (Or.inl rfl) rfl ?_
    refine r_eqi (show _ = nI (s.1) from (hp).at_) ?_
    refine r_callV_1 dX6_both_17 kX6_106 (M_byteAt (k := s.1) hm hu he2 (by omega) (hp)) (gRecv.of hm.s66 rfl) rfl rfl (Nat.le_of_ble_eq_true rfl) ?_
    refine r_bipush (v := nI 38) dX6_both_20 (by decide +kernel) ?_
    refine r_icmp_ne 57 dX6_both_22 (by decide) (fun c_22 => ?_) (fun c_22 => ?_)
    · skip
      rw [P_14, if_neg (fun q => c_22 q.2)]
      refine r_iload_n 1 dX6_both_57 rfl rfl ?_
      refine e_iret dX6_both_58 rfl ?_
      exact ⟨rfl, _, Jo.r, hp, rfl⟩
    · skip
      rw [P_14, if_pos (show s.2.2 = true ∧ byV r u e s.1 = 38 from ⟨n_9, c_22⟩)]
      have hlt : s.1 < e := byV_lt (fun q => by rw [q] at c_22; exact absurd c_22 (by decide))
      refine r_aload_n 0 dX6_both_25 rfl rfl rfl ?_
      refine r_dup dX6_both_26 rfl ?_
      refine r_geti (k := 8) dX6_both_27 hm.s66 rfl (by decide) (Or.inl q1424) (Or.inl rfl) rfl ?_
      refine r_eqi (show _ = nI (s.1) from (hp).at_) ?_
      refine r_iconst (v := nI 1) dX6_both_30 rfl ?_
      refine r_iadd dX6_both_31 ?_
      refine r_eqi (show _ = nI (s.1 + 1) from by simp only [pk_mul, nI_add]) ?_
      refine r_puti (k := 8) dX6_both_32 hm.s66 rfl (by decide) (Or.inl q1424) (Or.inl rfl) (Or.inl rfl) rfl rfl rfl ?_
      refine gG_h (MH_66 _ _ _ _ _) ?_
      refine r_aload_n 0 dX6_both_35 rfl rfl rfl ?_
      refine r_callV_1p dX6_both_36 kX6_146 (ihC 3 (d + 3) ((s.1 + 1), s.2) _ (by decide) (by omega) ((hp).setAt (k := (s.1 + 1))) (by first | assumption | (show _ ≤ e; (try dsimp only); omega)) (by first | assumption | (show _ ≤ 5; (try dsimp only); omega)) (by show 7 * (e - _) + 1 + 3 ≤ n; (try dsimp only); omega)) (gRecv.of hm.s66 rfl) rfl rfl (Nat.le_of_ble_eq_true rfl) (fun o_1 j_1 p_1 => ?_)
      have i_1 := P_in (r := r) (u := u) (e := e) (namV_m (u := u) (a := a) (b := b) (c := c)) n 3 0 ((s.1 + 1), s.2) (by first | assumption | (show _ ≤ e; (try dsimp only); omega))
      have u_1 := P_up (by_ := byV r u e) (nam := namV u a b c) n 3 0 ((s.1 + 1), s.2)
      try dsimp only at i_1 u_1
      refine r_istore_n 2 dX6_both_39 rfl (by decide) rfl ?_
      refine gG_ls (ls' := [_, _, _]) rfl ?_
      refine r_iload_n 1 dX6_both_40 rfl rfl ?_
      refine r_if_eq 52 dX6_both_41 (by decide) (fun c_41 => ?_) (fun c_41 => ?_)
      · skip
        refine r_iconst (v := nI 0) dX6_both_52 rfl ?_
        refine r_istore_n 1 dX6_both_53 rfl (by decide) rfl ?_
        refine gG_ls (ls' := [_, _, _]) rfl ?_
        refine r_goto 5 dX6_both_54 (by decide) ?_
        have e_9 : b2 (decide (¬ v = 0) && decide (¬ (P (byV r u e) (namV u a b c) n 3 (0) ((s.1 + 1, s.2))).1 = 0)) = nI 0 := by first | (rw [decide_eq_false (p := ¬ v = 0) (fun z => z (by assumption))]; rfl) | (rw [decide_eq_true (p := ¬ v = 0) (by assumption)]; rfl) | (rw [decide_eq_true (p := ¬ v = 0) (by assumption), decide_eq_false (p := ¬ (P (byV r u e) (namV u a b c) n 3 (0) ((s.1 + 1, s.2))).1 = 0) (fun z => z (by assumption))]; rfl) | (rw [decide_eq_true (p := ¬ v = 0) (by assumption), decide_eq_true (p := ¬ (P (byV r u e) (namV u a b c) n 3 (0) ((s.1 + 1, s.2))).1 = 0) (by assumption)]; rfl) | (rw [decide_eq_false (p := ¬ v = 0) (fun z => by contradiction), decide_eq_false (p := ¬ (P (byV r u e) (namV u a b c) n 3 (0) ((s.1 + 1, s.2))).1 = 0) (fun z => z (by assumption))]; rfl) | (rw [decide_eq_true (p := ¬ (P (byV r u e) (namV u a b c) n 3 (0) ((s.1 + 1, s.2))).1 = 0) (by assumption), Bool.or_true]; rfl) | (rw [decide_eq_false (p := ¬ (P (byV r u e) (namV u a b c) n 3 (0) ((s.1 + 1, s.2))).1 = 0) (fun z => z (by assumption)), Bool.and_false]; rfl)
        rw [e_9]
        exact gG_mono (fun _ _ q => q.t (((Jo.r).t (Jo.u (by decide))).t j_1)) (ihL (d + 4) _ _ _ _ ⟨_, rfl⟩ (by omega) (p_1) (by omega) (by omega) (by omega))
      · skip
        refine r_iload_n 2 dX6_both_44 rfl rfl ?_
        refine r_if_eq 52 dX6_both_45 (by decide) (fun c_45 => ?_) (fun c_45 => ?_)
        · skip
          refine r_iconst (v := nI 0) dX6_both_52 rfl ?_
          refine r_istore_n 1 dX6_both_53 rfl (by decide) rfl ?_
          refine gG_ls (ls' := [_, _, _]) rfl ?_
          refine r_goto 5 dX6_both_54 (by decide) ?_
          have e_9 : b2 (decide (¬ v = 0) && decide (¬ (P (byV r u e) (namV u a b c) n 3 (0) ((s.1 + 1, s.2))).1 = 0)) = nI 0 := by first | (rw [decide_eq_false (p := ¬ v = 0) (fun z => z (by assumption))]; rfl) | (rw [decide_eq_true (p := ¬ v = 0) (by assumption)]; rfl) | (rw [decide_eq_true (p := ¬ v = 0) (by assumption), decide_eq_false (p := ¬ (P (byV r u e) (namV u a b c) n 3 (0) ((s.1 + 1, s.2))).1 = 0) (fun z => z (by assumption))]; rfl) | (rw [decide_eq_true (p := ¬ v = 0) (by assumption), decide_eq_true (p := ¬ (P (byV r u e) (namV u a b c) n 3 (0) ((s.1 + 1, s.2))).1 = 0) (by assumption)]; rfl) | (rw [decide_eq_false (p := ¬ v = 0) (fun z => by contradiction), decide_eq_false (p := ¬ (P (byV r u e) (namV u a b c) n 3 (0) ((s.1 + 1, s.2))).1 = 0) (fun z => z (by assumption))]; rfl) | (rw [decide_eq_true (p := ¬ (P (byV r u e) (namV u a b c) n 3 (0) ((s.1 + 1, s.2))).1 = 0) (by assumption), Bool.or_true]; rfl) | (rw [decide_eq_false (p := ¬ (P (byV r u e) (namV u a b c) n 3 (0) ((s.1 + 1, s.2))).1 = 0) (fun z => z (by assumption)), Bool.and_false]; rfl)
          rw [e_9]
          exact gG_mono (fun _ _ q => q.t (((Jo.r).t (Jo.u (by decide))).t j_1)) (ihL (d + 4) _ _ _ _ ⟨_, rfl⟩ (by omega) (p_1) (by omega) (by omega) (by omega))
        · skip
          refine r_iconst (v := nI 1) dX6_both_48 rfl ?_
          refine r_goto 53 dX6_both_49 (by decide) ?_
          refine r_istore_n 1 dX6_both_53 rfl (by decide) rfl ?_
          refine gG_ls (ls' := [_, _, _]) rfl ?_
          refine r_goto 5 dX6_both_54 (by decide) ?_
          have e_9 : b2 (decide (¬ v = 0) && decide (¬ (P (byV r u e) (namV u a b c) n 3 (0) ((s.1 + 1, s.2))).1 = 0)) = nI 1 := by first | (rw [decide_eq_false (p := ¬ v = 0) (fun z => z (by assumption))]; rfl) | (rw [decide_eq_true (p := ¬ v = 0) (by assumption)]; rfl) | (rw [decide_eq_true (p := ¬ v = 0) (by assumption), decide_eq_false (p := ¬ (P (byV r u e) (namV u a b c) n 3 (0) ((s.1 + 1, s.2))).1 = 0) (fun z => z (by assumption))]; rfl) | (rw [decide_eq_true (p := ¬ v = 0) (by assumption), decide_eq_true (p := ¬ (P (byV r u e) (namV u a b c) n 3 (0) ((s.1 + 1, s.2))).1 = 0) (by assumption)]; rfl) | (rw [decide_eq_false (p := ¬ v = 0) (fun z => by contradiction), decide_eq_false (p := ¬ (P (byV r u e) (namV u a b c) n 3 (0) ((s.1 + 1, s.2))).1 = 0) (fun z => z (by assumption))]; rfl) | (rw [decide_eq_true (p := ¬ (P (byV r u e) (namV u a b c) n 3 (0) ((s.1 + 1, s.2))).1 = 0) (by assumption), Bool.or_true]; rfl) | (rw [decide_eq_false (p := ¬ (P (byV r u e) (namV u a b c) n 3 (0) ((s.1 + 1, s.2))).1 = 0) (fun z => z (by assumption)), Bool.and_false]; rfl)
          rw [e_9]
          exact gG_mono (fun _ _ q => q.t (((Jo.r).t (Jo.u (by decide))).t j_1)) (ihL (d + 4) _ _ _ _ ⟨_, rfl⟩ (by omega) (p_1) (by omega) (by omega) (by omega))
theorem M_whole {d : Nat} {h : Hp} {r o : Row} (hm : LayM (hS h) (hR h)) {u e : Nat} {a b c : Int32} {s : PS} {n : Nat} (hu : u < 2) (he2 : e ≤ 50) (ihC : PC h r u e a b c n) (ihL : PL h r u e a b c n 5 t1) (hd : n + 1 ≤ d) (hp : PO o u e a b c s) (hs : s.1 ≤ e) (h5 : s.2.1 ≤ 5) (hf : 7 * (e - s.1) + 1 + 5 ≤ n + 1) : gC (d + 4) (0) (0) m_X6_whole [.ref 66] (MH h r o) (RP h r o u e a b c ((P (byV r u e) (namV u a b c) (n + 1) 5 (0) (s)))) := by
  rw [P_5]
  refine gC.of (ls := [some (.ref 66), none, none]) (by decide +kernel) rfl rfl rfl rfl (Nat.le_of_ble_eq_true rfl) ?_
  refine r_aload_n 0 dX6_whole_0 rfl rfl rfl ?_
  refine r_callV_1p dX6_whole_1 kX6_149 (ihC 4 (d + 3) s _ (by decide) (by omega) (hp) (by first | assumption | (show _ ≤ e; (try dsimp only); omega)) (by first | assumption | (show _ ≤ 5; (try dsimp only); omega)) (by show 7 * (e - _) + 1 + 4 ≤ n; (try dsimp only); omega)) (gRecv.of hm.s66 rfl) rfl rfl (Nat.le_of_ble_eq_true rfl) (fun o_1 j_1 p_1 => ?_)
  have i_1 := P_in (r := r) (u := u) (e := e) (namV_m (u := u) (a := a) (b := b) (c := c)) n 4 0 s (by first | assumption | (show _ ≤ e; (try dsimp only); omega))
  have u_1 := P_up (by_ := byV r u e) (nam := namV u a b c) n 4 0 s
  try dsimp only at i_1 u_1
  refine r_istore_n 1 dX6_whole_4 rfl (by decide) rfl ?_
  refine gG_ls (ls' := [_, _, _]) rfl ?_
  exact gG_mono (fun _ _ q => q.t ((Jo.r).t j_1)) (ihL (d + 4) _ _ _ _ ⟨_, rfl⟩ (by omega) (p_1) (by omega) (by omega) (by omega))
theorem M_whole_L {d : Nat} {h : Hp} {r o : Row} (hm : LayM (hS h) (hR h)) {u e : Nat} {a b c : Int32} {s : PS} {n : Nat} (hu : u < 2) (he2 : e ≤ 50) (ihC : PC h r u e a b c n) (ihL : PL h r u e a b c n 5 t1) {v : Int32} {x2 : Option Value} (hd : n + 1 ≤ d) (hp : PO o u e a b c s) (hs : s.1 ≤ e) (h5 : s.2.1 ≤ 5) (hf : 7 * (e - s.1) + 1 + 0 ≤ n + 1) : gG (d + 4) (0) (0) m_X6_whole 5 [some (.ref 66), some (.int v), x2] [] (MH h r o) (RP h r o u e a b c ((P (byV r u e) (namV u a b c) (n + 1) 15 (v) (s)))) := by

  refine r_aload_n 0 dX6_whole_5 rfl rfl rfl ?_
  refine r_geti (k := 14) dX6_whole_6 hm.s66 rfl (by decide) (Or.inl q1430) (Or.inl rfl) rfl ?_
  refine r_eqi (show _ = b2 (s.2.2) from (hp).good) ?_
  refine r_if_eq 57 dX6_whole_9 (by decide) (fun c_9 => ?_) (fun c_9 => ?_)
  · skip
    have n_9 : s.2.2 = false := b2_f c_9
    rw [P_15, if_neg (fun q => by rw [n_9] at q; exact absurd q.1 (by decide))]
    refine r_iload_n 1 dX6_whole_57 rfl rfl ?_
    refine e_iret dX6_whole_58 rfl ?_
    exact ⟨rfl, _, Jo.r, hp, rfl⟩
  · skip
    have n_9 : s.2.2 = true := b2_t c_9
    refine r_aload_n 0 dX6_whole_12 rfl rfl rfl ?_
    refine r_aload_n 0 dX6_whole_13 rfl rfl rfl ?_
    refine r_geti (k := 8) dX6_whole_14 hm.s66 rfl (by decide) (Or.inl q1424) (Or.inl rfl) rfl ?_
    refine r_eqi (show _ = nI (s.1) from (hp).at_) ?_
    refine r_callV_1 dX6_whole_17 kX6_106 (M_byteAt (k := s.1) hm hu he2 (by omega) (hp)) (gRecv.of hm.s66 rfl) rfl rfl (Nat.le_of_ble_eq_true rfl) ?_
    refine r_bipush (v := nI 124) dX6_whole_20 (by decide +kernel) ?_
    refine r_icmp_ne 57 dX6_whole_22 (by decide) (fun c_22 => ?_) (fun c_22 => ?_)
    · skip
      rw [P_15, if_neg (fun q => c_22 q.2)]
      refine r_iload_n 1 dX6_whole_57 rfl rfl ?_
      refine e_iret dX6_whole_58 rfl ?_
      exact ⟨rfl, _, Jo.r, hp, rfl⟩
    · skip
      rw [P_15, if_pos (show s.2.2 = true ∧ byV r u e s.1 = 124 from ⟨n_9, c_22⟩)]
      have hlt : s.1 < e := byV_lt (fun q => by rw [q] at c_22; exact absurd c_22 (by decide))
      refine r_aload_n 0 dX6_whole_25 rfl rfl rfl ?_
      refine r_dup dX6_whole_26 rfl ?_
      refine r_geti (k := 8) dX6_whole_27 hm.s66 rfl (by decide) (Or.inl q1424) (Or.inl rfl) rfl ?_
      refine r_eqi (show _ = nI (s.1) from (hp).at_) ?_
      refine r_iconst (v := nI 1) dX6_whole_30 rfl ?_
      refine r_iadd dX6_whole_31 ?_
      refine r_eqi (show _ = nI (s.1 + 1) from by simp only [pk_mul, nI_add]) ?_
      refine r_puti (k := 8) dX6_whole_32 hm.s66 rfl (by decide) (Or.inl q1424) (Or.inl rfl) (Or.inl rfl) rfl rfl rfl ?_
      refine gG_h (MH_66 _ _ _ _ _) ?_
      refine r_aload_n 0 dX6_whole_35 rfl rfl rfl ?_
      refine r_callV_1p dX6_whole_36 kX6_149 (ihC 4 (d + 3) ((s.1 + 1), s.2) _ (by decide) (by omega) ((hp).setAt (k := (s.1 + 1))) (by first | assumption | (show _ ≤ e; (try dsimp only); omega)) (by first | assumption | (show _ ≤ 5; (try dsimp only); omega)) (by show 7 * (e - _) + 1 + 4 ≤ n; (try dsimp only); omega)) (gRecv.of hm.s66 rfl) rfl rfl (Nat.le_of_ble_eq_true rfl) (fun o_1 j_1 p_1 => ?_)
      have i_1 := P_in (r := r) (u := u) (e := e) (namV_m (u := u) (a := a) (b := b) (c := c)) n 4 0 ((s.1 + 1), s.2) (by first | assumption | (show _ ≤ e; (try dsimp only); omega))
      have u_1 := P_up (by_ := byV r u e) (nam := namV u a b c) n 4 0 ((s.1 + 1), s.2)
      try dsimp only at i_1 u_1
      refine r_istore_n 2 dX6_whole_39 rfl (by decide) rfl ?_
      refine gG_ls (ls' := [_, _, _]) rfl ?_
      refine r_iload_n 1 dX6_whole_40 rfl rfl ?_
      refine r_if_ne 48 dX6_whole_41 (by decide) (fun c_41 => ?_) (fun c_41 => ?_)
      · skip
        refine r_iconst (v := nI 1) dX6_whole_48 rfl ?_
        refine r_goto 53 dX6_whole_49 (by decide) ?_
        refine r_istore_n 1 dX6_whole_53 rfl (by decide) rfl ?_
        refine gG_ls (ls' := [_, _, _]) rfl ?_
        refine r_goto 5 dX6_whole_54 (by decide) ?_
        have e_9 : b2 (decide (¬ v = 0) || decide (¬ (P (byV r u e) (namV u a b c) n 4 (0) ((s.1 + 1, s.2))).1 = 0)) = nI 1 := by first | (rw [decide_eq_false (p := ¬ v = 0) (fun z => z (by assumption))]; rfl) | (rw [decide_eq_true (p := ¬ v = 0) (by assumption)]; rfl) | (rw [decide_eq_true (p := ¬ v = 0) (by assumption), decide_eq_false (p := ¬ (P (byV r u e) (namV u a b c) n 4 (0) ((s.1 + 1, s.2))).1 = 0) (fun z => z (by assumption))]; rfl) | (rw [decide_eq_true (p := ¬ v = 0) (by assumption), decide_eq_true (p := ¬ (P (byV r u e) (namV u a b c) n 4 (0) ((s.1 + 1, s.2))).1 = 0) (by assumption)]; rfl) | (rw [decide_eq_false (p := ¬ v = 0) (fun z => by contradiction), decide_eq_false (p := ¬ (P (byV r u e) (namV u a b c) n 4 (0) ((s.1 + 1, s.2))).1 = 0) (fun z => z (by assumption))]; rfl) | (rw [decide_eq_true (p := ¬ (P (byV r u e) (namV u a b c) n 4 (0) ((s.1 + 1, s.2))).1 = 0) (by assumption), Bool.or_true]; rfl) | (rw [decide_eq_false (p := ¬ (P (byV r u e) (namV u a b c) n 4 (0) ((s.1 + 1, s.2))).1 = 0) (fun z => z (by assumption)), Bool.and_false]; rfl)
        rw [e_9]
        exact gG_mono (fun _ _ q => q.t (((Jo.r).t (Jo.u (by decide))).t j_1)) (ihL (d + 4) _ _ _ _ ⟨_, rfl⟩ (by omega) (p_1) (by omega) (by omega) (by omega))
      · skip
        refine r_iload_n 2 dX6_whole_44 rfl rfl ?_
        refine r_if_eq 52 dX6_whole_45 (by decide) (fun c_45 => ?_) (fun c_45 => ?_)
        · skip
          refine r_iconst (v := nI 0) dX6_whole_52 rfl ?_
          refine r_istore_n 1 dX6_whole_53 rfl (by decide) rfl ?_
          refine gG_ls (ls' := [_, _, _]) rfl ?_
          refine r_goto 5 dX6_whole_54 (by decide) ?_
          have e_9 : b2 (decide (¬ v = 0) || decide (¬ (P (byV r u e) (namV u a b c) n 4 (0) ((s.1 + 1, s.2))).1 = 0)) = nI 0 := by first | (rw [decide_eq_false (p := ¬ v = 0) (fun z => z (by assumption))]; rfl) | (rw [decide_eq_true (p := ¬ v = 0) (by assumption)]; rfl) | (rw [decide_eq_true (p := ¬ v = 0) (by assumption), decide_eq_false (p := ¬ (P (byV r u e) (namV u a b c) n 4 (0) ((s.1 + 1, s.2))).1 = 0) (fun z => z (by assumption))]; rfl) | (rw [decide_eq_true (p := ¬ v = 0) (by assumption), decide_eq_true (p := ¬ (P (byV r u e) (namV u a b c) n 4 (0) ((s.1 + 1, s.2))).1 = 0) (by assumption)]; rfl) | (rw [decide_eq_false (p := ¬ v = 0) (fun z => by contradiction), decide_eq_false (p := ¬ (P (byV r u e) (namV u a b c) n 4 (0) ((s.1 + 1, s.2))).1 = 0) (fun z => z (by assumption))]; rfl) | (rw [decide_eq_true (p := ¬ (P (byV r u e) (namV u a b c) n 4 (0) ((s.1 + 1, s.2))).1 = 0) (by assumption), Bool.or_true]; rfl) | (rw [decide_eq_false (p := ¬ (P (byV r u e) (namV u a b c) n 4 (0) ((s.1 + 1, s.2))).1 = 0) (fun z => z (by assumption)), Bool.and_false]; rfl)
          rw [e_9]
          exact gG_mono (fun _ _ q => q.t (((Jo.r).t (Jo.u (by decide))).t j_1)) (ihL (d + 4) _ _ _ _ ⟨_, rfl⟩ (by omega) (p_1) (by omega) (by omega) (by omega))
        · skip
          refine r_iconst (v := nI 1) dX6_whole_48 rfl ?_
          refine r_goto 53 dX6_whole_49 (by decide) ?_
          refine r_istore_n 1 dX6_whole_53 rfl (by decide) rfl ?_
          refine gG_ls (ls' := [_, _, _]) rfl ?_
          refine r_goto 5 dX6_whole_54 (by decide) ?_
          have e_9 : b2 (decide (¬ v = 0) || decide (¬ (P (byV r u e) (namV u a b c) n 4 (0) ((s.1 + 1, s.2))).1 = 0)) = nI 1 := by first | (rw [decide_eq_false (p := ¬ v = 0) (fun z => z (by assumption))]; rfl) | (rw [decide_eq_true (p := ¬ v = 0) (by assumption)]; rfl) | (rw [decide_eq_true (p := ¬ v = 0) (by assumption), decide_eq_false (p := ¬ (P (byV r u e) (namV u a b c) n 4 (0) ((s.1 + 1, s.2))).1 = 0) (fun z => z (by assumption))]; rfl) | (rw [decide_eq_true (p := ¬ v = 0) (by assumption), decide_eq_true (p := ¬ (P (byV r u e) (namV u a b c) n 4 (0) ((s.1 + 1, s.2))).1 = 0) (by assumption)]; rfl) | (rw [decide_eq_false (p := ¬ v = 0) (fun z => by contradiction), decide_eq_false (p := ¬ (P (byV r u e) (namV u a b c) n 4 (0) ((s.1 + 1, s.2))).1 = 0) (fun z => z (by assumption))]; rfl) | (rw [decide_eq_true (p := ¬ (P (byV r u e) (namV u a b c) n 4 (0) ((s.1 + 1, s.2))).1 = 0) (by assumption), Bool.or_true]; rfl) | (rw [decide_eq_false (p := ¬ (P (byV r u e) (namV u a b c) n 4 (0) ((s.1 + 1, s.2))).1 = 0) (fun z => z (by assumption)), Bool.and_false]; rfl)
          rw [e_9]
          exact gG_mono (fun _ _ q => q.t (((Jo.r).t (Jo.u (by decide))).t j_1)) (ihL (d + 4) _ _ _ _ ⟨_, rfl⟩ (by omega) (p_1) (by omega) (by omega) (by omega))
theorem M_compared {d : Nat} {h : Hp} {r o : Row} (hm : LayM (hS h) (hR h)) {u e : Nat} {a b c : Int32} {s : PS} {n : Nat} (hu : u < 2) (he2 : e ≤ 50) (ihC : PC h r u e a b c n) (hd : n + 1 ≤ d) (hp : PO o u e a b c s) (hs : s.1 ≤ e) (h5 : s.2.1 ≤ 5) (hf : 7 * (e - s.1) + 1 + 3 ≤ n + 1) : gC (d + 4) (0) (0) m_X6_compared [.ref 66] (MH h r o) (RP h r o u e a b c ((P (byV r u e) (namV u a b c) (n + 1) 3 (0) (s)))) := by
  rw [P_3]
  refine gC.of (ls := [some (.ref 66), none, none, none, none]) (by decide +kernel) rfl rfl rfl rfl (Nat.le_of_ble_eq_true rfl) ?_
  refine r_aload_n 0 dX6_compared_0 rfl rfl rfl ?_
  refine r_callV_1p dX6_compared_1 kX6_143 (ihC 2 (d + 3) s _ (by decide) (by omega) (hp) (by first | assumption | (show _ ≤ e; (try dsimp only); omega)) (by first | assumption | (show _ ≤ 5; (try dsimp only); omega)) (by show 7 * (e - _) + 1 + 2 ≤ n; (try dsimp only); omega)) (gRecv.of hm.s66 rfl) rfl rfl (Nat.le_of_ble_eq_true rfl) (fun o_1 j_1 p_1 => ?_)
  have i_1 := P_in (r := r) (u := u) (e := e) (namV_m (u := u) (a := a) (b := b) (c := c)) n 2 0 s (by first | assumption | (show _ ≤ e; (try dsimp only); omega))
  have u_1 := P_up (by_ := byV r u e) (nam := namV u a b c) n 2 0 s
  try dsimp only at i_1 u_1
  refine r_istore_n 1 dX6_compared_4 rfl (by decide) rfl ?_
  refine gG_ls (ls' := [_, _, _, _, _]) rfl ?_
  refine r_aload_n 0 dX6_compared_5 rfl rfl rfl ?_
  refine r_geti (k := 14) dX6_compared_6 hm.s66 rfl (by decide) (Or.inl q1430) (Or.inl rfl) rfl ?_
  refine r_eqi (show _ = b2 ((P (byV r u e) (namV u a b c) n 2 (0) (s)).2.2.2) from (p_1).good) ?_
  refine r_if_eq 23 dX6_compared_9 (by decide) (fun c_9 => ?_) (fun c_9 => ?_)
  · skip
    have n_9 : (P (byV r u e) (namV u a b c) n 2 (0) (s)).2.2.2 = false := b2_f c_9
    refine r_iconst (v := (-1)) dX6_compared_23 (by decide +kernel) ?_
    refine r_istore_n 2 dX6_compared_24 rfl (by decide) rfl ?_
    refine gG_ls (ls' := [_, _, _, _, _]) rfl ?_
    refine r_iload_n 2 dX6_compared_25 rfl rfl ?_
    refine r_bipush (v := nI 60) dX6_compared_26 (by decide +kernel) ?_
    refine r_icmp_eq 45 dX6_compared_28 (by decide) (fun c_28 => ?_) (fun c_28 => ?_)
    · skip
      exact absurd c_28 (by decide)
    · skip
      refine r_iload_n 2 dX6_compared_31 rfl rfl ?_
      refine r_bipush (v := nI 61) dX6_compared_32 (by decide +kernel) ?_
      refine r_icmp_eq 45 dX6_compared_34 (by decide) (fun c_34 => ?_) (fun c_34 => ?_)
      · skip
        exact absurd c_34 (by decide)
      · skip
        refine r_iload_n 2 dX6_compared_37 rfl rfl ?_
        refine r_bipush (v := nI 62) dX6_compared_38 (by decide +kernel) ?_
        refine r_icmp_eq 45 dX6_compared_40 (by decide) (fun c_40 => ?_) (fun c_40 => ?_)
        · skip
          exact absurd c_40 (by decide)
        · skip
          rw [if_neg (show ¬ ((P (byV r u e) (namV u a b c) n 2 (0) (s)).2.2.2 = true ∧ (byV r u e (P (byV r u e) (namV u a b c) n 2 (0) (s)).2.1 = 60 ∨ byV r u e (P (byV r u e) (namV u a b c) n 2 (0) (s)).2.1 = 61 ∨ byV r u e (P (byV r u e) (namV u a b c) n 2 (0) (s)).2.1 = 62)) from fun q => by rw [n_9] at q; exact absurd q.1 (by decide))]
          refine r_iload_n 1 dX6_compared_43 rfl rfl ?_
          refine e_iret dX6_compared_44 rfl ?_
          exact ⟨rfl, _, (Jo.r).t j_1, p_1, rfl⟩
  · skip
    have n_9 : (P (byV r u e) (namV u a b c) n 2 (0) (s)).2.2.2 = true := b2_t c_9
    refine r_aload_n 0 dX6_compared_12 rfl rfl rfl ?_
    refine r_aload_n 0 dX6_compared_13 rfl rfl rfl ?_
    refine r_geti (k := 8) dX6_compared_14 hm.s66 rfl (by decide) (Or.inl q1424) (Or.inl rfl) rfl ?_
    refine r_eqi (show _ = nI ((P (byV r u e) (namV u a b c) n 2 (0) (s)).2.1) from (p_1).at_) ?_
    refine r_callV_1 dX6_compared_17 kX6_106 (M_byteAt (k := (P (byV r u e) (namV u a b c) n 2 (0) (s)).2.1) hm hu he2 (by omega) (p_1)) (gRecv.of hm.s66 rfl) rfl rfl (Nat.le_of_ble_eq_true rfl) ?_
    refine r_goto 24 dX6_compared_20 (by decide) ?_
    refine r_istore_n 2 dX6_compared_24 rfl (by decide) rfl ?_
    refine gG_ls (ls' := [_, _, _, _, _]) rfl ?_
    refine r_iload_n 2 dX6_compared_25 rfl rfl ?_
    refine r_bipush (v := nI 60) dX6_compared_26 (by decide +kernel) ?_
    refine r_icmp_eq 45 dX6_compared_28 (by decide) (fun c_28 => ?_) (fun c_28 => ?_)
    · skip
      rw [if_pos (show (P (byV r u e) (namV u a b c) n 2 (0) (s)).2.2.2 = true ∧ (byV r u e (P (byV r u e) (namV u a b c) n 2 (0) (s)).2.1 = 60 ∨ byV r u e (P (byV r u e) (namV u a b c) n 2 (0) (s)).2.1 = 61 ∨ byV r u e (P (byV r u e) (namV u a b c) n 2 (0) (s)).2.1 = 62) from ⟨n_9, Or.inl c_28⟩)]
      have hlt : (P (byV r u e) (namV u a b c) n 2 (0) (s)).2.1 < e := byV_lt (fun q => by rw [q] at c_28; exact absurd c_28 (by decide))
      refine r_aload_n 0 dX6_compared_45 rfl rfl rfl ?_
      refine r_dup dX6_compared_46 rfl ?_
      refine r_geti (k := 8) dX6_compared_47 hm.s66 rfl (by decide) (Or.inl q1424) (Or.inl rfl) rfl ?_
      refine r_eqi (show _ = nI ((P (byV r u e) (namV u a b c) n 2 (0) (s)).2.1) from (p_1).at_) ?_
      refine r_iconst (v := nI 1) dX6_compared_50 rfl ?_
      refine r_iadd dX6_compared_51 ?_
      refine r_eqi (show _ = nI ((P (byV r u e) (namV u a b c) n 2 (0) (s)).2.1 + 1) from by simp only [pk_mul, nI_add]) ?_
      refine r_puti (k := 8) dX6_compared_52 hm.s66 rfl (by decide) (Or.inl q1424) (Or.inl rfl) (Or.inl rfl) rfl rfl rfl ?_
      refine gG_h (MH_66 _ _ _ _ _) ?_
      refine r_aload_n 0 dX6_compared_55 rfl rfl rfl ?_
      refine r_callV_1p dX6_compared_56 kX6_143 (ihC 2 (d + 3) (((P (byV r u e) (namV u a b c) n 2 (0) (s)).2.1 + 1), (P (byV r u e) (namV u a b c) n 2 (0) (s)).2.2) _ (by decide) (by omega) ((p_1).setAt (k := ((P (byV r u e) (namV u a b c) n 2 (0) (s)).2.1 + 1))) (by first | assumption | (show _ ≤ e; (try dsimp only); omega)) (by first | assumption | (show _ ≤ 5; (try dsimp only); omega)) (by show 7 * (e - _) + 1 + 2 ≤ n; (try dsimp only); omega)) (gRecv.of hm.s66 rfl) rfl rfl (Nat.le_of_ble_eq_true rfl) (fun o_2 j_2 p_2 => ?_)
      have i_2 := P_in (r := r) (u := u) (e := e) (namV_m (u := u) (a := a) (b := b) (c := c)) n 2 0 (((P (byV r u e) (namV u a b c) n 2 (0) (s)).2.1 + 1), (P (byV r u e) (namV u a b c) n 2 (0) (s)).2.2) (by first | assumption | (show _ ≤ e; (try dsimp only); omega))
      have u_2 := P_up (by_ := byV r u e) (nam := namV u a b c) n 2 0 (((P (byV r u e) (namV u a b c) n 2 (0) (s)).2.1 + 1), (P (byV r u e) (namV u a b c) n 2 (0) (s)).2.2)
      try dsimp only at i_2 u_2
      refine r_istore_n 3 dX6_compared_59 rfl (by decide) rfl ?_
      refine gG_ls (ls' := [_, _, _, _, _]) rfl ?_
      refine r_iload_n 2 dX6_compared_60 rfl rfl ?_
      refine r_bipush (v := nI 60) dX6_compared_61 (by decide +kernel) ?_
      refine r_icmp_ne 79 dX6_compared_63 (by decide) (fun c_63 => ?_) (fun c_63 => ?_)
      · skip
        rw [if_neg (show ¬ byV r u e (P (byV r u e) (namV u a b c) n 2 (0) (s)).2.1 = 60 from c_63)]
        refine r_iload_n 2 dX6_compared_79 rfl rfl ?_
        refine r_bipush (v := nI 61) dX6_compared_80 (by decide +kernel) ?_
        refine r_icmp_ne 98 dX6_compared_82 (by decide) (fun c_82 => ?_) (fun c_82 => ?_)
        · skip
          rw [if_neg (show ¬ byV r u e (P (byV r u e) (namV u a b c) n 2 (0) (s)).2.1 = 61 from c_82)]
          refine r_iload_n 1 dX6_compared_98 rfl rfl ?_
          refine r_iload_n 3 dX6_compared_99 rfl rfl ?_
          refine r_icmp_le 107 dX6_compared_100 (by decide) (fun c_100 => ?_) (fun c_100 => ?_)
          · skip
            rw [decide_eq_false (p := (P (byV r u e) (namV u a b c) n 2 (0) (((P (byV r u e) (namV u a b c) n 2 (0) (s)).2.1 + 1, (P (byV r u e) (namV u a b c) n 2 (0) (s)).2.2))).1 < (P (byV r u e) (namV u a b c) n 2 (0) (s)).1) (i_le_nlt c_100)]
            refine r_iconst (v := nI 0) dX6_compared_107 rfl ?_
            refine r_istore dX6_compared_108 (by decide) rfl ?_
            refine gG_ls (ls' := [_, _, _, _, _]) rfl ?_
            refine r_iload dX6_compared_110 rfl ?_
            refine r_if_eq 119 dX6_compared_112 (by decide) (fun c_112 => ?_) (fun c_112 => ?_)
            · skip
              have n_112 : 0 = 0 := n_eq0 (by omega) c_112
              refine r_iconst (v := nI 0) dX6_compared_119 rfl ?_
              refine e_iret dX6_compared_120 rfl ?_
              exact ⟨rfl, _, (((Jo.r).t j_1).t (Jo.u (by decide))).t j_2, p_2, rfl⟩
            · skip
              have n_112 : ¬ 0 = 0 := n_ne0 (by omega) c_112
              exact absurd n_112 (by decide)
          · skip
            rw [decide_eq_true (p := (P (byV r u e) (namV u a b c) n 2 (0) (((P (byV r u e) (namV u a b c) n 2 (0) (s)).2.1 + 1, (P (byV r u e) (namV u a b c) n 2 (0) (s)).2.2))).1 < (P (byV r u e) (namV u a b c) n 2 (0) (s)).1) (i_nle c_100)]
            refine r_iconst (v := nI 1) dX6_compared_103 rfl ?_
            refine r_goto 108 dX6_compared_104 (by decide) ?_
            refine r_istore dX6_compared_108 (by decide) rfl ?_
            refine gG_ls (ls' := [_, _, _, _, _]) rfl ?_
            refine r_iload dX6_compared_110 rfl ?_
            refine r_if_eq 119 dX6_compared_112 (by decide) (fun c_112 => ?_) (fun c_112 => ?_)
            · skip
              have n_112 : 1 = 0 := n_eq0 (by omega) c_112
              exact absurd n_112 (by decide)
            · skip
              have n_112 : ¬ 1 = 0 := n_ne0 (by omega) c_112
              refine r_iconst (v := nI 1) dX6_compared_115 rfl ?_
              refine r_goto 120 dX6_compared_116 (by decide) ?_
              refine e_iret dX6_compared_120 rfl ?_
              exact ⟨rfl, _, (((Jo.r).t j_1).t (Jo.u (by decide))).t j_2, p_2, rfl⟩
        · skip
          rw [if_pos (show byV r u e (P (byV r u e) (namV u a b c) n 2 (0) (s)).2.1 = 61 from c_82)]
          refine r_iload_n 1 dX6_compared_85 rfl rfl ?_
          refine r_iload_n 3 dX6_compared_86 rfl rfl ?_
          refine r_icmp_ne 94 dX6_compared_87 (by decide) (fun c_87 => ?_) (fun c_87 => ?_)
          · skip
            rw [decide_eq_false (p := (P (byV r u e) (namV u a b c) n 2 (0) (s)).1 = (P (byV r u e) (namV u a b c) n 2 (0) (((P (byV r u e) (namV u a b c) n 2 (0) (s)).2.1 + 1, (P (byV r u e) (namV u a b c) n 2 (0) (s)).2.2))).1) c_87]
            refine r_iconst (v := nI 0) dX6_compared_94 rfl ?_
            refine r_goto 108 dX6_compared_95 (by decide) ?_
            refine r_istore dX6_compared_108 (by decide) rfl ?_
            refine gG_ls (ls' := [_, _, _, _, _]) rfl ?_
            refine r_iload dX6_compared_110 rfl ?_
            refine r_if_eq 119 dX6_compared_112 (by decide) (fun c_112 => ?_) (fun c_112 => ?_)
            · skip
              have n_112 : 0 = 0 := n_eq0 (by omega) c_112
              refine r_iconst (v := nI 0) dX6_compared_119 rfl ?_
              refine e_iret dX6_compared_120 rfl ?_
              exact ⟨rfl, _, (((Jo.r).t j_1).t (Jo.u (by decide))).t j_2, p_2, rfl⟩
            · skip
              have n_112 : ¬ 0 = 0 := n_ne0 (by omega) c_112
              exact absurd n_112 (by decide)
          · skip
            rw [decide_eq_true (p := (P (byV r u e) (namV u a b c) n 2 (0) (s)).1 = (P (byV r u e) (namV u a b c) n 2 (0) (((P (byV r u e) (namV u a b c) n 2 (0) (s)).2.1 + 1, (P (byV r u e) (namV u a b c) n 2 (0) (s)).2.2))).1) c_87]
            refine r_iconst (v := nI 1) dX6_compared_90 rfl ?_
            refine r_goto 108 dX6_compared_91 (by decide) ?_
            refine r_istore dX6_compared_108 (by decide) rfl ?_
            refine gG_ls (ls' := [_, _, _, _, _]) rfl ?_
            refine r_iload dX6_compared_110 rfl ?_
            refine r_if_eq 119 dX6_compared_112 (by decide) (fun c_112 => ?_) (fun c_112 => ?_)
            · skip
              have n_112 : 1 = 0 := n_eq0 (by omega) c_112
              exact absurd n_112 (by decide)
            · skip
              have n_112 : ¬ 1 = 0 := n_ne0 (by omega) c_112
              refine r_iconst (v := nI 1) dX6_compared_115 rfl ?_
              refine r_goto 120 dX6_compared_116 (by decide) ?_
              refine e_iret dX6_compared_120 rfl ?_
              exact ⟨rfl, _, (((Jo.r).t j_1).t (Jo.u (by decide))).t j_2, p_2, rfl⟩
      · skip
        rw [if_pos (show byV r u e (P (byV r u e) (namV u a b c) n 2 (0) (s)).2.1 = 60 from c_63)]
        refine r_iload_n 1 dX6_compared_66 rfl rfl ?_
        refine r_iload_n 3 dX6_compared_67 rfl rfl ?_
        refine r_icmp_ge 75 dX6_compared_68 (by decide) (fun c_68 => ?_) (fun c_68 => ?_)
        · skip
          rw [decide_eq_false (p := (P (byV r u e) (namV u a b c) n 2 (0) (s)).1 < (P (byV r u e) (namV u a b c) n 2 (0) (((P (byV r u e) (namV u a b c) n 2 (0) (s)).2.1 + 1, (P (byV r u e) (namV u a b c) n 2 (0) (s)).2.2))).1) (i_le_nlt c_68)]
          refine r_iconst (v := nI 0) dX6_compared_75 rfl ?_
          refine r_goto 108 dX6_compared_76 (by decide) ?_
          refine r_istore dX6_compared_108 (by decide) rfl ?_
          refine gG_ls (ls' := [_, _, _, _, _]) rfl ?_
          refine r_iload dX6_compared_110 rfl ?_
          refine r_if_eq 119 dX6_compared_112 (by decide) (fun c_112 => ?_) (fun c_112 => ?_)
          · skip
            have n_112 : 0 = 0 := n_eq0 (by omega) c_112
            refine r_iconst (v := nI 0) dX6_compared_119 rfl ?_
            refine e_iret dX6_compared_120 rfl ?_
            exact ⟨rfl, _, (((Jo.r).t j_1).t (Jo.u (by decide))).t j_2, p_2, rfl⟩
          · skip
            have n_112 : ¬ 0 = 0 := n_ne0 (by omega) c_112
            exact absurd n_112 (by decide)
        · skip
          rw [decide_eq_true (p := (P (byV r u e) (namV u a b c) n 2 (0) (s)).1 < (P (byV r u e) (namV u a b c) n 2 (0) (((P (byV r u e) (namV u a b c) n 2 (0) (s)).2.1 + 1, (P (byV r u e) (namV u a b c) n 2 (0) (s)).2.2))).1) (i_nle c_68)]
          refine r_iconst (v := nI 1) dX6_compared_71 rfl ?_
          refine r_goto 108 dX6_compared_72 (by decide) ?_
          refine r_istore dX6_compared_108 (by decide) rfl ?_
          refine gG_ls (ls' := [_, _, _, _, _]) rfl ?_
          refine r_iload dX6_compared_110 rfl ?_
          refine r_if_eq 119 dX6_compared_112 (by decide) (fun c_112 => ?_) (fun c_112 => ?_)
          · skip
            have n_112 : 1 = 0 := n_eq0 (by omega) c_112
            exact absurd n_112 (by decide)
          · skip
            have n_112 : ¬ 1 = 0 := n_ne0 (by omega) c_112
            refine r_iconst (v := nI 1) dX6_compared_115 rfl ?_
            refine r_goto 120 dX6_compared_116 (by decide) ?_
            refine e_iret dX6_compared_120 rfl ?_
            exact ⟨rfl, _, (((Jo.r).t j_1).t (Jo.u (by decide))).t j_2, p_2, rfl⟩
    · skip
      refine r_iload_n 2 dX6_compared_31 rfl rfl ?_
      refine r_bipush (v := nI 61) dX6_compared_32 (by decide +kernel) ?_
      refine r_icmp_eq 45 dX6_compared_34 (by decide) (fun c_34 => ?_) (fun c_34 => ?_)
      · skip
        rw [if_pos (show (P (byV r u e) (namV u a b c) n 2 (0) (s)).2.2.2 = true ∧ (byV r u e (P (byV r u e) (namV u a b c) n 2 (0) (s)).2.1 = 60 ∨ byV r u e (P (byV r u e) (namV u a b c) n 2 (0) (s)).2.1 = 61 ∨ byV r u e (P (byV r u e) (namV u a b c) n 2 (0) (s)).2.1 = 62) from ⟨n_9, Or.inr (Or.inl c_34)⟩)]
        have hlt : (P (byV r u e) (namV u a b c) n 2 (0) (s)).2.1 < e := byV_lt (fun q => by rw [q] at c_34; exact absurd c_34 (by decide))
        refine r_aload_n 0 dX6_compared_45 rfl rfl rfl ?_
        refine r_dup dX6_compared_46 rfl ?_
        refine r_geti (k := 8) dX6_compared_47 hm.s66 rfl (by decide) (Or.inl q1424) (Or.inl rfl) rfl ?_
        refine r_eqi (show _ = nI ((P (byV r u e) (namV u a b c) n 2 (0) (s)).2.1) from (p_1).at_) ?_
        refine r_iconst (v := nI 1) dX6_compared_50 rfl ?_
        refine r_iadd dX6_compared_51 ?_
        refine r_eqi (show _ = nI ((P (byV r u e) (namV u a b c) n 2 (0) (s)).2.1 + 1) from by simp only [pk_mul, nI_add]) ?_
        refine r_puti (k := 8) dX6_compared_52 hm.s66 rfl (by decide) (Or.inl q1424) (Or.inl rfl) (Or.inl rfl) rfl rfl rfl ?_
        refine gG_h (MH_66 _ _ _ _ _) ?_
        refine r_aload_n 0 dX6_compared_55 rfl rfl rfl ?_
        refine r_callV_1p dX6_compared_56 kX6_143 (ihC 2 (d + 3) (((P (byV r u e) (namV u a b c) n 2 (0) (s)).2.1 + 1), (P (byV r u e) (namV u a b c) n 2 (0) (s)).2.2) _ (by decide) (by omega) ((p_1).setAt (k := ((P (byV r u e) (namV u a b c) n 2 (0) (s)).2.1 + 1))) (by first | assumption | (show _ ≤ e; (try dsimp only); omega)) (by first | assumption | (show _ ≤ 5; (try dsimp only); omega)) (by show 7 * (e - _) + 1 + 2 ≤ n; (try dsimp only); omega)) (gRecv.of hm.s66 rfl) rfl rfl (Nat.le_of_ble_eq_true rfl) (fun o_3 j_3 p_3 => ?_)
        have i_3 := P_in (r := r) (u := u) (e := e) (namV_m (u := u) (a := a) (b := b) (c := c)) n 2 0 (((P (byV r u e) (namV u a b c) n 2 (0) (s)).2.1 + 1), (P (byV r u e) (namV u a b c) n 2 (0) (s)).2.2) (by first | assumption | (show _ ≤ e; (try dsimp only); omega))
        have u_3 := P_up (by_ := byV r u e) (nam := namV u a b c) n 2 0 (((P (byV r u e) (namV u a b c) n 2 (0) (s)).2.1 + 1), (P (byV r u e) (namV u a b c) n 2 (0) (s)).2.2)
        try dsimp only at i_3 u_3
        refine r_istore_n 3 dX6_compared_59 rfl (by decide) rfl ?_
        refine gG_ls (ls' := [_, _, _, _, _]) rfl ?_
        refine r_iload_n 2 dX6_compared_60 rfl rfl ?_
        refine r_bipush (v := nI 60) dX6_compared_61 (by decide +kernel) ?_
        refine r_icmp_ne 79 dX6_compared_63 (by decide) (fun c_63 => ?_) (fun c_63 => ?_)
        · skip
          rw [if_neg (show ¬ byV r u e (P (byV r u e) (namV u a b c) n 2 (0) (s)).2.1 = 60 from c_63)]
          refine r_iload_n 2 dX6_compared_79 rfl rfl ?_
          refine r_bipush (v := nI 61) dX6_compared_80 (by decide +kernel) ?_
          refine r_icmp_ne 98 dX6_compared_82 (by decide) (fun c_82 => ?_) (fun c_82 => ?_)
          · skip
            rw [if_neg (show ¬ byV r u e (P (byV r u e) (namV u a b c) n 2 (0) (s)).2.1 = 61 from c_82)]
            refine r_iload_n 1 dX6_compared_98 rfl rfl ?_
            refine r_iload_n 3 dX6_compared_99 rfl rfl ?_
            refine r_icmp_le 107 dX6_compared_100 (by decide) (fun c_100 => ?_) (fun c_100 => ?_)
            · skip
              rw [decide_eq_false (p := (P (byV r u e) (namV u a b c) n 2 (0) (((P (byV r u e) (namV u a b c) n 2 (0) (s)).2.1 + 1, (P (byV r u e) (namV u a b c) n 2 (0) (s)).2.2))).1 < (P (byV r u e) (namV u a b c) n 2 (0) (s)).1) (i_le_nlt c_100)]
              refine r_iconst (v := nI 0) dX6_compared_107 rfl ?_
              refine r_istore dX6_compared_108 (by decide) rfl ?_
              refine gG_ls (ls' := [_, _, _, _, _]) rfl ?_
              refine r_iload dX6_compared_110 rfl ?_
              refine r_if_eq 119 dX6_compared_112 (by decide) (fun c_112 => ?_) (fun c_112 => ?_)
              · skip
                have n_112 : 0 = 0 := n_eq0 (by omega) c_112
                refine r_iconst (v := nI 0) dX6_compared_119 rfl ?_
                refine e_iret dX6_compared_120 rfl ?_
                exact ⟨rfl, _, (((Jo.r).t j_1).t (Jo.u (by decide))).t j_3, p_3, rfl⟩
              · skip
                have n_112 : ¬ 0 = 0 := n_ne0 (by omega) c_112
                exact absurd n_112 (by decide)
            · skip
              rw [decide_eq_true (p := (P (byV r u e) (namV u a b c) n 2 (0) (((P (byV r u e) (namV u a b c) n 2 (0) (s)).2.1 + 1, (P (byV r u e) (namV u a b c) n 2 (0) (s)).2.2))).1 < (P (byV r u e) (namV u a b c) n 2 (0) (s)).1) (i_nle c_100)]
              refine r_iconst (v := nI 1) dX6_compared_103 rfl ?_
              refine r_goto 108 dX6_compared_104 (by decide) ?_
              refine r_istore dX6_compared_108 (by decide) rfl ?_
              refine gG_ls (ls' := [_, _, _, _, _]) rfl ?_
              refine r_iload dX6_compared_110 rfl ?_
              refine r_if_eq 119 dX6_compared_112 (by decide) (fun c_112 => ?_) (fun c_112 => ?_)
              · skip
                have n_112 : 1 = 0 := n_eq0 (by omega) c_112
                exact absurd n_112 (by decide)
              · skip
                have n_112 : ¬ 1 = 0 := n_ne0 (by omega) c_112
                refine r_iconst (v := nI 1) dX6_compared_115 rfl ?_
                refine r_goto 120 dX6_compared_116 (by decide) ?_
                refine e_iret dX6_compared_120 rfl ?_
                exact ⟨rfl, _, (((Jo.r).t j_1).t (Jo.u (by decide))).t j_3, p_3, rfl⟩
          · skip
            rw [if_pos (show byV r u e (P (byV r u e) (namV u a b c) n 2 (0) (s)).2.1 = 61 from c_82)]
            refine r_iload_n 1 dX6_compared_85 rfl rfl ?_
            refine r_iload_n 3 dX6_compared_86 rfl rfl ?_
            refine r_icmp_ne 94 dX6_compared_87 (by decide) (fun c_87 => ?_) (fun c_87 => ?_)
            · skip
              rw [decide_eq_false (p := (P (byV r u e) (namV u a b c) n 2 (0) (s)).1 = (P (byV r u e) (namV u a b c) n 2 (0) (((P (byV r u e) (namV u a b c) n 2 (0) (s)).2.1 + 1, (P (byV r u e) (namV u a b c) n 2 (0) (s)).2.2))).1) c_87]
              refine r_iconst (v := nI 0) dX6_compared_94 rfl ?_
              refine r_goto 108 dX6_compared_95 (by decide) ?_
              refine r_istore dX6_compared_108 (by decide) rfl ?_
              refine gG_ls (ls' := [_, _, _, _, _]) rfl ?_
              refine r_iload dX6_compared_110 rfl ?_
              refine r_if_eq 119 dX6_compared_112 (by decide) (fun c_112 => ?_) (fun c_112 => ?_)
              · skip
                have n_112 : 0 = 0 := n_eq0 (by omega) c_112
                refine r_iconst (v := nI 0) dX6_compared_119 rfl ?_
                refine e_iret dX6_compared_120 rfl ?_
                exact ⟨rfl, _, (((Jo.r).t j_1).t (Jo.u (by decide))).t j_3, p_3, rfl⟩
              · skip
                have n_112 : ¬ 0 = 0 := n_ne0 (by omega) c_112
                exact absurd n_112 (by decide)
            · skip
              rw [decide_eq_true (p := (P (byV r u e) (namV u a b c) n 2 (0) (s)).1 = (P (byV r u e) (namV u a b c) n 2 (0) (((P (byV r u e) (namV u a b c) n 2 (0) (s)).2.1 + 1, (P (byV r u e) (namV u a b c) n 2 (0) (s)).2.2))).1) c_87]
              refine r_iconst (v := nI 1) dX6_compared_90 rfl ?_
              refine r_goto 108 dX6_compared_91 (by decide) ?_
              refine r_istore dX6_compared_108 (by decide) rfl ?_
              refine gG_ls (ls' := [_, _, _, _, _]) rfl ?_
              refine r_iload dX6_compared_110 rfl ?_
              refine r_if_eq 119 dX6_compared_112 (by decide) (fun c_112 => ?_) (fun c_112 => ?_)
              · skip
                have n_112 : 1 = 0 := n_eq0 (by omega) c_112
                exact absurd n_112 (by decide)
              · skip
                have n_112 : ¬ 1 = 0 := n_ne0 (by omega) c_112
                refine r_iconst (v := nI 1) dX6_compared_115 rfl ?_
                refine r_goto 120 dX6_compared_116 (by decide) ?_
                refine e_iret dX6_compared_120 rfl ?_
                exact ⟨rfl, _, (((Jo.r).t j_1).t (Jo.u (by decide))).t j_3, p_3, rfl⟩
        · skip
          rw [if_pos (show byV r u e (P (byV r u e) (namV u a b c) n 2 (0) (s)).2.1 = 60 from c_63)]
          refine r_iload_n 1 dX6_compared_66 rfl rfl ?_
          refine r_iload_n 3 dX6_compared_67 rfl rfl ?_
          refine r_icmp_ge 75 dX6_compared_68 (by decide) (fun c_68 => ?_) (fun c_68 => ?_)
          · skip
            rw [decide_eq_false (p := (P (byV r u e) (namV u a b c) n 2 (0) (s)).1 < (P (byV r u e) (namV u a b c) n 2 (0) (((P (byV r u e) (namV u a b c) n 2 (0) (s)).2.1 + 1, (P (byV r u e) (namV u a b c) n 2 (0) (s)).2.2))).1) (i_le_nlt c_68)]
            refine r_iconst (v := nI 0) dX6_compared_75 rfl ?_
            refine r_goto 108 dX6_compared_76 (by decide) ?_
            refine r_istore dX6_compared_108 (by decide) rfl ?_
            refine gG_ls (ls' := [_, _, _, _, _]) rfl ?_
            refine r_iload dX6_compared_110 rfl ?_
            refine r_if_eq 119 dX6_compared_112 (by decide) (fun c_112 => ?_) (fun c_112 => ?_)
            · skip
              have n_112 : 0 = 0 := n_eq0 (by omega) c_112
              refine r_iconst (v := nI 0) dX6_compared_119 rfl ?_
              refine e_iret dX6_compared_120 rfl ?_
              exact ⟨rfl, _, (((Jo.r).t j_1).t (Jo.u (by decide))).t j_3, p_3, rfl⟩
            · skip
              have n_112 : ¬ 0 = 0 := n_ne0 (by omega) c_112
              exact absurd n_112 (by decide)
          · skip
            rw [decide_eq_true (p := (P (byV r u e) (namV u a b c) n 2 (0) (s)).1 < (P (byV r u e) (namV u a b c) n 2 (0) (((P (byV r u e) (namV u a b c) n 2 (0) (s)).2.1 + 1, (P (byV r u e) (namV u a b c) n 2 (0) (s)).2.2))).1) (i_nle c_68)]
            refine r_iconst (v := nI 1) dX6_compared_71 rfl ?_
            refine r_goto 108 dX6_compared_72 (by decide) ?_
            refine r_istore dX6_compared_108 (by decide) rfl ?_
            refine gG_ls (ls' := [_, _, _, _, _]) rfl ?_
            refine r_iload dX6_compared_110 rfl ?_
            refine r_if_eq 119 dX6_compared_112 (by decide) (fun c_112 => ?_) (fun c_112 => ?_)
            · skip
              have n_112 : 1 = 0 := n_eq0 (by omega) c_112
              exact absurd n_112 (by decide)
            · skip
              have n_112 : ¬ 1 = 0 := n_ne0 (by omega) c_112
              refine r_iconst (v := nI 1) dX6_compared_115 rfl ?_
              refine r_goto 120 dX6_compared_116 (by decide) ?_
              refine e_iret dX6_compared_120 rfl ?_
              exact ⟨rfl, _, (((Jo.r).t j_1).t (Jo.u (by decide))).t j_3, p_3, rfl⟩
      · skip
        refine r_iload_n 2 dX6_compared_37 rfl rfl ?_
        refine r_bipush (v := nI 62) dX6_compared_38 (by decide +kernel) ?_
        refine r_icmp_eq 45 dX6_compared_40 (by decide) (fun c_40 => ?_) (fun c_40 => ?_)
        · skip
          rw [if_pos (show (P (byV r u e) (namV u a b c) n 2 (0) (s)).2.2.2 = true ∧ (byV r u e (P (byV r u e) (namV u a b c) n 2 (0) (s)).2.1 = 60 ∨ byV r u e (P (byV r u e) (namV u a b c) n 2 (0) (s)).2.1 = 61 ∨ byV r u e (P (byV r u e) (namV u a b c) n 2 (0) (s)).2.1 = 62) from ⟨n_9, Or.inr (Or.inr c_40)⟩)]
          have hlt : (P (byV r u e) (namV u a b c) n 2 (0) (s)).2.1 < e := byV_lt (fun q => by rw [q] at c_40; exact absurd c_40 (by decide))
          refine r_aload_n 0 dX6_compared_45 rfl rfl rfl ?_
          refine r_dup dX6_compared_46 rfl ?_
          refine r_geti (k := 8) dX6_compared_47 hm.s66 rfl (by decide) (Or.inl q1424) (Or.inl rfl) rfl ?_
          refine r_eqi (show _ = nI ((P (byV r u e) (namV u a b c) n 2 (0) (s)).2.1) from (p_1).at_) ?_
          refine r_iconst (v := nI 1) dX6_compared_50 rfl ?_
          refine r_iadd dX6_compared_51 ?_
          refine r_eqi (show _ = nI ((P (byV r u e) (namV u a b c) n 2 (0) (s)).2.1 + 1) from by simp only [pk_mul, nI_add]) ?_
          refine r_puti (k := 8) dX6_compared_52 hm.s66 rfl (by decide) (Or.inl q1424) (Or.inl rfl) (Or.inl rfl) rfl rfl rfl ?_
          refine gG_h (MH_66 _ _ _ _ _) ?_
          refine r_aload_n 0 dX6_compared_55 rfl rfl rfl ?_
          refine r_callV_1p dX6_compared_56 kX6_143 (ihC 2 (d + 3) (((P (byV r u e) (namV u a b c) n 2 (0) (s)).2.1 + 1), (P (byV r u e) (namV u a b c) n 2 (0) (s)).2.2) _ (by decide) (by omega) ((p_1).setAt (k := ((P (byV r u e) (namV u a b c) n 2 (0) (s)).2.1 + 1))) (by first | assumption | (show _ ≤ e; (try dsimp only); omega)) (by first | assumption | (show _ ≤ 5; (try dsimp only); omega)) (by show 7 * (e - _) + 1 + 2 ≤ n; (try dsimp only); omega)) (gRecv.of hm.s66 rfl) rfl rfl (Nat.le_of_ble_eq_true rfl) (fun o_4 j_4 p_4 => ?_)
          have i_4 := P_in (r := r) (u := u) (e := e) (namV_m (u := u) (a := a) (b := b) (c := c)) n 2 0 (((P (byV r u e) (namV u a b c) n 2 (0) (s)).2.1 + 1), (P (byV r u e) (namV u a b c) n 2 (0) (s)).2.2) (by first | assumption | (show _ ≤ e; (try dsimp only); omega))
          have u_4 := P_up (by_ := byV r u e) (nam := namV u a b c) n 2 0 (((P (byV r u e) (namV u a b c) n 2 (0) (s)).2.1 + 1), (P (byV r u e) (namV u a b c) n 2 (0) (s)).2.2)
          try dsimp only at i_4 u_4
          refine r_istore_n 3 dX6_compared_59 rfl (by decide) rfl ?_
          refine gG_ls (ls' := [_, _, _, _, _]) rfl ?_
          refine r_iload_n 2 dX6_compared_60 rfl rfl ?_
          refine r_bipush (v := nI 60) dX6_compared_61 (by decide +kernel) ?_
          refine r_icmp_ne 79 dX6_compared_63 (by decide) (fun c_63 => ?_) (fun c_63 => ?_)
          · skip
            rw [if_neg (show ¬ byV r u e (P (byV r u e) (namV u a b c) n 2 (0) (s)).2.1 = 60 from c_63)]
            refine r_iload_n 2 dX6_compared_79 rfl rfl ?_
            refine r_bipush (v := nI 61) dX6_compared_80 (by decide +kernel) ?_
            refine r_icmp_ne 98 dX6_compared_82 (by decide) (fun c_82 => ?_) (fun c_82 => ?_)
            · skip
              rw [if_neg (show ¬ byV r u e (P (byV r u e) (namV u a b c) n 2 (0) (s)).2.1 = 61 from c_82)]
              refine r_iload_n 1 dX6_compared_98 rfl rfl ?_
              refine r_iload_n 3 dX6_compared_99 rfl rfl ?_
              refine r_icmp_le 107 dX6_compared_100 (by decide) (fun c_100 => ?_) (fun c_100 => ?_)
              · skip
                rw [decide_eq_false (p := (P (byV r u e) (namV u a b c) n 2 (0) (((P (byV r u e) (namV u a b c) n 2 (0) (s)).2.1 + 1, (P (byV r u e) (namV u a b c) n 2 (0) (s)).2.2))).1 < (P (byV r u e) (namV u a b c) n 2 (0) (s)).1) (i_le_nlt c_100)]
                refine r_iconst (v := nI 0) dX6_compared_107 rfl ?_
                refine r_istore dX6_compared_108 (by decide) rfl ?_
                refine gG_ls (ls' := [_, _, _, _, _]) rfl ?_
                refine r_iload dX6_compared_110 rfl ?_
                refine r_if_eq 119 dX6_compared_112 (by decide) (fun c_112 => ?_) (fun c_112 => ?_)
                · skip
                  have n_112 : 0 = 0 := n_eq0 (by omega) c_112
                  refine r_iconst (v := nI 0) dX6_compared_119 rfl ?_
                  refine e_iret dX6_compared_120 rfl ?_
                  exact ⟨rfl, _, (((Jo.r).t j_1).t (Jo.u (by decide))).t j_4, p_4, rfl⟩
                · skip
                  have n_112 : ¬ 0 = 0 := n_ne0 (by omega) c_112
                  exact absurd n_112 (by decide)
              · skip
                rw [decide_eq_true (p := (P (byV r u e) (namV u a b c) n 2 (0) (((P (byV r u e) (namV u a b c) n 2 (0) (s)).2.1 + 1, (P (byV r u e) (namV u a b c) n 2 (0) (s)).2.2))).1 < (P (byV r u e) (namV u a b c) n 2 (0) (s)).1) (i_nle c_100)]
                refine r_iconst (v := nI 1) dX6_compared_103 rfl ?_
                refine r_goto 108 dX6_compared_104 (by decide) ?_
                refine r_istore dX6_compared_108 (by decide) rfl ?_
                refine gG_ls (ls' := [_, _, _, _, _]) rfl ?_
                refine r_iload dX6_compared_110 rfl ?_
                refine r_if_eq 119 dX6_compared_112 (by decide) (fun c_112 => ?_) (fun c_112 => ?_)
                · skip
                  have n_112 : 1 = 0 := n_eq0 (by omega) c_112
                  exact absurd n_112 (by decide)
                · skip
                  have n_112 : ¬ 1 = 0 := n_ne0 (by omega) c_112
                  refine r_iconst (v := nI 1) dX6_compared_115 rfl ?_
                  refine r_goto 120 dX6_compared_116 (by decide) ?_
                  refine e_iret dX6_compared_120 rfl ?_
                  exact ⟨rfl, _, (((Jo.r).t j_1).t (Jo.u (by decide))).t j_4, p_4, rfl⟩
            · skip
              rw [if_pos (show byV r u e (P (byV r u e) (namV u a b c) n 2 (0) (s)).2.1 = 61 from c_82)]
              refine r_iload_n 1 dX6_compared_85 rfl rfl ?_
              refine r_iload_n 3 dX6_compared_86 rfl rfl ?_
              refine r_icmp_ne 94 dX6_compared_87 (by decide) (fun c_87 => ?_) (fun c_87 => ?_)
              · skip
                rw [decide_eq_false (p := (P (byV r u e) (namV u a b c) n 2 (0) (s)).1 = (P (byV r u e) (namV u a b c) n 2 (0) (((P (byV r u e) (namV u a b c) n 2 (0) (s)).2.1 + 1, (P (byV r u e) (namV u a b c) n 2 (0) (s)).2.2))).1) c_87]
                refine r_iconst (v := nI 0) dX6_compared_94 rfl ?_
                refine r_goto 108 dX6_compared_95 (by decide) ?_
                refine r_istore dX6_compared_108 (by decide) rfl ?_
                refine gG_ls (ls' := [_, _, _, _, _]) rfl ?_
                refine r_iload dX6_compared_110 rfl ?_
                refine r_if_eq 119 dX6_compared_112 (by decide) (fun c_112 => ?_) (fun c_112 => ?_)
                · skip
                  have n_112 : 0 = 0 := n_eq0 (by omega) c_112
                  refine r_iconst (v := nI 0) dX6_compared_119 rfl ?_
                  refine e_iret dX6_compared_120 rfl ?_
                  exact ⟨rfl, _, (((Jo.r).t j_1).t (Jo.u (by decide))).t j_4, p_4, rfl⟩
                · skip
                  have n_112 : ¬ 0 = 0 := n_ne0 (by omega) c_112
                  exact absurd n_112 (by decide)
              · skip
                rw [decide_eq_true (p := (P (byV r u e) (namV u a b c) n 2 (0) (s)).1 = (P (byV r u e) (namV u a b c) n 2 (0) (((P (byV r u e) (namV u a b c) n 2 (0) (s)).2.1 + 1, (P (byV r u e) (namV u a b c) n 2 (0) (s)).2.2))).1) c_87]
                refine r_iconst (v := nI 1) dX6_compared_90 rfl ?_
                refine r_goto 108 dX6_compared_91 (by decide) ?_
                refine r_istore dX6_compared_108 (by decide) rfl ?_
                refine gG_ls (ls' := [_, _, _, _, _]) rfl ?_
                refine r_iload dX6_compared_110 rfl ?_
                refine r_if_eq 119 dX6_compared_112 (by decide) (fun c_112 => ?_) (fun c_112 => ?_)
                · skip
                  have n_112 : 1 = 0 := n_eq0 (by omega) c_112
                  exact absurd n_112 (by decide)
                · skip
                  have n_112 : ¬ 1 = 0 := n_ne0 (by omega) c_112
                  refine r_iconst (v := nI 1) dX6_compared_115 rfl ?_
                  refine r_goto 120 dX6_compared_116 (by decide) ?_
                  refine e_iret dX6_compared_120 rfl ?_
                  exact ⟨rfl, _, (((Jo.r).t j_1).t (Jo.u (by decide))).t j_4, p_4, rfl⟩
          · skip
            rw [if_pos (show byV r u e (P (byV r u e) (namV u a b c) n 2 (0) (s)).2.1 = 60 from c_63)]
            refine r_iload_n 1 dX6_compared_66 rfl rfl ?_
            refine r_iload_n 3 dX6_compared_67 rfl rfl ?_
            refine r_icmp_ge 75 dX6_compared_68 (by decide) (fun c_68 => ?_) (fun c_68 => ?_)
            · skip
              rw [decide_eq_false (p := (P (byV r u e) (namV u a b c) n 2 (0) (s)).1 < (P (byV r u e) (namV u a b c) n 2 (0) (((P (byV r u e) (namV u a b c) n 2 (0) (s)).2.1 + 1, (P (byV r u e) (namV u a b c) n 2 (0) (s)).2.2))).1) (i_le_nlt c_68)]
              refine r_iconst (v := nI 0) dX6_compared_75 rfl ?_
              refine r_goto 108 dX6_compared_76 (by decide) ?_
              refine r_istore dX6_compared_108 (by decide) rfl ?_
              refine gG_ls (ls' := [_, _, _, _, _]) rfl ?_
              refine r_iload dX6_compared_110 rfl ?_
              refine r_if_eq 119 dX6_compared_112 (by decide) (fun c_112 => ?_) (fun c_112 => ?_)
              · skip
                have n_112 : 0 = 0 := n_eq0 (by omega) c_112
                refine r_iconst (v := nI 0) dX6_compared_119 rfl ?_
                refine e_iret dX6_compared_120 rfl ?_
                exact ⟨rfl, _, (((Jo.r).t j_1).t (Jo.u (by decide))).t j_4, p_4, rfl⟩
              · skip
                have n_112 : ¬ 0 = 0 := n_ne0 (by omega) c_112
                exact absurd n_112 (by decide)
            · skip
              rw [decide_eq_true (p := (P (byV r u e) (namV u a b c) n 2 (0) (s)).1 < (P (byV r u e) (namV u a b c) n 2 (0) (((P (byV r u e) (namV u a b c) n 2 (0) (s)).2.1 + 1, (P (byV r u e) (namV u a b c) n 2 (0) (s)).2.2))).1) (i_nle c_68)]
              refine r_iconst (v := nI 1) dX6_compared_71 rfl ?_
              refine r_goto 108 dX6_compared_72 (by decide) ?_
              refine r_istore dX6_compared_108 (by decide) rfl ?_
              refine gG_ls (ls' := [_, _, _, _, _]) rfl ?_
              refine r_iload dX6_compared_110 rfl ?_
              refine r_if_eq 119 dX6_compared_112 (by decide) (fun c_112 => ?_) (fun c_112 => ?_)
              · skip
                have n_112 : 1 = 0 := n_eq0 (by omega) c_112
                exact absurd n_112 (by decide)
              · skip
                have n_112 : ¬ 1 = 0 := n_ne0 (by omega) c_112
                refine r_iconst (v := nI 1) dX6_compared_115 rfl ?_
                refine r_goto 120 dX6_compared_116 (by decide) ?_
                refine e_iret dX6_compared_120 rfl ?_
                exact ⟨rfl, _, (((Jo.r).t j_1).t (Jo.u (by decide))).t j_4, p_4, rfl⟩
        · skip
          rw [if_neg (show ¬ ((P (byV r u e) (namV u a b c) n 2 (0) (s)).2.2.2 = true ∧ (byV r u e (P (byV r u e) (namV u a b c) n 2 (0) (s)).2.1 = 60 ∨ byV r u e (P (byV r u e) (namV u a b c) n 2 (0) (s)).2.1 = 61 ∨ byV r u e (P (byV r u e) (namV u a b c) n 2 (0) (s)).2.1 = 62)) from fun q => by rcases q.2 with q | q | q <;> first | exact c_28 q | exact c_34 q | exact c_40 q)]
          refine r_iload_n 1 dX6_compared_43 rfl rfl ?_
          refine e_iret dX6_compared_44 rfl ?_
          exact ⟨rfl, _, (Jo.r).t j_1, p_1, rfl⟩
theorem M_all {h : Hp} {r : Row} (hm : LayM (hS h) (hR h)) {u e : Nat} {a b c : Int32} (hu : u < 2) (he2 : e ≤ 50) : ∀ n, PC h r u e a b c n ∧ PL h r u e a b c n 1 t2 ∧ PL h r u e a b c n 2 t2 ∧ PL h r u e a b c n 4 t1 ∧ PL h r u e a b c n 5 t1
  | 0 => ⟨fun _ _ _ _ _ _ _ _ _ q => absurd q (by omega), fun _ _ _ _ _ _ _ _ _ _ q => absurd q (by omega), fun _ _ _ _ _ _ _ _ _ _ q => absurd q (by omega), fun _ _ _ _ _ _ _ _ _ _ q => absurd q (by omega), fun _ _ _ _ _ _ _ _ _ _ q => absurd q (by omega)⟩
  | n + 1 => by
    obtain ⟨ihC, i1, i2, i4, i5⟩ := M_all (a := a) (b := b) (c := c) (r := r) hm hu he2 n
    refine ⟨?_, ?_, ?_, ?_, ?_⟩
    · intro lev D s o hl hD hp hs h5 hf
      obtain ⟨d, rfl⟩ : ∃ d, D = d + 4 := ⟨D - 4, by omega⟩
      rcases (show lev = 0 ∨ lev = 1 ∨ lev = 2 ∨ lev = 3 ∨ lev = 4 ∨ lev = 5 by omega) with rfl | rfl | rfl | rfl | rfl | rfl
      · exact M_factor hm hu he2 ihC (by omega) hp hs h5 (by omega)
      · exact M_product hm hu he2 ihC i1 (by omega) hp hs h5 (by omega)
      · exact M_sum hm hu he2 ihC i2 (by omega) hp hs h5 (by omega)
      · exact M_compared hm hu he2 ihC (by omega) hp hs h5 (by omega)
      · exact M_both hm hu he2 ihC i4 (by omega) hp hs h5 (by omega)
      · exact M_whole hm hu he2 ihC i5 (by omega) hp hs h5 (by omega)
    all_goals
      intro D s o v xs hx hD hp hs h5 hf
      obtain ⟨d, rfl⟩ : ∃ d, D = d + 4 := ⟨D - 4, by omega⟩
    · obtain ⟨x, y, rfl⟩ := hx
      exact M_product_L hm hu he2 ihC i1 (by omega) hp hs h5 (by omega)
    · obtain ⟨x, y, rfl⟩ := hx
      exact M_sum_L hm hu he2 ihC i2 (by omega) hp hs h5 (by omega)
    · obtain ⟨x, rfl⟩ := hx
      exact M_both_L hm hu he2 ihC i4 (by omega) hp hs h5 (by omega)
    · obtain ⟨x, rfl⟩ := hx
      exact M_whole_L hm hu he2 ihC i5 (by omega) hp hs h5 (by omega)
theorem M_walks {d : Nat} {h : Hp} {r o : Row} (hm : LayM (hS h) (hR h)) {u e : Nat} {a b c : Int32} (hu : u < 2) (he : r (5 + u) = nI e) (he2 : e ≤ 50) : gC (d + 410) (0) (0) m_X6_walks [.ref 66, .int (nI u), .int a, .int b, .int c] (MH h r o) (fun out h' => out = .inl (some (.int (walkP r u e a b c).1)) ∧ ∃ o', Jo o o' ∧ h' = MH h r o' ∧ o' 8 = nI (walkP r u e a b c).2.1 ∧ o' 14 = b2 ((walkP r u e a b c).2.2.2 && decide ((walkP r u e a b c).2.1 = e))) := by
  refine gC.of (ls := [some (.ref 66), some (.int (nI u)), some (.int a), some (.int b), some (.int c), none]) (by decide +kernel) rfl rfl rfl rfl (Nat.le_of_ble_eq_true rfl) ?_
  refine r_aload_n 0 dX6_walks_0 rfl rfl rfl ?_
  refine r_iload_n 1 dX6_walks_1 rfl rfl ?_
  refine r_puti (k := 7) dX6_walks_2 hm.s66 rfl (by decide) (Or.inl q1423) (Or.inl rfl) (Or.inl rfl) rfl rfl rfl ?_
  refine gG_h (MH_66 _ _ _ _ _) ?_
  refine r_aload_n 0 dX6_walks_5 rfl rfl rfl ?_
  refine r_iconst (v := nI 0) dX6_walks_6 rfl ?_
  refine r_puti (k := 8) dX6_walks_7 hm.s66 rfl (by decide) (Or.inl q1424) (Or.inl rfl) (Or.inl rfl) rfl rfl rfl ?_
  refine gG_h (MH_66 _ _ _ _ _) ?_
  refine r_aload_n 0 dX6_walks_10 rfl rfl rfl ?_
  refine r_aload_n 0 dX6_walks_11 rfl rfl rfl ?_
  refine r_getr (k := 0) (b := 67) dX6_walks_12 hm.s66 rfl (by decide) (Or.inl q1416) (Or.inl rfl) rfl hm.r_row ?_
  refine r_iconst (v := nI 5) dX6_walks_15 rfl ?_
  refine r_iload_n 1 dX6_walks_16 rfl rfl ?_
  refine r_iadd dX6_walks_17 ?_
  refine r_ialdN ((5 + u)) dX6_walks_18 hm.s67 (by simp only [pk_mul, nI_add]) (by omega) (by decide) ?_
  refine r_eqi (show _ = nI (e) from he) ?_
  refine r_puti (k := 9) dX6_walks_19 hm.s66 rfl (by decide) (Or.inl q1425) (Or.inl rfl) (Or.inl rfl) rfl rfl rfl ?_
  refine gG_h (MH_66 _ _ _ _ _) ?_
  refine r_aload_n 0 dX6_walks_22 rfl rfl rfl ?_
  refine r_iconst (v := nI 0) dX6_walks_23 rfl ?_
  refine r_puti (k := 10) dX6_walks_24 hm.s66 rfl (by decide) (Or.inl q1426) (Or.inl rfl) (Or.inl rfl) rfl rfl rfl ?_
  refine gG_h (MH_66 _ _ _ _ _) ?_
  refine r_aload_n 0 dX6_walks_27 rfl rfl rfl ?_
  refine r_iconst (v := nI 1) dX6_walks_28 rfl ?_
  refine r_puti (k := 14) dX6_walks_29 hm.s66 rfl (by decide) (Or.inl q1430) (Or.inl rfl) (Or.inl rfl) rfl rfl rfl ?_
  refine gG_h (MH_66 _ _ _ _ _) ?_
  refine r_aload_n 0 dX6_walks_32 rfl rfl rfl ?_
  refine r_iload_n 2 dX6_walks_33 rfl rfl ?_
  refine r_puti (k := 11) dX6_walks_34 hm.s66 rfl (by decide) (Or.inl q1427) (Or.inl rfl) (Or.inl rfl) rfl rfl rfl ?_
  refine gG_h (MH_66 _ _ _ _ _) ?_
  refine r_aload_n 0 dX6_walks_37 rfl rfl rfl ?_
  refine r_iload_n 3 dX6_walks_38 rfl rfl ?_
  refine r_puti (k := 12) dX6_walks_39 hm.s66 rfl (by decide) (Or.inl q1428) (Or.inl rfl) (Or.inl rfl) rfl rfl rfl ?_
  refine gG_h (MH_66 _ _ _ _ _) ?_
  refine r_aload_n 0 dX6_walks_42 rfl rfl rfl ?_
  refine r_iload dX6_walks_43 rfl ?_
  refine r_puti (k := 13) dX6_walks_45 hm.s66 rfl (by decide) (Or.inl q1429) (Or.inl rfl) (Or.inl rfl) rfl rfl rfl ?_
  refine gG_h (MH_66 _ _ _ _ _) ?_
  refine r_aload_n 0 dX6_walks_48 rfl rfl rfl ?_
  refine r_callV_1p dX6_walks_49 kX6_137 ((M_all hm hu he2 FUEL).1 5 (d + 409) (0, 0, true) _ (by decide) (by show 400 + 4 ≤ d + 409; omega) ⟨rfl, rfl, rfl, rfl, rfl, rfl, rfl, rfl⟩ (Nat.zero_le _) (by decide) (by show 7 * (e - 0) + 1 + 5 ≤ 400; omega)) (gRecv.of hm.s66 rfl) rfl rfl (Nat.le_of_ble_eq_true rfl) (fun o_1 j_1 p_1 => ?_)
  have i_1 : (walkP r u e a b c).2.1 ≤ e := (P_in (r := r) (u := u) (e := e) (namV_m (u := u) (a := a) (b := b) (c := c)) FUEL 5 0 (0, 0, true) (Nat.zero_le _)).1
  refine r_istore dX6_walks_52 (by decide) rfl ?_
  refine gG_ls (ls' := [_, _, _, _, _, _]) rfl ?_
  refine r_aload_n 0 dX6_walks_54 rfl rfl rfl ?_
  refine r_aload_n 0 dX6_walks_55 rfl rfl rfl ?_
  refine r_geti (k := 14) dX6_walks_56 hm.s66 rfl (by decide) (Or.inl q1430) (Or.inl rfl) rfl ?_
  refine r_eqi (show _ = b2 ((walkP r u e a b c).2.2.2) from (p_1).good) ?_
  refine r_if_eq 77 dX6_walks_59 (by decide) (fun c_59 => ?_) (fun c_59 => ?_)
  · skip
    have n_59 : (walkP r u e a b c).2.2.2 = false := b2_f c_59
    refine r_iconst (v := nI 0) dX6_walks_77 rfl ?_
    refine r_puti (k := 14) dX6_walks_78 hm.s66 rfl (by decide) (Or.inl q1430) (Or.inl rfl) (Or.inl rfl) rfl rfl rfl ?_
    refine gG_h (MH_66 _ _ _ _ _) ?_
    refine r_iload dX6_walks_81 rfl ?_
    refine e_iret dX6_walks_83 rfl ?_
    exact ⟨rfl, _, ((((((((((Jo.r).t (Jo.u (by decide))).t (Jo.u (by decide))).t (Jo.u (by decide))).t (Jo.u (by decide))).t (Jo.u (by decide))).t (Jo.u (by decide))).t (Jo.u (by decide))).t (Jo.u (by decide))).t j_1).t (Jo.u (by decide)), rfl, (p_1).at_, by rw [n_59]; rfl⟩
  · skip
    have n_59 : (walkP r u e a b c).2.2.2 = true := b2_t c_59
    refine r_aload_n 0 dX6_walks_62 rfl rfl rfl ?_
    refine r_geti (k := 8) dX6_walks_63 hm.s66 rfl (by decide) (Or.inl q1424) (Or.inl rfl) rfl ?_
    refine r_eqi (show _ = nI ((walkP r u e a b c).2.1) from (p_1).at_) ?_
    refine r_aload_n 0 dX6_walks_66 rfl rfl rfl ?_
    refine r_geti (k := 9) dX6_walks_67 hm.s66 rfl (by decide) (Or.inl q1425) (Or.inl rfl) rfl ?_
    refine r_eqi (show _ = nI (e) from (p_1).fin) ?_
    refine r_icmp_ne 77 dX6_walks_70 (by decide) (fun c_70 => ?_) (fun c_70 => ?_)
    · skip
      have n_70 : ¬ (walkP r u e a b c).2.1 = e := n_ne (by omega) (by omega) c_70
      refine r_iconst (v := nI 0) dX6_walks_77 rfl ?_
      refine r_puti (k := 14) dX6_walks_78 hm.s66 rfl (by decide) (Or.inl q1430) (Or.inl rfl) (Or.inl rfl) rfl rfl rfl ?_
      refine gG_h (MH_66 _ _ _ _ _) ?_
      refine r_iload dX6_walks_81 rfl ?_
      refine e_iret dX6_walks_83 rfl ?_
      exact ⟨rfl, _, ((((((((((Jo.r).t (Jo.u (by decide))).t (Jo.u (by decide))).t (Jo.u (by decide))).t (Jo.u (by decide))).t (Jo.u (by decide))).t (Jo.u (by decide))).t (Jo.u (by decide))).t (Jo.u (by decide))).t j_1).t (Jo.u (by decide)), rfl, (p_1).at_, by rw [n_59, decide_eq_false n_70]; rfl⟩
    · skip
      have n_70 : (walkP r u e a b c).2.1 = e := n_nen (by omega) (by omega) c_70
      refine r_iconst (v := nI 1) dX6_walks_73 rfl ?_
      refine r_goto 78 dX6_walks_74 (by decide) ?_
      refine r_puti (k := 14) dX6_walks_78 hm.s66 rfl (by decide) (Or.inl q1430) (Or.inl rfl) (Or.inl rfl) rfl rfl rfl ?_
      refine gG_h (MH_66 _ _ _ _ _) ?_
      refine r_iload dX6_walks_81 rfl ?_
      refine e_iret dX6_walks_83 rfl ?_
      exact ⟨rfl, _, ((((((((((Jo.r).t (Jo.u (by decide))).t (Jo.u (by decide))).t (Jo.u (by decide))).t (Jo.u (by decide))).t (Jo.u (by decide))).t (Jo.u (by decide))).t (Jo.u (by decide))).t (Jo.u (by decide))).t j_1).t (Jo.u (by decide)), rfl, (p_1).at_, by rw [n_59, decide_eq_true n_70]; rfl⟩
