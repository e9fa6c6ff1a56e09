theorem M_walks' {d : Nat} {h : Hp} {r o : Row} (hm : LayM (hS h) (hR h)) {u e : Nat} {a b c : Int32} (hu : u < 2) (he : r (5 + u) = nI e) (he2 : e ≤ 50) : gC (d + 410) 0 0 m_X6_walks [.ref 66, .int (nI u), .int a, .int b, .int c] (MH h r o) (RM (some (.int (walkP r u e a b c).1)) h r o) := gC_mono (fun out h' q => ⟨q.1, q.2.choose, q.2.choose_spec.1, q.2.choose_spec.2.1⟩) (M_walks hm hu he he2)
theorem lawV_t {r : Row} {u e : Nat} {a b c : Int32} (he : r (5 + u) = nI e) (he2 : e ≤ 50) : lawV r u a b c = heldV (walkP r u e a b c).1 0 1 := by
  unfold lawV
  rw [he, if_pos (nI_pos' (by omega)), nI_clamp (by omega)]
theorem lawV_n {r : Row} {u : Nat} {a b c : Int32} (he : r (5 + u) = -1) : lawV r u a b c = if u = 0 then heldV (irem a 2) 0 1 else if 3 < a then 1 else 0 := by
  unfold lawV
  rw [he, if_neg (by decide)]
theorem M_lawOf_t {d : Nat} {h : Hp} {r o : Row} (hm : LayM (hS h) (hR h)) {u e : Nat} {a b c : Int32} (hu : u < 2) (he : r (5 + u) = nI e) (he2 : e ≤ 50) : gC (d + 411) (0) (0) m_X6_lawOf [.ref 66, .int (nI u), .int a, .int b, .int c] (MH h r o) (RM (some (.int (heldV (walkP r u e a b c).1 0 1))) h (r) (o)) := by
  refine gC.of (ls := [some (.ref 66), some (.int (nI u)), some (.int a), some (.int b), some (.int c)]) (by decide +kernel) rfl rfl rfl rfl (Nat.le_of_ble_eq_true rfl) ?_
  refine r_aload_n 0 dX6_lawOf_0 rfl rfl rfl ?_
  refine r_getr (k := 0) (b := 67) dX6_lawOf_1 hm.s66 rfl (by decide) (Or.inl q1416) (Or.inl rfl) rfl hm.r_row ?_
  refine r_iconst (v := nI 5) dX6_lawOf_4 rfl ?_
  refine r_iload_n 1 dX6_lawOf_5 rfl rfl ?_
  refine r_iadd dX6_lawOf_6 ?_
  refine r_ialdN ((5 + u)) dX6_lawOf_7 hm.s67 (by simp only [pk_mul, nI_add]) (by omega) (by decide) ?_
  refine r_eqi (show _ = nI (e) from he) ?_
  refine r_if_lt 26 dX6_lawOf_8 (by decide) (fun c_8 => ?_) (fun c_8 => ?_)
  · skip
    have n_8 : False := n_lt0 (by omega) c_8
    exact n_8.elim
  · skip
    have n_8 : True := n_lt0n (by omega) c_8
    refine r_aload_n 0 dX6_lawOf_11 rfl rfl rfl ?_
    refine r_iload_n 1 dX6_lawOf_12 rfl rfl ?_
    refine r_iload_n 2 dX6_lawOf_13 rfl rfl ?_
    refine r_iload_n 3 dX6_lawOf_14 rfl rfl ?_
    refine r_iload dX6_lawOf_15 rfl ?_
    refine r_callV_1m dX6_lawOf_17 kX6_152 (M_walks' (u := u) (e := e) hm hu he he2) (gRecv.of hm.s66 rfl) rfl rfl (Nat.le_of_ble_eq_true rfl) (fun o_1 j_1 => ?_)
    refine r_iconst (v := nI 0) dX6_lawOf_20 rfl ?_
    refine r_iconst (v := nI 1) dX6_lawOf_21 rfl ?_
    refine r_callS_1 dX6_lawOf_22 kX6_156 (M_held)  rfl rfl (Nat.le_of_ble_eq_true rfl) ?_
    refine e_iret dX6_lawOf_25 rfl ?_
    exact ⟨rfl, _, (Jo.r).t j_1, rfl⟩
theorem M_lawOf_n {d : Nat} {h : Hp} {r o : Row} (hm : LayM (hS h) (hR h)) {u : Nat} {a b c : Int32} (hu : u < 2) (he : r (5 + u) = -1) : gC (d + 411) (0) (0) m_X6_lawOf [.ref 66, .int (nI u), .int a, .int b, .int c] (MH h r o) (RM (some (.int (if u = 0 then heldV (irem a 2) 0 1 else if 3 < a then 1 else 0))) h (r) (o)) := by
  refine gC.of (ls := [some (.ref 66), some (.int (nI u)), some (.int a), some (.int b), some (.int c)]) (by decide +kernel) rfl rfl rfl rfl (Nat.le_of_ble_eq_true rfl) ?_
  refine r_aload_n 0 dX6_lawOf_0 rfl rfl rfl ?_
  refine r_getr (k := 0) (b := 67) dX6_lawOf_1 hm.s66 rfl (by decide) (Or.inl q1416) (Or.inl rfl) rfl hm.r_row ?_
  refine r_iconst (v := nI 5) dX6_lawOf_4 rfl ?_
  refine r_iload_n 1 dX6_lawOf_5 rfl rfl ?_
  refine r_iadd dX6_lawOf_6 ?_
  refine r_ialdN ((5 + u)) dX6_lawOf_7 hm.s67 (by simp only [pk_mul, nI_add]) (by omega) (by decide) ?_
  refine r_eqi (show _ = (-1) from he) ?_
  refine r_if_lt 26 dX6_lawOf_8 (by decide) (fun c_8 => ?_) (fun c_8 => ?_)
  · skip
    refine r_iload_n 1 dX6_lawOf_26 rfl rfl ?_
    refine r_if_ne 41 dX6_lawOf_27 (by decide) (fun c_27 => ?_) (fun c_27 => ?_)
    · skip
      have n_27 : ¬ u = 0 := n_ne0 (by omega) c_27
      refine r_iload_n 2 dX6_lawOf_41 rfl rfl ?_
      refine r_iconst (v := nI 3) dX6_lawOf_42 rfl ?_
      refine r_icmp_le 50 dX6_lawOf_43 (by decide) (fun c_43 => ?_) (fun c_43 => ?_)
      · skip
        refine r_iconst (v := nI 0) dX6_lawOf_50 rfl ?_
        refine e_iret dX6_lawOf_51 rfl ?_
        exact ⟨by rw [if_neg n_27, if_neg (show ¬ (3 : Int32) < a from i_le_nlt c_43)]; rfl, _, Jo.r, rfl⟩
      · skip
        refine r_iconst (v := nI 1) dX6_lawOf_46 rfl ?_
        refine r_goto 51 dX6_lawOf_47 (by decide) ?_
        refine e_iret dX6_lawOf_51 rfl ?_
        exact ⟨by rw [if_neg n_27, if_pos (show (3 : Int32) < a from i_nle c_43)]; rfl, _, Jo.r, rfl⟩
    · skip
      have n_27 : u = 0 := n_eq0 (by omega) c_27
      refine r_iload_n 2 dX6_lawOf_30 rfl rfl ?_
      refine r_iconst (v := nI 2) dX6_lawOf_31 rfl ?_
      refine r_irem dX6_lawOf_32 (by decide) ?_
      refine r_iconst (v := nI 0) dX6_lawOf_33 rfl ?_
      refine r_iconst (v := nI 1) dX6_lawOf_34 rfl ?_
      refine r_callS_1 dX6_lawOf_35 kX6_156 (M_held)  rfl rfl (Nat.le_of_ble_eq_true rfl) ?_
      refine r_goto 51 dX6_lawOf_38 (by decide) ?_
      refine e_iret dX6_lawOf_51 rfl ?_
      exact ⟨by rw [if_pos n_27]; rfl, _, Jo.r, rfl⟩
  · skip
    exact absurd (by decide) c_8
theorem M_lawOf {d : Nat} {h : Hp} {r o : Row} (hm : LayM (hS h) (hR h)) {u : Nat} {a b c : Int32} (ht : RowT r) (hu : u < 2) : gC (d + 411) 0 0 m_X6_lawOf [.ref 66, .int (nI u), .int a, .int b, .int c] (MH h r o) (RM (some (.int (lawV r u a b c))) h r o) := by
  rcases ht u hu with he | ⟨e, he, he2⟩
  · rw [lawV_n he]
    exact M_lawOf_n hm hu he
  · rw [lawV_t he he2]
    exact M_lawOf_t hm hu he he2
theorem M_isGivenOn {d : Nat} {h : Hp} {r o : Row} (hm : LayM (hS h) (hR h)) {p : Nat} {t w : Int32} (ht : RowT r) (hp : p < 8) : gC (d + 412) (0) (0) m_X6_isGivenOn [.ref 66, .int (nI p), .int t, .int w] (MH h r o) (RM (some (.int (b2 (givenOnB r p t w)))) h (r) (o)) := by
  refine gC.of (ls := [some (.ref 66), some (.int (nI p)), some (.int t), some (.int w)]) (by decide +kernel) rfl rfl rfl rfl (Nat.le_of_ble_eq_true rfl) ?_
  refine r_aload_n 0 dX6_isGivenOn_0 rfl rfl rfl ?_
  refine r_iconst (v := nI 0) dX6_isGivenOn_1 rfl ?_
  refine r_iload_n 2 dX6_isGivenOn_2 rfl rfl ?_
  refine r_iload_n 3 dX6_isGivenOn_3 rfl rfl ?_
  refine r_bipush (v := nI 7) dX6_isGivenOn_4 (by decide +kernel) ?_
  refine r_irem dX6_isGivenOn_6 (by decide) ?_
  refine r_aload_n 0 dX6_isGivenOn_7 rfl rfl rfl ?_
  refine r_iload_n 1 dX6_isGivenOn_8 rfl rfl ?_
  refine r_iconst (v := nI 3) dX6_isGivenOn_9 rfl ?_
  refine r_callV_1 dX6_isGivenOn_10 kX6_75 (M_its (p := p) (w := 3) hm (by omega)) (gRecv.of hm.s66 rfl) rfl rfl (Nat.le_of_ble_eq_true rfl) ?_
  refine r_callV_1m dX6_isGivenOn_13 kX6_160 (M_lawOf (u := 0) hm ht (by decide)) (gRecv.of hm.s66 rfl) rfl rfl (Nat.le_of_ble_eq_true rfl) (fun o_1 j_1 => ?_)
  refine r_if_eq 23 dX6_isGivenOn_16 (by decide) (fun c_16 => ?_) (fun c_16 => ?_)
  · skip
    refine r_iconst (v := nI 0) dX6_isGivenOn_23 rfl ?_
    refine e_zret dX6_isGivenOn_24 rfl (by decide) ?_
    exact ⟨by rw [gOn_f c_16]; rfl, _, (Jo.r).t j_1, rfl⟩
  · skip
    refine r_iconst (v := nI 1) dX6_isGivenOn_19 rfl ?_
    refine r_goto 24 dX6_isGivenOn_20 (by decide) ?_
    refine e_zret dX6_isGivenOn_24 rfl (by decide) ?_
    exact ⟨by rw [gOn_t c_16]; rfl, _, (Jo.r).t j_1, rfl⟩
theorem M_isGiven {d : Nat} {h : Hp} {r o : Row} (hm : LayM (hS h) (hR h)) {p : Nat} (ht : RowT r) (hp : p < 8) : gC (d + 413) (0) (0) m_X6_isGiven [.ref 66, .int (nI p)] (MH h r o) (RM (some (.int (b2 (givenB r p)))) h (r) (o)) := by
  refine gC.of (ls := [some (.ref 66), some (.int (nI p))]) (by decide +kernel) rfl rfl rfl rfl (Nat.le_of_ble_eq_true rfl) ?_
  refine r_aload_n 0 dX6_isGiven_0 rfl rfl rfl ?_
  refine r_iload_n 1 dX6_isGiven_1 rfl rfl ?_
  refine r_aload_n 0 dX6_isGiven_2 rfl rfl rfl ?_
  refine r_iload_n 1 dX6_isGiven_3 rfl rfl ?_
  refine r_iconst (v := nI 2) dX6_isGiven_4 rfl ?_
  refine r_callV_1 dX6_isGiven_5 kX6_75 (M_its (p := p) (w := 2) hm (by omega)) (gRecv.of hm.s66 rfl) rfl rfl (Nat.le_of_ble_eq_true rfl) ?_
  refine r_aload_n 0 dX6_isGiven_8 rfl rfl rfl ?_
  refine r_getr (k := 0) (b := 67) dX6_isGiven_9 hm.s66 rfl (by decide) (Or.inl q1416) (Or.inl rfl) rfl hm.r_row ?_
  refine r_iconst (v := nI 0) dX6_isGiven_12 rfl ?_
  refine r_ialdN (0) dX6_isGiven_13 hm.s67 rfl (by omega) (by decide) ?_
  refine r_callV_1m dX6_isGiven_14 kX6_169 (M_isGivenOn (p := p) hm ht (by omega)) (gRecv.of hm.s66 rfl) rfl rfl (Nat.le_of_ble_eq_true rfl) (fun o_1 j_1 => ?_)
  refine e_zret dX6_isGiven_17 rfl (nar_b2 _) ?_
  exact ⟨rfl, _, (Jo.r).t j_1, rfl⟩
theorem M_lends {d : Nat} {h : Hp} {r o : Row} (hm : LayM (hS h) (hR h)) {p q : Nat} {mn : Int32} (ht : RowT r) (hp : p < 8) (hq : q < 8) (ho : o 15 = mn) : gC (d + 412) (0) (0) m_X6_lends [.ref 66, .int (nI p), .int (nI q)] (MH h r o) (RM (some (.int (b2 (lendsB r mn p q)))) h (r) (o)) := by
  refine gC.of (ls := [some (.ref 66), some (.int (nI p)), some (.int (nI q))]) (by decide +kernel) rfl rfl rfl rfl (Nat.le_of_ble_eq_true rfl) ?_
  refine r_iload_n 1 dX6_lends_0 rfl rfl ?_
  refine r_iload_n 2 dX6_lends_1 rfl rfl ?_
  refine r_icmp_eq 52 dX6_lends_2 (by decide) (fun c_2 => ?_) (fun c_2 => ?_)
  · skip
    have n_2 : p = q := n_eq (by omega) (by omega) c_2
    refine r_iconst (v := nI 0) dX6_lends_52 rfl ?_
    refine e_zret dX6_lends_53 rfl (by decide) ?_
    exact ⟨by rw [show lendsB r mn p q = false from by simp [lendsB, n_2]]; rfl, _, Jo.r, rfl⟩
  · skip
    have n_2 : ¬ p = q := n_eqn (by omega) (by omega) c_2
    refine r_iload_n 1 dX6_lends_5 rfl rfl ?_
    refine r_aload_n 0 dX6_lends_6 rfl rfl rfl ?_
    refine r_geti (k := 15) dX6_lends_7 hm.s66 rfl (by decide) (Or.inl q1431) (Or.inl rfl) rfl ?_
    refine r_eqi (show _ = mn from ho) ?_
    refine r_icmp_eq 52 dX6_lends_10 (by decide) (fun c_10 => ?_) (fun c_10 => ?_)
    · skip
      refine r_iconst (v := nI 0) dX6_lends_52 rfl ?_
      refine e_zret dX6_lends_53 rfl (by decide) ?_
      exact ⟨by rw [show lendsB r mn p q = false from by simp [lendsB, c_10]]; rfl, _, Jo.r, rfl⟩
    · skip
      refine r_aload_n 0 dX6_lends_13 rfl rfl rfl ?_
      refine r_iload_n 1 dX6_lends_14 rfl rfl ?_
      refine r_iconst (v := nI 3) dX6_lends_15 rfl ?_
      refine r_callV_1 dX6_lends_16 kX6_75 (M_its (p := p) (w := 3) hm (by omega)) (gRecv.of hm.s66 rfl) rfl rfl (Nat.le_of_ble_eq_true rfl) ?_
      refine r_if_le 52 dX6_lends_19 (by decide) (fun c_19 => ?_) (fun c_19 => ?_)
      · skip
        refine r_iconst (v := nI 0) dX6_lends_52 rfl ?_
        refine e_zret dX6_lends_53 rfl (by decide) ?_
        exact ⟨by rw [show lendsB r mn p q = false from by simp [lendsB, i_le_nlt c_19]]; rfl, _, Jo.r, rfl⟩
      · skip
        refine r_aload_n 0 dX6_lends_22 rfl rfl rfl ?_
        refine r_iconst (v := nI 1) dX6_lends_23 rfl ?_
        refine r_aload_n 0 dX6_lends_24 rfl rfl rfl ?_
        refine r_iload_n 1 dX6_lends_25 rfl rfl ?_
        refine r_iconst (v := nI 3) dX6_lends_26 rfl ?_
        refine r_callV_1 dX6_lends_27 kX6_75 (M_its (p := p) (w := 3) hm (by omega)) (gRecv.of hm.s66 rfl) rfl rfl (Nat.le_of_ble_eq_true rfl) ?_
        refine r_aload_n 0 dX6_lends_30 rfl rfl rfl ?_
        refine r_iload_n 2 dX6_lends_31 rfl rfl ?_
        refine r_iload_n 1 dX6_lends_32 rfl rfl ?_
        refine r_callV_1 dX6_lends_33 kX6_86 (M_debt (p := q) (w := p) hm (by omega)) (gRecv.of hm.s66 rfl) rfl rfl (Nat.le_of_ble_eq_true rfl) ?_
        refine r_aload_n 0 dX6_lends_36 rfl rfl rfl ?_
        refine r_iload_n 1 dX6_lends_37 rfl rfl ?_
        refine r_iconst (v := nI 1) dX6_lends_38 rfl ?_
        refine r_callV_1 dX6_lends_39 kX6_75 (M_its (p := p) (w := 1) hm (by omega)) (gRecv.of hm.s66 rfl) rfl rfl (Nat.le_of_ble_eq_true rfl) ?_
        refine r_callV_1m dX6_lends_42 kX6_160 (M_lawOf (u := 1) hm ht (by decide)) (gRecv.of hm.s66 rfl) rfl rfl (Nat.le_of_ble_eq_true rfl) (fun o_1 j_1 => ?_)
        refine r_if_eq 52 dX6_lends_45 (by decide) (fun c_45 => ?_) (fun c_45 => ?_)
        · skip
          refine r_iconst (v := nI 0) dX6_lends_52 rfl ?_
          refine e_zret dX6_lends_53 rfl (by decide) ?_
          exact ⟨by rw [show lendsB r mn p q = false from by simp [lendsB, c_45]]; rfl, _, (Jo.r).t j_1, rfl⟩
        · skip
          refine r_iconst (v := nI 1) dX6_lends_48 rfl ?_
          refine r_goto 53 dX6_lends_49 (by decide) ?_
          refine e_zret dX6_lends_53 rfl (by decide) ?_
          exact ⟨by rw [show lendsB r mn p q = true from by simp [lendsB, n_2, c_10, i_nle c_19, c_45]]; rfl, _, (Jo.r).t j_1, rfl⟩
theorem M_begs_L {d : Nat} {h : Hp} (hm : LayM (hS h) (hR h)) {r : Row} {mn : Int32} {p n : Nat} (ht : RowT r) (hp : p < 8) (hn : r 2 = nI n) (hn8 : n ≤ 8) : ∀ (k i : Nat) (o : Row), i ≤ n → n + 1 ≤ i + k → o 15 = mn → gG (d + 413) (0) (0) m_X6_begs 4 [some (.ref 66), some (.int (nI p)), some (.int (frI (bgo r mn p i))), some (.int (nI i))] [] (MH h r o) (RM none h (begR r mn p) o) := by
  intro k
  induction k with
  | zero => exact fun i o h1 h2 _ => absurd h2 (by omega)
  | succ k ih =>
  intro i o hi hk ho
  refine r_iload_n 3 dX6_begs_4 rfl rfl ?_
  refine r_aload_n 0 dX6_begs_5 rfl rfl rfl ?_
  refine r_getr (k := 0) (b := 67) dX6_begs_6 hm.s66 rfl (by decide) (Or.inl q1416) (Or.inl rfl) rfl hm.r_row ?_
  refine r_iconst (v := nI 2) dX6_begs_9 rfl ?_
  refine r_ialdN (2) dX6_begs_10 hm.s67 rfl (by omega) (by decide) ?_
  refine r_eqi (show _ = nI (n) from hn) ?_
  refine r_icmp_ge 50 dX6_begs_11 (by decide) (fun c_11 => ?_) (fun c_11 => ?_)
  · skip
    have n_11 : n ≤ i := n_ge (by omega) (by omega) c_11
    have hin : i = n := by omega
    subst hin
    rcases hb : bgo r mn p i with _ | w
    · skip
      have hfr : frI none = -1 := rfl
      rw [hfr]
      refine r_iload_n 2 dX6_begs_50 rfl rfl ?_
      refine r_if_lt 117 dX6_begs_51 (by decide) (fun c_51 => ?_) (fun c_51 => ?_)
      · skip
        refine e_vret dX6_begs_117 rfl ?_
        exact ⟨rfl, _, Jo.r, by rw [show begR r mn p = r from by unfold begR; rw [np_of hn (by omega), hb]]⟩
      · skip
        exact absurd (by decide) c_51
    · skip
      have hfr : frI (some w) = nI w := rfl
      rw [hfr]
      have hw : w < i := bgo_lt hb
      refine r_iload_n 2 dX6_begs_50 rfl rfl ?_
      refine r_if_lt 117 dX6_begs_51 (by decide) (fun c_51 => ?_) (fun c_51 => ?_)
      · skip
        have n_51 : False := n_lt0 (by omega) c_51
        exact n_51.elim
      · skip
        have n_51 : True := n_lt0n (by omega) c_51
        refine r_aload_n 0 dX6_begs_54 rfl rfl rfl ?_
        refine r_iload_n 2 dX6_begs_55 rfl rfl ?_
        refine r_iconst (v := nI 3) dX6_begs_56 rfl ?_
        refine r_aload_n 0 dX6_begs_57 rfl rfl rfl ?_
        refine r_iload_n 2 dX6_begs_58 rfl rfl ?_
        refine r_iconst (v := nI 3) dX6_begs_59 rfl ?_
        refine r_callV_1 dX6_begs_60 kX6_75 (M_its (p := w) (w := 3) hm (by omega)) (gRecv.of hm.s66 rfl) rfl rfl (Nat.le_of_ble_eq_true rfl) ?_
        refine r_iconst (v := nI 1) dX6_begs_63 rfl ?_
        refine r_isub dX6_begs_64 ?_
        refine r_callV_0 dX6_begs_65 kX6_58 (M_gets (p := w) (w := 3) hm (by omega)) (gRecv.of hm.s66 rfl) rfl rfl (Nat.le_of_ble_eq_true rfl) ?_
        refine r_aload_n 0 dX6_begs_68 rfl rfl rfl ?_
        refine r_iload_n 1 dX6_begs_69 rfl rfl ?_
        refine r_iconst (v := nI 3) dX6_begs_70 rfl ?_
        refine r_aload_n 0 dX6_begs_71 rfl rfl rfl ?_
        refine r_iload_n 1 dX6_begs_72 rfl rfl ?_
        refine r_iconst (v := nI 3) dX6_begs_73 rfl ?_
        refine r_callV_1 dX6_begs_74 kX6_75 (M_its (p := p) (w := 3) hm (by omega)) (gRecv.of hm.s66 rfl) rfl rfl (Nat.le_of_ble_eq_true rfl) ?_
        refine r_iconst (v := nI 1) dX6_begs_77 rfl ?_
        refine r_iadd dX6_begs_78 ?_
        refine r_iconst (v := nI 0) dX6_begs_79 rfl ?_
        refine r_sipush (v := nI 999) dX6_begs_80 (by decide +kernel) ?_
        refine r_callS_1 dX6_begs_83 kX6_156 (M_held)  rfl rfl (Nat.le_of_ble_eq_true rfl) ?_
        refine r_callV_0 dX6_begs_86 kX6_58 (M_gets (p := p) (w := 3) hm (by omega)) (gRecv.of hm.s66 rfl) rfl rfl (Nat.le_of_ble_eq_true rfl) ?_
        refine r_aload_n 0 dX6_begs_89 rfl rfl rfl ?_
        refine r_getr (k := 0) (b := 67) dX6_begs_90 hm.s66 rfl (by decide) (Or.inl q1416) (Or.inl rfl) rfl hm.r_row ?_
        refine r_bipush (v := nI 47) dX6_begs_93 (by decide +kernel) ?_
        refine r_bipush (v := nI 8) dX6_begs_95 (by decide +kernel) ?_
        refine r_iload_n 1 dX6_begs_97 rfl rfl ?_
        refine r_imul dX6_begs_98 ?_
        refine r_iadd dX6_begs_99 ?_
        refine r_eqi (show _ = nI (47 + (8 * p)) from by simp only [pk_mul, nI_add]) ?_
        refine r_iload_n 2 dX6_begs_100 rfl rfl ?_
        refine r_iadd dX6_begs_101 ?_
        refine r_eqi (show _ = nI ((47 + (8 * p)) + w) from by simp only [pk_mul, nI_add]) ?_
        refine r_aload_n 0 dX6_begs_102 rfl rfl rfl ?_
        refine r_iload_n 1 dX6_begs_103 rfl rfl ?_
        refine r_iload_n 2 dX6_begs_104 rfl rfl ?_
        refine r_callV_1 dX6_begs_105 kX6_86 (M_debt (p := p) (w := w) hm (by omega)) (gRecv.of hm.s66 rfl) rfl rfl (Nat.le_of_ble_eq_true rfl) ?_
        refine r_iconst (v := nI 1) dX6_begs_108 rfl ?_
        refine r_iadd dX6_begs_109 ?_
        refine r_iconst (v := nI 0) dX6_begs_110 rfl ?_
        refine r_bipush (v := nI 99) dX6_begs_111 (by decide +kernel) ?_
        refine r_callS_1 dX6_begs_113 kX6_156 (M_held)  rfl rfl (Nat.le_of_ble_eq_true rfl) ?_
        refine r_iastN (((47 + (8 * p)) + w)) dX6_begs_116 hm.s67 rfl (by omega) (by decide) ?_
        refine gG_h (MH_67 _ _ _ _ _) ?_
        refine e_vret dX6_begs_117 rfl ?_
        exact ⟨rfl, _, Jo.r, by rw [show begR r mn p = _ from by unfold begR; rw [np_of hn (by omega), hb]]; rfl⟩
  · skip
    have n_11 : i < n := n_gen (by omega) (by omega) c_11
    refine r_aload_n 0 dX6_begs_14 rfl rfl rfl ?_
    refine r_iload_n 3 dX6_begs_15 rfl rfl ?_
    refine r_iload_n 1 dX6_begs_16 rfl rfl ?_
    refine r_callV_1m dX6_begs_17 kX6_172 (M_lends (p := i) (q := p) (mn := mn) hm ht (by omega) (by omega) ho) (gRecv.of hm.s66 rfl) rfl rfl (Nat.le_of_ble_eq_true rfl) (fun o_1 j_1 => ?_)
    have ho := j_1.2.2.1.trans ho
    refine r_if_eq 44 dX6_begs_20 (by decide) (fun c_20 => ?_) (fun c_20 => ?_)
    · skip
      have n_20 : _ = false := b2_f c_20
      refine r_iinc dX6_begs_44 rfl (by decide) rfl ?_
      refine gG_ls (ls' := [_, _, _, some (.int (nI ((i + 1))))]) (by rw [show (Int32.ofInt 1) = nI 1 from rfl, nI_add]; rfl) ?_
      refine r_goto 4 dX6_begs_47 (by decide) ?_
      refine gG_ls (ls' := [_, _, some (.int (frI (bgo r mn p (i + 1)))), _]) (by rw [bgo_n1 n_20]) ?_
      refine gG_mono (fun out h9 q => ?_) (ih (i + 1) _ (by omega) (by omega) (ho))
      obtain ⟨e1, o9, j9, e2⟩ := q
      exact ⟨e1, o9, ((Jo.r).t j_1).t j9, e2⟩
    · skip
      have n_20 : _ = true := b2_t c_20
      rcases hb : bgo r mn p i with _ | w
      · skip
        have hfr : frI none = -1 := rfl
        rw [hfr]
        refine r_iload_n 2 dX6_begs_23 rfl rfl ?_
        refine r_if_lt 42 dX6_begs_24 (by decide) (fun c_24 => ?_) (fun c_24 => ?_)
        · skip
          refine r_iload_n 3 dX6_begs_42 rfl rfl ?_
          refine r_istore_n 2 dX6_begs_43 rfl (by decide) rfl ?_
          refine gG_ls (ls' := [_, _, _, _]) rfl ?_
          refine r_iinc dX6_begs_44 rfl (by decide) rfl ?_
          refine gG_ls (ls' := [_, _, _, some (.int (nI ((i + 1))))]) (by rw [show (Int32.ofInt 1) = nI 1 from rfl, nI_add]; rfl) ?_
          refine r_goto 4 dX6_begs_47 (by decide) ?_
          refine gG_ls (ls' := [_, _, some (.int (frI (bgo r mn p (i + 1)))), _]) (by rw [bgo_s n_20 (fun w9 h9 => by rw [hb] at h9; cases h9)]; rfl) ?_
          refine gG_mono (fun out h9 q => ?_) (ih (i + 1) _ (by omega) (by omega) (ho))
          obtain ⟨e1, o9, j9, e2⟩ := q
          exact ⟨e1, o9, ((Jo.r).t j_1).t j9, e2⟩
        · skip
          exact absurd (by decide) c_24
      · skip
        have hfr : frI (some w) = nI w := rfl
        rw [hfr]
        have hw : w < n := by have := bgo_lt hb; omega
        refine r_iload_n 2 dX6_begs_23 rfl rfl ?_
        refine r_if_lt 42 dX6_begs_24 (by decide) (fun c_24 => ?_) (fun c_24 => ?_)
        · skip
          have n_24 : False := n_lt0 (by omega) c_24
          exact n_24.elim
        · skip
          have n_24 : True := n_lt0n (by omega) c_24
          refine r_aload_n 0 dX6_begs_27 rfl rfl rfl ?_
          refine r_iload_n 3 dX6_begs_28 rfl rfl ?_
          refine r_iconst (v := nI 3) dX6_begs_29 rfl ?_
          refine r_callV_1 dX6_begs_30 kX6_75 (M_its (p := i) (w := 3) hm (by omega)) (gRecv.of hm.s66 rfl) rfl rfl (Nat.le_of_ble_eq_true rfl) ?_
          refine r_aload_n 0 dX6_begs_33 rfl rfl rfl ?_
          refine r_iload_n 2 dX6_begs_34 rfl rfl ?_
          refine r_iconst (v := nI 3) dX6_begs_35 rfl ?_
          refine r_callV_1 dX6_begs_36 kX6_75 (M_its (p := w) (w := 3) hm (by omega)) (gRecv.of hm.s66 rfl) rfl rfl (Nat.le_of_ble_eq_true rfl) ?_
          refine r_icmp_le 44 dX6_begs_39 (by decide) (fun c_39 => ?_) (fun c_39 => ?_)
          · skip
            refine r_iinc dX6_begs_44 rfl (by decide) rfl ?_
            refine gG_ls (ls' := [_, _, _, some (.int (nI ((i + 1))))]) (by rw [show (Int32.ofInt 1) = nI 1 from rfl, nI_add]; rfl) ?_
            refine r_goto 4 dX6_begs_47 (by decide) ?_
            refine gG_ls (ls' := [_, _, some (.int (frI (bgo r mn p (i + 1)))), _]) (by rw [bgo_n2 hb (i_le_nlt c_39), hb]; rfl) ?_
            refine gG_mono (fun out h9 q => ?_) (ih (i + 1) _ (by omega) (by omega) (ho))
            obtain ⟨e1, o9, j9, e2⟩ := q
            exact ⟨e1, o9, ((Jo.r).t j_1).t j9, e2⟩
          · skip
            refine r_iload_n 3 dX6_begs_42 rfl rfl ?_
            refine r_istore_n 2 dX6_begs_43 rfl (by decide) rfl ?_
            refine gG_ls (ls' := [_, _, _, _]) rfl ?_
            refine r_iinc dX6_begs_44 rfl (by decide) rfl ?_
            refine gG_ls (ls' := [_, _, _, some (.int (nI ((i + 1))))]) (by rw [show (Int32.ofInt 1) = nI 1 from rfl, nI_add]; rfl) ?_
            refine r_goto 4 dX6_begs_47 (by decide) ?_
            refine gG_ls (ls' := [_, _, some (.int (frI (bgo r mn p (i + 1)))), _]) (by rw [bgo_s n_20 (fun w9 h9 => by rw [hb] at h9; cases h9; exact i_nle c_39)]; rfl) ?_
            refine gG_mono (fun out h9 q => ?_) (ih (i + 1) _ (by omega) (by omega) (ho))
            obtain ⟨e1, o9, j9, e2⟩ := q
            exact ⟨e1, o9, ((Jo.r).t j_1).t j9, e2⟩
theorem M_begs {d : Nat} {h : Hp} (hm : LayM (hS h) (hR h)) {r o : Row} {mn : Int32} {p n : Nat} (ht : RowT r) (hp : p < 8) (hn : r 2 = nI n) (hn8 : n ≤ 8) (ho : o 15 = mn) : gC (d + 413) 0 0 m_X6_begs [.ref 66, .int (nI p)] (MH h r o) (RM none h (begR r mn p) o) := by
  refine gC.of (ls := [some (.ref 66), some (.int (nI p)), none, none]) (by decide +kernel) rfl rfl rfl rfl (Nat.le_of_ble_eq_true rfl) ?_
  refine r_iconst (v := (-1)) dX6_begs_0 (by decide +kernel) ?_
  refine r_istore_n 2 dX6_begs_1 rfl (by decide) rfl ?_
  refine r_iconst (v := nI 0) dX6_begs_2 rfl ?_
  refine r_istore_n 3 dX6_begs_3 rfl (by decide) rfl ?_
  exact M_begs_L hm ht hp hn hn8 (n + 1) 0 o (by omega) (by omega) ho
theorem M_oneDay_L2 {d : Nat} {h : Hp} (hm : LayM (hS h) (hR h)) {r : Row} {n : Nat} (hK : RowK r) (hn : r 2 = nI n) (hn8 : n ≤ 8) : ∀ (k i : Nat) (o : Row) (x : Option Value), i ≤ n → n + 1 ≤ i + k → gG (d + 415) (0) (0) m_X6_oneDay 61 [some (.ref 66), some (.int (nI i)), x] [] (MH h (drAll r i) o) (RM none h (ru (drAll r n) 0 (drAll r n 0 + 1)) o) := by
  intro k
  induction k with
  | zero => exact fun i o x h1 h2 => absurd h2 (by omega)
  | succ k ih =>
  intro i o x hi hk1
  have hRS : RS r (drAll r i) := drAll_RS i (by omega)
  refine r_iload_n 1 dX6_oneDay_61 rfl rfl ?_
  refine r_aload_n 0 dX6_oneDay_62 rfl rfl rfl ?_
  refine r_getr (k := 0) (b := 67) dX6_oneDay_63 hm.s66 rfl (by decide) (Or.inl q1416) (Or.inl rfl) rfl hm.r_row ?_
  refine r_iconst (v := nI 2) dX6_oneDay_66 rfl ?_
  refine r_ialdN (2) dX6_oneDay_67 hm.s67 rfl (by omega) (by decide) ?_
  refine r_eqi (show _ = nI (n) from hRS.two.trans hn) ?_
  refine r_icmp_ge 133 dX6_oneDay_68 (by decide) (fun c_68 => ?_) (fun c_68 => ?_)
  · skip
    have n_68 : n ≤ i := n_ge (by omega) (by omega) c_68
    have hin : i = n := by omega
    subst hin
    refine r_aload_n 0 dX6_oneDay_133 rfl rfl rfl ?_
    refine r_getr (k := 0) (b := 67) dX6_oneDay_134 hm.s66 rfl (by decide) (Or.inl q1416) (Or.inl rfl) rfl hm.r_row ?_
    refine r_iconst (v := nI 0) dX6_oneDay_137 rfl ?_
    refine r_dup2 dX6_oneDay_138 rfl rfl ?_
    refine r_ialdN (0) dX6_oneDay_139 hm.s67 rfl (by omega) (by decide) ?_
    refine r_iconst (v := nI 1) dX6_oneDay_140 rfl ?_
    refine r_iadd dX6_oneDay_141 ?_
    refine r_iastN (0) dX6_oneDay_142 hm.s67 rfl (by omega) (by decide) ?_
    refine gG_h (MH_67 _ _ _ _ _) ?_
    refine e_vret dX6_oneDay_143 rfl ?_
    exact ⟨rfl, _, Jo.r, rfl⟩
  · skip
    have n_68 : i < n := n_gen (by omega) (by omega) c_68
    obtain ⟨k9, m9, hk, h7, -, -⟩ := hRS.K hK i (by omega)
    refine r_aload_n 0 dX6_oneDay_71 rfl rfl rfl ?_
    refine r_iload_n 1 dX6_oneDay_72 rfl rfl ?_
    refine r_iconst (v := nI 3) dX6_oneDay_73 rfl ?_
    refine r_callV_1 dX6_oneDay_74 kX6_75 (M_its (p := i) (w := 3) hm (by omega)) (gRecv.of hm.s66 rfl) rfl rfl (Nat.le_of_ble_eq_true rfl) ?_
    refine r_aload_n 0 dX6_oneDay_77 rfl rfl rfl ?_
    refine r_iload_n 1 dX6_oneDay_78 rfl rfl ?_
    refine r_callV_1 dX6_oneDay_79 kX6_69 (M_drinks (p := i) hm (by omega) hk h7) (gRecv.of hm.s66 rfl) rfl rfl (Nat.le_of_ble_eq_true rfl) ?_
    refine r_isub dX6_oneDay_82 ?_
    refine r_istore_n 2 dX6_oneDay_83 rfl (by decide) rfl ?_
    refine gG_ls (ls' := [_, _, _]) rfl ?_
    refine r_aload_n 0 dX6_oneDay_84 rfl rfl rfl ?_
    refine r_iload_n 1 dX6_oneDay_85 rfl rfl ?_
    refine r_iconst (v := nI 3) dX6_oneDay_86 rfl ?_
    refine r_iload_n 2 dX6_oneDay_87 rfl rfl ?_
    refine r_if_ge 95 dX6_oneDay_88 (by decide) (fun c_88 => ?_) (fun c_88 => ?_)
    · skip
      refine r_iload_n 2 dX6_oneDay_95 rfl rfl ?_
      refine r_callV_0 dX6_oneDay_96 kX6_58 (M_gets (p := i) (w := 3) hm (by omega)) (gRecv.of hm.s66 rfl) rfl rfl (Nat.le_of_ble_eq_true rfl) ?_
      refine r_aload_n 0 dX6_oneDay_99 rfl rfl rfl ?_
      refine r_iload_n 1 dX6_oneDay_100 rfl rfl ?_
      refine r_iconst (v := nI 4) dX6_oneDay_101 rfl ?_
      refine r_iload_n 2 dX6_oneDay_102 rfl rfl ?_
      refine r_if_ge 123 dX6_oneDay_103 (by decide) (fun c_103 => ?_) (fun c_103 => ?_)
      · skip
        refine r_iconst (v := nI 0) dX6_oneDay_123 rfl ?_
        refine r_callV_0 dX6_oneDay_124 kX6_58 (M_gets (p := i) (w := 4) hm (by omega)) (gRecv.of hm.s66 rfl) rfl rfl (Nat.le_of_ble_eq_true rfl) ?_
        refine r_iinc dX6_oneDay_127 rfl (by decide) rfl ?_
        refine gG_ls (ls' := [_, some (.int (nI ((i + 1)))), _]) (by rw [show (Int32.ofInt 1) = nI 1 from rfl, nI_add]; rfl) ?_
        refine r_goto 61 dX6_oneDay_130 (by decide) ?_
        refine gG_h (show _ = MH h (drAll r (i + 1)) _ from by rw [show drAll r (i + 1) = drR (drAll r i) i from rfl, drR_2 hk h7 (i_le_nlt c_88)]; rfl) ?_
        refine gG_mono (fun out h9 q => ?_) (ih (i + 1) _ _ (by omega) (by omega))
        obtain ⟨e1, o9, j9, e2⟩ := q
        exact ⟨e1, o9, (Jo.r).t j9, e2⟩
      · skip
        exact absurd c_88 c_103
    · skip
      refine r_iconst (v := nI 0) dX6_oneDay_91 rfl ?_
      refine r_goto 96 dX6_oneDay_92 (by decide) ?_
      refine r_callV_0 dX6_oneDay_96 kX6_58 (M_gets (p := i) (w := 3) hm (by omega)) (gRecv.of hm.s66 rfl) rfl rfl (Nat.le_of_ble_eq_true rfl) ?_
      refine r_aload_n 0 dX6_oneDay_99 rfl rfl rfl ?_
      refine r_iload_n 1 dX6_oneDay_100 rfl rfl ?_
      refine r_iconst (v := nI 4) dX6_oneDay_101 rfl ?_
      refine r_iload_n 2 dX6_oneDay_102 rfl rfl ?_
      refine r_if_ge 123 dX6_oneDay_103 (by decide) (fun c_103 => ?_) (fun c_103 => ?_)
      · skip
        exact absurd c_103 c_88
      · skip
        refine r_aload_n 0 dX6_oneDay_106 rfl rfl rfl ?_
        refine r_iload_n 1 dX6_oneDay_107 rfl rfl ?_
        refine r_iconst (v := nI 4) dX6_oneDay_108 rfl ?_
        refine r_callV_1 dX6_oneDay_109 kX6_75 (M_its (p := i) (w := 4) hm (by omega)) (gRecv.of hm.s66 rfl) rfl rfl (Nat.le_of_ble_eq_true rfl) ?_
        refine r_iload_n 2 dX6_oneDay_112 rfl rfl ?_
        refine r_isub dX6_oneDay_113 ?_
        refine r_iconst (v := nI 0) dX6_oneDay_114 rfl ?_
        refine r_bipush (v := nI 99) dX6_oneDay_115 (by decide +kernel) ?_
        refine r_callS_1 dX6_oneDay_117 kX6_156 (M_held)  rfl rfl (Nat.le_of_ble_eq_true rfl) ?_
        refine r_goto 124 dX6_oneDay_120 (by decide) ?_
        refine r_callV_0 dX6_oneDay_124 kX6_58 (M_gets (p := i) (w := 4) hm (by omega)) (gRecv.of hm.s66 rfl) rfl rfl (Nat.le_of_ble_eq_true rfl) ?_
        refine r_iinc dX6_oneDay_127 rfl (by decide) rfl ?_
        refine gG_ls (ls' := [_, some (.int (nI ((i + 1)))), _]) (by rw [show (Int32.ofInt 1) = nI 1 from rfl, nI_add]; rfl) ?_
        refine r_goto 61 dX6_oneDay_130 (by decide) ?_
        refine gG_h (show _ = MH h (drAll r (i + 1)) _ from by rw [show drAll r (i + 1) = drR (drAll r i) i from rfl, drR_1 hk h7 (i_nle c_88)]; rfl) ?_
        refine gG_mono (fun out h9 q => ?_) (ih (i + 1) _ _ (by omega) (by omega))
        obtain ⟨e1, o9, j9, e2⟩ := q
        exact ⟨e1, o9, (Jo.r).t j9, e2⟩
theorem M_oneDay_L1 {d : Nat} {h : Hp} (hm : LayM (hS h) (hR h)) {r : Row} {mn : Int32} {n : Nat} (ht : RowT r) (hK : RowK r) (hn : r 2 = nI n) (hn8 : n ≤ 8) : ∀ (k i : Nat) (o : Row), i ≤ n → n + 1 ≤ i + k → o 15 = mn → gG (d + 415) (0) (0) m_X6_oneDay 2 [some (.ref 66), some (.int (nI i)), none] [] (MH h (goAll r mn i) o) (RM none h (dayR r mn) o) := by
  intro k
  induction k with
  | zero => exact fun i o h1 h2 _ => absurd h2 (by omega)
  | succ k ih =>
  intro i o hi hk1 ho
  have hnp : np r = n := np_of hn (by omega)
  have hRS : RS r (goAll r mn i) := goAll_RS (by omega) i (by omega)
  refine r_iload_n 1 dX6_oneDay_2 rfl rfl ?_
  refine r_aload_n 0 dX6_oneDay_3 rfl rfl rfl ?_
  refine r_getr (k := 0) (b := 67) dX6_oneDay_4 hm.s66 rfl (by decide) (Or.inl q1416) (Or.inl rfl) rfl hm.r_row ?_
  refine r_iconst (v := nI 2) dX6_oneDay_7 rfl ?_
  refine r_ialdN (2) dX6_oneDay_8 hm.s67 rfl (by omega) (by decide) ?_
  refine r_eqi (show _ = nI (n) from hRS.two.trans hn) ?_
  refine r_icmp_ge 59 dX6_oneDay_9 (by decide) (fun c_9 => ?_) (fun c_9 => ?_)
  · skip
    have n_9 : n ≤ i := n_ge (by omega) (by omega) c_9
    have hin : i = n := by omega
    subst hin
    refine r_iconst (v := nI 0) dX6_oneDay_59 rfl ?_
    refine r_istore_n 1 dX6_oneDay_60 rfl (by decide) rfl ?_
    refine gG_ls (ls' := [_, _, _]) rfl ?_
    rw [show dayR r mn = ru (drAll (goAll r mn i) i) 0 (drAll (goAll r mn i) i 0 + 1) from by unfold dayR; rw [hnp]]
    exact M_oneDay_L2 hm (hRS.K hK) (hRS.two.trans hn) hn8 (i + 1) 0 o _ (by omega) (by omega)
  · skip
    have n_9 : i < n := n_gen (by omega) (by omega) c_9
    obtain ⟨k9, m9, hk, h7, -, -⟩ := hRS.K hK i (by omega)
    refine r_aload_n 0 dX6_oneDay_12 rfl rfl rfl ?_
    refine r_iload_n 1 dX6_oneDay_13 rfl rfl ?_
    refine r_callV_1m dX6_oneDay_14 kX6_72 (M_isGiven (p := i) hm (hRS.T ht) (by omega)) (gRecv.of hm.s66 rfl) rfl rfl (Nat.le_of_ble_eq_true rfl) (fun o_1 j_1 => ?_)
    have ho := j_1.2.2.1.trans ho
    refine r_if_eq 48 dX6_oneDay_17 (by decide) (fun c_17 => ?_) (fun c_17 => ?_)
    · skip
      have n_17 : _ = false := b2_f c_17
      refine r_aload_n 0 dX6_oneDay_48 rfl rfl rfl ?_
      refine r_iload_n 1 dX6_oneDay_49 rfl rfl ?_
      refine r_callV_0m dX6_oneDay_50 kX6_175 (M_begs (p := i) (mn := mn) hm (hRS.T ht) (by omega) (hRS.two.trans hn) hn8 ho) (gRecv.of hm.s66 rfl) rfl rfl (Nat.le_of_ble_eq_true rfl) (fun o_2 j_2 => ?_)
      have ho := j_2.2.2.1.trans ho
      refine r_iinc dX6_oneDay_53 rfl (by decide) rfl ?_
      refine gG_ls (ls' := [_, some (.int (nI ((i + 1)))), _]) (by rw [show (Int32.ofInt 1) = nI 1 from rfl, nI_add]; rfl) ?_
      refine r_goto 2 dX6_oneDay_56 (by decide) ?_
      refine gG_h (show _ = MH h (goAll r mn (i + 1)) _ from by rw [show goAll r mn (i + 1) = goR (goAll r mn i) mn i from rfl, goR_f n_17]) ?_
      refine gG_mono (fun out h9 q => ?_) (ih (i + 1) _ (by omega) (by omega) ho)
      obtain ⟨e1, o9, j9, e2⟩ := q
      exact ⟨e1, o9, (((Jo.r).t j_1).t j_2).t j9, e2⟩
    · skip
      have n_17 : _ = true := b2_t c_17
      refine r_aload_n 0 dX6_oneDay_20 rfl rfl rfl ?_
      refine r_iload_n 1 dX6_oneDay_21 rfl rfl ?_
      refine r_iconst (v := nI 3) dX6_oneDay_22 rfl ?_
      refine r_aload_n 0 dX6_oneDay_23 rfl rfl rfl ?_
      refine r_iload_n 1 dX6_oneDay_24 rfl rfl ?_
      refine r_iconst (v := nI 3) dX6_oneDay_25 rfl ?_
      refine r_callV_1 dX6_oneDay_26 kX6_75 (M_its (p := i) (w := 3) hm (by omega)) (gRecv.of hm.s66 rfl) rfl rfl (Nat.le_of_ble_eq_true rfl) ?_
      refine r_aload_n 0 dX6_oneDay_29 rfl rfl rfl ?_
      refine r_iload_n 1 dX6_oneDay_30 rfl rfl ?_
      refine r_callV_1 dX6_oneDay_31 kX6_66 (M_fills (p := i) hm (by omega) hk h7) (gRecv.of hm.s66 rfl) rfl rfl (Nat.le_of_ble_eq_true rfl) ?_
      refine r_iadd dX6_oneDay_34 ?_
      refine r_iconst (v := nI 0) dX6_oneDay_35 rfl ?_
      refine r_sipush (v := nI 999) dX6_oneDay_36 (by decide +kernel) ?_
      refine r_callS_1 dX6_oneDay_39 kX6_156 (M_held)  rfl rfl (Nat.le_of_ble_eq_true rfl) ?_
      refine r_callV_0 dX6_oneDay_42 kX6_58 (M_gets (p := i) (w := 3) hm (by omega)) (gRecv.of hm.s66 rfl) rfl rfl (Nat.le_of_ble_eq_true rfl) ?_
      refine r_goto 53 dX6_oneDay_45 (by decide) ?_
      refine r_iinc dX6_oneDay_53 rfl (by decide) rfl ?_
      refine gG_ls (ls' := [_, some (.int (nI ((i + 1)))), _]) (by rw [show (Int32.ofInt 1) = nI 1 from rfl, nI_add]; rfl) ?_
      refine r_goto 2 dX6_oneDay_56 (by decide) ?_
      refine gG_h (show _ = MH h (goAll r mn (i + 1)) _ from by rw [show goAll r mn (i + 1) = goR (goAll r mn i) mn i from rfl, goR_t n_17 hk h7]; rfl) ?_
      refine gG_mono (fun out h9 q => ?_) (ih (i + 1) _ (by omega) (by omega) ho)
      obtain ⟨e1, o9, j9, e2⟩ := q
      exact ⟨e1, o9, ((Jo.r).t j_1).t j9, e2⟩
theorem M_oneDay {d : Nat} {h : Hp} (hm : LayM (hS h) (hR h)) {r o : Row} {mn : Int32} {n : Nat} (ht : RowT r) (hK : RowK r) (hn : r 2 = nI n) (hn8 : n ≤ 8) (ho : o 15 = mn) : gC (d + 415) (0) (0) m_X6_oneDay [.ref 66] (MH h r o) (RM none h (dayR r mn) o) := by
  refine gC.of (ls := [some (.ref 66), none, none]) (by decide +kernel) rfl rfl rfl rfl (Nat.le_of_ble_eq_true rfl) ?_
  refine r_iconst (v := nI 0) dX6_oneDay_0 rfl ?_
  refine r_istore_n 1 dX6_oneDay_1 rfl (by decide) rfl ?_
  refine gG_ls (ls' := [_, _, _]) rfl ?_
  exact M_oneDay_L1 hm ht hK hn hn8 (n + 1) 0 o (by omega) (by omega) ho
theorem M_passes_L {d : Nat} {h : Hp} (hm : LayM (hS h) (hR h)) {r : Row} {mn : Int32} {n : Nat} (ht : RowT r) (hK : RowK r) (hn : r 2 = nI n) (hn8 : n ≤ 8) {q : Nat} (hq : q < 2147483648) : ∀ (k i : Nat) (o : Row), i ≤ q → q + 1 ≤ i + k → o 15 = mn → gG (d + 416) (0) (0) m_X6_passes 2 [some (.ref 66), some (.int (nI q)), some (.int (nI i))] [] (MH h (passR r mn i) o) (RM none h (passR r mn q) o) := by
  intro k
  induction k with
  | zero => exact fun i o h1 h2 _ => absurd h2 (by omega)
  | succ k ih =>
  intro i o hi hk1 ho
  have hnp : np r = n := np_of hn (by omega)
  have hRS : RS r (passR r mn i) := passR_RS (by omega) i
  refine r_iload_n 2 dX6_passes_2 rfl rfl ?_
  refine r_iload_n 1 dX6_passes_3 rfl rfl ?_
  refine r_icmp_ge 17 dX6_passes_4 (by decide) (fun c_4 => ?_) (fun c_4 => ?_)
  · skip
    have n_4 : q ≤ i := n_ge (by omega) (by omega) c_4
    have hin : i = q := by omega
    subst hin
    refine e_vret dX6_passes_17 rfl ?_
    exact ⟨rfl, _, Jo.r, rfl⟩
  · skip
    have n_4 : i < q := n_gen (by omega) (by omega) c_4
    refine r_aload_n 0 dX6_passes_7 rfl rfl rfl ?_
    refine r_callV_0m dX6_passes_8 kX6_179 (M_oneDay (mn := mn) hm (hRS.T ht) (hRS.K hK) (hRS.two.trans hn) hn8 ho) (gRecv.of hm.s66 rfl) rfl rfl (Nat.le_of_ble_eq_true rfl) (fun o_1 j_1 => ?_)
    have ho := j_1.2.2.1.trans ho
    refine r_iinc dX6_passes_11 rfl (by decide) rfl ?_
    refine gG_ls (ls' := [_, _, some (.int (nI ((i + 1))))]) (by rw [show (Int32.ofInt 1) = nI 1 from rfl, nI_add]; rfl) ?_
    refine r_goto 2 dX6_passes_14 (by decide) ?_
    refine gG_mono (fun out h9 q => ?_) (ih (i + 1) _ (by omega) (by omega) ho)
    obtain ⟨e1, o9, j9, e2⟩ := q
    exact ⟨e1, o9, ((Jo.r).t j_1).t j9, e2⟩
theorem M_passes {d : Nat} {h : Hp} (hm : LayM (hS h) (hR h)) {r o : Row} {mn : Int32} {n q : Nat} (hq : q < 2147483648) (ht : RowT r) (hK : RowK r) (hn : r 2 = nI n) (hn8 : n ≤ 8) (ho : o 15 = mn) : gC (d + 416) (0) (0) m_X6_passes [.ref 66, .int (nI q)] (MH h r o) (RM none h (passR r mn q) o) := by
  refine gC.of (ls := [some (.ref 66), some (.int (nI q)), none]) (by decide +kernel) rfl rfl rfl rfl (Nat.le_of_ble_eq_true rfl) ?_
  refine r_iconst (v := nI 0) dX6_passes_0 rfl ?_
  refine r_istore_n 2 dX6_passes_1 rfl (by decide) rfl ?_
  refine gG_ls (ls' := [_, _, _]) rfl ?_
  exact M_passes_L hm ht hK hn hn8 hq (q + 1) 0 o (by omega) (by omega) ho
