theorem kX11_29 : gSX RX11 "WellRefuses$Saint" 29 m_X7_tells 1 := ⟨q1260, q1261, q422, q392, q1248, q92, q1250, rfl, by decide, by decide +kernel, by decide +kernel⟩
theorem kX13_43 : gSX RX13 "WellRefuses$Stranger" 43 m_X7_tells 1 := ⟨q1289, q1290, q442, q412, q1248, q92, q1250, rfl, by decide, by decide +kernel, by decide +kernel⟩
theorem V_begins {d : Nat} {h : Hp} (hx : LayX (hS h) (hR h)) {t : TR} (ht : t.2 ≤ 40) {b : Int32} : gC (d) (0) (0) m_X4_begins [.ref 56, .int b] (XV h t) (Ret none (XV h (ranT t b))) := by
  refine gC.of (ls := [some (.ref 56), some (.int b)]) (by decide +kernel) rfl rfl rfl rfl (Nat.le_of_ble_eq_true rfl) ?_
  refine r_aload_n 0 dX4_begins_0 rfl rfl rfl ?_
  refine r_geti (k := 1) dX4_begins_1 hx.s56 rfl (by decide) (Or.inl q286) (Or.inl rfl) rfl ?_
  refine r_eqi (show _ = nI (t.2) from XV_56) ?_
  refine r_bipush (v := nI 40) dX4_begins_4 (by decide +kernel) ?_
  refine r_icmp_ge 29 dX4_begins_6 (by decide) (fun c_6 => ?_) (fun c_6 => ?_)
  · skip
    have n_6 : 40 ≤ t.2 := n_ge (by omega) (by omega) c_6
    refine e_vret dX4_begins_29 rfl ?_
    exact ⟨rfl, by rw [show ranT t b = t from if_neg (by omega)]⟩
  · skip
    have n_6 : t.2 < 40 := n_gen (by omega) (by omega) c_6
    refine r_aload_n 0 dX4_begins_9 rfl rfl rfl ?_
    refine r_getr (k := 0) (b := 57) dX4_begins_10 hx.s56 rfl (by decide) (Or.inl q284) (Or.inl rfl) rfl hx.r_ran ?_
    refine r_aload_n 0 dX4_begins_13 rfl rfl rfl ?_
    refine r_geti (k := 1) dX4_begins_14 hx.s56 rfl (by decide) (Or.inl q286) (Or.inl rfl) rfl ?_
    refine r_eqi (show _ = nI (t.2) from XV_56) ?_
    refine r_iload_n 1 dX4_begins_17 rfl rfl ?_
    refine r_iastN (t.2) dX4_begins_18 hx.s57 rfl (by omega) (by decide) ?_
    refine r_aload_n 0 dX4_begins_19 rfl rfl rfl ?_
    refine r_dup dX4_begins_20 rfl ?_
    refine r_geti (k := 1) dX4_begins_21 hx.s56 rfl (by decide) (Or.inl q286) (Or.inl rfl) rfl ?_
    refine r_eqi (show _ = nI (t.2) from (show hI (wI (XV h t) 57 t.2 b) 56 1 = nI t.2 from by rw [wI_bI, bI_n (by decide)]; exact XV_56)) ?_
    refine r_iconst (v := nI 1) dX4_begins_24 rfl ?_
    refine r_iadd dX4_begins_25 ?_
    refine r_eqi (show _ = nI ((t.2 + 1)) from (by simp only [nI_add])) ?_
    refine r_puti (k := 1) dX4_begins_26 hx.s56 rfl (by decide) (Or.inl q286) (Or.inl rfl) (Or.inl rfl) rfl rfl rfl ?_
    refine e_vret dX4_begins_29 rfl ?_
    exact ⟨rfl, XV_ran (by omega)⟩
theorem V_X7_lets_0 {d : Nat} {h : Hp} (hx : LayX (hS h) (hR h)) {a p : Nat} {m : Int32} (pa : PAt h a p 0 m) {t : TR} (ht : t.2 ≤ 40) {x : Int32} : gC (d + 1) (0) (0) m_X7_lets [.ref a, .int x] (XV h t) (Ret (some (.int ((x + nI p, ranT t (nI 10))).1)) (XV h ((x + nI p, ranT t (nI 10))).2)) := by
  refine gC.of (ls := [some (.ref a), some (.int x)]) (by decide +kernel) rfl rfl rfl rfl (Nat.le_of_ble_eq_true rfl) ?_
  refine r_aload_n 0 dX7_lets_0 rfl rfl rfl ?_
  refine r_getr (k := 0) (b := 56) dX7_lets_1 pa.2.2.1 rfl (by decide) (Or.inl q363) (Or.inl rfl) rfl pa.2.2.2.2.1 ?_
  refine r_bipush (v := nI 10) dX7_lets_4 (by decide +kernel) ?_
  refine r_callV_0 dX7_lets_6 kX7_22 (V_begins hx ht) (gRecv.of hx.s56 rfl) rfl rfl (Nat.le_of_ble_eq_true rfl) ?_
  refine r_iload_n 1 dX7_lets_9 rfl rfl ?_
  refine r_aload_n 0 dX7_lets_10 rfl rfl rfl ?_
  refine r_geti (k := 1) dX7_lets_11 pa.2.2.1 rfl (by decide) (Or.inl q376) (Or.inl rfl) rfl ?_
  refine r_eqi (show _ = nI (p) from ((congrFun (XV_far (by have := pa.1; omega) (by have := pa.1; omega)) 1).trans pa.2.2.2.2.2.1)) ?_
  refine r_iadd dX7_lets_14 ?_
  refine e_iret dX7_lets_15 rfl ?_
  exact ⟨rfl, rfl⟩
theorem V_X7_lends_0 {d : Nat} {h : Hp} (hx : LayX (hS h) (hR h)) {a p : Nat} {m : Int32} (pa : PAt h a p 0 m) {t : TR} (ht : t.2 ≤ 40) {x : Int32} : gC (d + 1) (0) (0) m_X7_lends [.ref a, .int x] (XV h t) (Ret (some (.int ((x - m, ranT t (nI 12))).1)) (XV h ((x - m, ranT t (nI 12))).2)) := by
  refine gC.of (ls := [some (.ref a), some (.int x)]) (by decide +kernel) rfl rfl rfl rfl (Nat.le_of_ble_eq_true rfl) ?_
  refine r_aload_n 0 dX7_lends_0 rfl rfl rfl ?_
  refine r_getr (k := 0) (b := 56) dX7_lends_1 pa.2.2.1 rfl (by decide) (Or.inl q363) (Or.inl rfl) rfl pa.2.2.2.2.1 ?_
  refine r_bipush (v := nI 12) dX7_lends_4 (by decide +kernel) ?_
  refine r_callV_0 dX7_lends_6 kX7_22 (V_begins hx ht) (gRecv.of hx.s56 rfl) rfl rfl (Nat.le_of_ble_eq_true rfl) ?_
  refine r_iload_n 1 dX7_lends_9 rfl rfl ?_
  refine r_aload_n 0 dX7_lends_10 rfl rfl rfl ?_
  refine r_geti (k := 2) dX7_lends_11 pa.2.2.1 rfl (by decide) (Or.inl q379) (Or.inl rfl) rfl ?_
  refine r_eqi (show _ = m from ((congrFun (XV_far (by have := pa.1; omega) (by have := pa.1; omega)) 2).trans pa.2.2.2.2.2.2)) ?_
  refine r_isub dX7_lends_14 ?_
  refine e_iret dX7_lends_15 rfl ?_
  exact ⟨rfl, rfl⟩
theorem V_X7_fills_0 {d : Nat} {h : Hp} (hx : LayX (hS h) (hR h)) {a p : Nat} {m : Int32} (pa : PAt h a p 0 m) {t : TR} (ht : t.2 ≤ 40) {x : Int32} : gC (d + 3) (0) (0) m_X7_fills [.ref a, .int x] (XV h t) (Ret (some (.int (fills0V 0 (nI p) x t).1)) (XV h (fills0V 0 (nI p) x t).2)) := by
  refine gC.of (ls := [some (.ref a), some (.int x)]) (by decide +kernel) rfl rfl rfl rfl (Nat.le_of_ble_eq_true rfl) ?_
  refine r_aload_n 0 dX7_fills_0 rfl rfl rfl ?_
  refine r_getr (k := 0) (b := 56) dX7_fills_1 pa.2.2.1 rfl (by decide) (Or.inl q363) (Or.inl rfl) rfl pa.2.2.2.2.1 ?_
  refine r_bipush (v := nI 11) dX7_fills_4 (by decide +kernel) ?_
  refine r_callV_0 dX7_fills_6 kX7_22 (V_begins hx ht) (gRecv.of hx.s56 rfl) rfl rfl (Nat.le_of_ble_eq_true rfl) ?_
  refine r_aload_n 0 dX7_fills_9 rfl rfl rfl ?_
  refine r_iload_n 1 dX7_fills_10 rfl rfl ?_
  refine r_callV_1 dX7_fills_11 kX7_28_X7 (V_X7_lets_0 hx pa (ranT_le ht)) (gRecv.of pa.2.2.1 rfl) rfl rfl (Nat.le_of_ble_eq_true rfl) ?_
  refine r_iconst (v := nI 2) dX7_fills_14 rfl ?_
  refine r_imul dX7_fills_15 ?_
  refine e_iret dX7_fills_16 rfl ?_
  exact ⟨rfl, rfl⟩
theorem V_X7_tells_0 {d : Nat} {h : Hp} (hx : LayX (hS h) (hR h)) {a p : Nat} {m : Int32} (pa : PAt h a p 0 m) {t : TR} (ht : t.2 ≤ 40) {x : Int32} : gC (d + 6) (0) (0) m_X7_tells [.ref a, .int x] (XV h t) (Ret (some (.int (tells0V 0 (nI p) m x t).1)) (XV h (tells0V 0 (nI p) m x t).2)) := by
  refine gC.of (ls := [some (.ref a), some (.int x), none]) (by decide +kernel) rfl rfl rfl rfl (Nat.le_of_ble_eq_true rfl) ?_
  refine r_aload_n 0 dX7_tells_0 rfl rfl rfl ?_
  refine r_getr (k := 0) (b := 56) dX7_tells_1 pa.2.2.1 rfl (by decide) (Or.inl q363) (Or.inl rfl) rfl pa.2.2.2.2.1 ?_
  refine r_bipush (v := nI 13) dX7_tells_4 (by decide +kernel) ?_
  refine r_callV_0 dX7_tells_6 kX7_22 (V_begins hx ht) (gRecv.of hx.s56 rfl) rfl rfl (Nat.le_of_ble_eq_true rfl) ?_
  refine r_aload_n 0 dX7_tells_9 rfl rfl rfl ?_
  refine r_iload_n 1 dX7_tells_10 rfl rfl ?_
  refine r_callV_1 dX7_tells_11 kX7_32_X7 (V_X7_fills_0 hx pa (ranT_le ht)) (gRecv.of pa.2.2.1 rfl) rfl rfl (Nat.le_of_ble_eq_true rfl) ?_
  refine r_istore_n 2 dX7_tells_14 rfl (by decide) rfl ?_
  refine gG_ls (ls' := [_, _, _]) rfl ?_
  refine r_iload_n 2 dX7_tells_15 rfl rfl ?_
  refine r_aload_n 0 dX7_tells_16 rfl rfl rfl ?_
  refine r_iload_n 1 dX7_tells_17 rfl rfl ?_
  refine r_callV_1 dX7_tells_18 kX7_35_X7 (V_X7_lends_0 hx pa (fills0V_le (ranT_le ht))) (gRecv.of pa.2.2.1 rfl) rfl rfl (Nat.le_of_ble_eq_true rfl) ?_
  refine r_ixor dX7_tells_21 ?_
  refine e_iret dX7_tells_22 rfl ?_
  exact ⟨rfl, rfl⟩
theorem V_X7_lets_1 {d : Nat} {h : Hp} (hx : LayX (hS h) (hR h)) {a p : Nat} {m : Int32} (pa : PAt h a p 1 m) {t : TR} (ht : t.2 ≤ 40) {x : Int32} : gC (d + 1) (0) (0) m_X7_lets [.ref a, .int x] (XV h t) (Ret (some (.int ((x + nI p, ranT t (nI 10))).1)) (XV h ((x + nI p, ranT t (nI 10))).2)) := by
  refine gC.of (ls := [some (.ref a), some (.int x)]) (by decide +kernel) rfl rfl rfl rfl (Nat.le_of_ble_eq_true rfl) ?_
  refine r_aload_n 0 dX7_lets_0 rfl rfl rfl ?_
  refine r_getr (k := 0) (b := 56) dX7_lets_1 pa.2.2.1 rfl (by decide) (Or.inl q363) (Or.inl rfl) rfl pa.2.2.2.2.1 ?_
  refine r_bipush (v := nI 10) dX7_lets_4 (by decide +kernel) ?_
  refine r_callV_0 dX7_lets_6 kX7_22 (V_begins hx ht) (gRecv.of hx.s56 rfl) rfl rfl (Nat.le_of_ble_eq_true rfl) ?_
  refine r_iload_n 1 dX7_lets_9 rfl rfl ?_
  refine r_aload_n 0 dX7_lets_10 rfl rfl rfl ?_
  refine r_geti (k := 1) dX7_lets_11 pa.2.2.1 rfl (by decide) (Or.inl q376) (Or.inl rfl) rfl ?_
  refine r_eqi (show _ = nI (p) from ((congrFun (XV_far (by have := pa.1; omega) (by have := pa.1; omega)) 1).trans pa.2.2.2.2.2.1)) ?_
  refine r_iadd dX7_lets_14 ?_
  refine e_iret dX7_lets_15 rfl ?_
  exact ⟨rfl, rfl⟩
theorem V_X8_lets_1 {d : Nat} {h : Hp} (hx : LayX (hS h) (hR h)) {a p : Nat} {m : Int32} (pa : PAt h a p 1 m) {t : TR} (ht : t.2 ≤ 40) {x : Int32} : gC (d + 2) (0) (0) m_X8_lets [.ref a, .int x] (XV h t) (Ret (some (.int (letsV 1 (nI p) x t).1)) (XV h (letsV 1 (nI p) x t).2)) := by
  refine gC.of (ls := [some (.ref a), some (.int x)]) (by decide +kernel) rfl rfl rfl rfl (Nat.le_of_ble_eq_true rfl) ?_
  refine r_aload_n 0 dX8_lets_0 rfl rfl rfl ?_
  refine r_getr (k := 0) (b := 56) dX8_lets_1 pa.2.2.1 rfl (by decide) (Or.inl q370) (Or.inr q371) rfl pa.2.2.2.2.1 ?_
  refine r_bipush (v := nI 20) dX8_lets_4 (by decide +kernel) ?_
  refine r_callV_0 dX8_lets_6 kX8_27 (V_begins hx ht) (gRecv.of hx.s56 rfl) rfl rfl (Nat.le_of_ble_eq_true rfl) ?_
  refine r_aload_n 0 dX8_lets_9 rfl rfl rfl ?_
  refine r_iload_n 1 dX8_lets_10 rfl rfl ?_
  refine r_callSU_1 (ci := 8) dX8_lets_11 kX8_33 rfl (V_X7_lets_1 hx pa (ranT_le ht)) (gRecv.of pa.2.2.1 rfl) rfl rfl (Nat.le_of_ble_eq_true rfl) ?_
  refine r_iconst (v := nI 3) dX8_lets_14 rfl ?_
  refine r_imul dX8_lets_15 ?_
  refine e_iret dX8_lets_16 rfl ?_
  exact ⟨rfl, rfl⟩
theorem V_X7_lends_1 {d : Nat} {h : Hp} (hx : LayX (hS h) (hR h)) {a p : Nat} {m : Int32} (pa : PAt h a p 1 m) {t : TR} (ht : t.2 ≤ 40) {x : Int32} : gC (d + 1) (0) (0) m_X7_lends [.ref a, .int x] (XV h t) (Ret (some (.int ((x - m, ranT t (nI 12))).1)) (XV h ((x - m, ranT t (nI 12))).2)) := by
  refine gC.of (ls := [some (.ref a), some (.int x)]) (by decide +kernel) rfl rfl rfl rfl (Nat.le_of_ble_eq_true rfl) ?_
  refine r_aload_n 0 dX7_lends_0 rfl rfl rfl ?_
  refine r_getr (k := 0) (b := 56) dX7_lends_1 pa.2.2.1 rfl (by decide) (Or.inl q363) (Or.inl rfl) rfl pa.2.2.2.2.1 ?_
  refine r_bipush (v := nI 12) dX7_lends_4 (by decide +kernel) ?_
  refine r_callV_0 dX7_lends_6 kX7_22 (V_begins hx ht) (gRecv.of hx.s56 rfl) rfl rfl (Nat.le_of_ble_eq_true rfl) ?_
  refine r_iload_n 1 dX7_lends_9 rfl rfl ?_
  refine r_aload_n 0 dX7_lends_10 rfl rfl rfl ?_
  refine r_geti (k := 2) dX7_lends_11 pa.2.2.1 rfl (by decide) (Or.inl q379) (Or.inl rfl) rfl ?_
  refine r_eqi (show _ = m from ((congrFun (XV_far (by have := pa.1; omega) (by have := pa.1; omega)) 2).trans pa.2.2.2.2.2.2)) ?_
  refine r_isub dX7_lends_14 ?_
  refine e_iret dX7_lends_15 rfl ?_
  exact ⟨rfl, rfl⟩
theorem V_X7_fills_1 {d : Nat} {h : Hp} (hx : LayX (hS h) (hR h)) {a p : Nat} {m : Int32} (pa : PAt h a p 1 m) {t : TR} (ht : t.2 ≤ 40) {x : Int32} : gC (d + 3) (0) (0) m_X7_fills [.ref a, .int x] (XV h t) (Ret (some (.int (fills0V 1 (nI p) x t).1)) (XV h (fills0V 1 (nI p) x t).2)) := by
  refine gC.of (ls := [some (.ref a), some (.int x)]) (by decide +kernel) rfl rfl rfl rfl (Nat.le_of_ble_eq_true rfl) ?_
  refine r_aload_n 0 dX7_fills_0 rfl rfl rfl ?_
  refine r_getr (k := 0) (b := 56) dX7_fills_1 pa.2.2.1 rfl (by decide) (Or.inl q363) (Or.inl rfl) rfl pa.2.2.2.2.1 ?_
  refine r_bipush (v := nI 11) dX7_fills_4 (by decide +kernel) ?_
  refine r_callV_0 dX7_fills_6 kX7_22 (V_begins hx ht) (gRecv.of hx.s56 rfl) rfl rfl (Nat.le_of_ble_eq_true rfl) ?_
  refine r_aload_n 0 dX7_fills_9 rfl rfl rfl ?_
  refine r_iload_n 1 dX7_fills_10 rfl rfl ?_
  refine r_callU_1 dX7_fills_11 kX7_28_X8 (V_X8_lets_1 hx pa (ranT_le ht)) (gRecv.of pa.2.2.1 rfl) rfl rfl (Nat.le_of_ble_eq_true rfl) ?_
  refine r_iconst (v := nI 2) dX7_fills_14 rfl ?_
  refine r_imul dX7_fills_15 ?_
  refine e_iret dX7_fills_16 rfl ?_
  exact ⟨rfl, rfl⟩
theorem V_X7_tells_1 {d : Nat} {h : Hp} (hx : LayX (hS h) (hR h)) {a p : Nat} {m : Int32} (pa : PAt h a p 1 m) {t : TR} (ht : t.2 ≤ 40) {x : Int32} : gC (d + 6) (0) (0) m_X7_tells [.ref a, .int x] (XV h t) (Ret (some (.int (tells0V 1 (nI p) m x t).1)) (XV h (tells0V 1 (nI p) m x t).2)) := by
  refine gC.of (ls := [some (.ref a), some (.int x), none]) (by decide +kernel) rfl rfl rfl rfl (Nat.le_of_ble_eq_true rfl) ?_
  refine r_aload_n 0 dX7_tells_0 rfl rfl rfl ?_
  refine r_getr (k := 0) (b := 56) dX7_tells_1 pa.2.2.1 rfl (by decide) (Or.inl q363) (Or.inl rfl) rfl pa.2.2.2.2.1 ?_
  refine r_bipush (v := nI 13) dX7_tells_4 (by decide +kernel) ?_
  refine r_callV_0 dX7_tells_6 kX7_22 (V_begins hx ht) (gRecv.of hx.s56 rfl) rfl rfl (Nat.le_of_ble_eq_true rfl) ?_
  refine r_aload_n 0 dX7_tells_9 rfl rfl rfl ?_
  refine r_iload_n 1 dX7_tells_10 rfl rfl ?_
  refine r_callU_1 dX7_tells_11 kX7_32_X8 (V_X7_fills_1 hx pa (ranT_le ht)) (gRecv.of pa.2.2.1 rfl) rfl rfl (Nat.le_of_ble_eq_true rfl) ?_
  refine r_istore_n 2 dX7_tells_14 rfl (by decide) rfl ?_
  refine gG_ls (ls' := [_, _, _]) rfl ?_
  refine r_iload_n 2 dX7_tells_15 rfl rfl ?_
  refine r_aload_n 0 dX7_tells_16 rfl rfl rfl ?_
  refine r_iload_n 1 dX7_tells_17 rfl rfl ?_
  refine r_callU_1 dX7_tells_18 kX7_35_X8 (V_X7_lends_1 hx pa (fills0V_le (ranT_le ht))) (gRecv.of pa.2.2.1 rfl) rfl rfl (Nat.le_of_ble_eq_true rfl) ?_
  refine r_ixor dX7_tells_21 ?_
  refine e_iret dX7_tells_22 rfl ?_
  exact ⟨rfl, rfl⟩
theorem V_X7_lets_2 {d : Nat} {h : Hp} (hx : LayX (hS h) (hR h)) {a p : Nat} {m : Int32} (pa : PAt h a p 2 m) {t : TR} (ht : t.2 ≤ 40) {x : Int32} : gC (d + 1) (0) (0) m_X7_lets [.ref a, .int x] (XV h t) (Ret (some (.int ((x + nI p, ranT t (nI 10))).1)) (XV h ((x + nI p, ranT t (nI 10))).2)) := by
  refine gC.of (ls := [some (.ref a), some (.int x)]) (by decide +kernel) rfl rfl rfl rfl (Nat.le_of_ble_eq_true rfl) ?_
  refine r_aload_n 0 dX7_lets_0 rfl rfl rfl ?_
  refine r_getr (k := 0) (b := 56) dX7_lets_1 pa.2.2.1 rfl (by decide) (Or.inl q363) (Or.inl rfl) rfl pa.2.2.2.2.1 ?_
  refine r_bipush (v := nI 10) dX7_lets_4 (by decide +kernel) ?_
  refine r_callV_0 dX7_lets_6 kX7_22 (V_begins hx ht) (gRecv.of hx.s56 rfl) rfl rfl (Nat.le_of_ble_eq_true rfl) ?_
  refine r_iload_n 1 dX7_lets_9 rfl rfl ?_
  refine r_aload_n 0 dX7_lets_10 rfl rfl rfl ?_
  refine r_geti (k := 1) dX7_lets_11 pa.2.2.1 rfl (by decide) (Or.inl q376) (Or.inl rfl) rfl ?_
  refine r_eqi (show _ = nI (p) from ((congrFun (XV_far (by have := pa.1; omega) (by have := pa.1; omega)) 1).trans pa.2.2.2.2.2.1)) ?_
  refine r_iadd dX7_lets_14 ?_
  refine e_iret dX7_lets_15 rfl ?_
  exact ⟨rfl, rfl⟩
theorem V_X7_lends_2 {d : Nat} {h : Hp} (hx : LayX (hS h) (hR h)) {a p : Nat} {m : Int32} (pa : PAt h a p 2 m) {t : TR} (ht : t.2 ≤ 40) {x : Int32} : gC (d + 1) (0) (0) m_X7_lends [.ref a, .int x] (XV h t) (Ret (some (.int ((x - m, ranT t (nI 12))).1)) (XV h ((x - m, ranT t (nI 12))).2)) := by
  refine gC.of (ls := [some (.ref a), some (.int x)]) (by decide +kernel) rfl rfl rfl rfl (Nat.le_of_ble_eq_true rfl) ?_
  refine r_aload_n 0 dX7_lends_0 rfl rfl rfl ?_
  refine r_getr (k := 0) (b := 56) dX7_lends_1 pa.2.2.1 rfl (by decide) (Or.inl q363) (Or.inl rfl) rfl pa.2.2.2.2.1 ?_
  refine r_bipush (v := nI 12) dX7_lends_4 (by decide +kernel) ?_
  refine r_callV_0 dX7_lends_6 kX7_22 (V_begins hx ht) (gRecv.of hx.s56 rfl) rfl rfl (Nat.le_of_ble_eq_true rfl) ?_
  refine r_iload_n 1 dX7_lends_9 rfl rfl ?_
  refine r_aload_n 0 dX7_lends_10 rfl rfl rfl ?_
  refine r_geti (k := 2) dX7_lends_11 pa.2.2.1 rfl (by decide) (Or.inl q379) (Or.inl rfl) rfl ?_
  refine r_eqi (show _ = m from ((congrFun (XV_far (by have := pa.1; omega) (by have := pa.1; omega)) 2).trans pa.2.2.2.2.2.2)) ?_
  refine r_isub dX7_lends_14 ?_
  refine e_iret dX7_lends_15 rfl ?_
  exact ⟨rfl, rfl⟩
theorem V_X7_fills_2 {d : Nat} {h : Hp} (hx : LayX (hS h) (hR h)) {a p : Nat} {m : Int32} (pa : PAt h a p 2 m) {t : TR} (ht : t.2 ≤ 40) {x : Int32} : gC (d + 3) (0) (0) m_X7_fills [.ref a, .int x] (XV h t) (Ret (some (.int (fills0V 2 (nI p) x t).1)) (XV h (fills0V 2 (nI p) x t).2)) := by
  refine gC.of (ls := [some (.ref a), some (.int x)]) (by decide +kernel) rfl rfl rfl rfl (Nat.le_of_ble_eq_true rfl) ?_
  refine r_aload_n 0 dX7_fills_0 rfl rfl rfl ?_
  refine r_getr (k := 0) (b := 56) dX7_fills_1 pa.2.2.1 rfl (by decide) (Or.inl q363) (Or.inl rfl) rfl pa.2.2.2.2.1 ?_
  refine r_bipush (v := nI 11) dX7_fills_4 (by decide +kernel) ?_
  refine r_callV_0 dX7_fills_6 kX7_22 (V_begins hx ht) (gRecv.of hx.s56 rfl) rfl rfl (Nat.le_of_ble_eq_true rfl) ?_
  refine r_aload_n 0 dX7_fills_9 rfl rfl rfl ?_
  refine r_iload_n 1 dX7_fills_10 rfl rfl ?_
  refine r_callU_1 dX7_fills_11 kX7_28_X9 (V_X7_lets_2 hx pa (ranT_le ht)) (gRecv.of pa.2.2.1 rfl) rfl rfl (Nat.le_of_ble_eq_true rfl) ?_
  refine r_iconst (v := nI 2) dX7_fills_14 rfl ?_
  refine r_imul dX7_fills_15 ?_
  refine e_iret dX7_fills_16 rfl ?_
  exact ⟨rfl, rfl⟩
theorem V_X9_fills_2 {d : Nat} {h : Hp} (hx : LayX (hS h) (hR h)) {a p : Nat} {m : Int32} (pa : PAt h a p 2 m) {t : TR} (ht : t.2 ≤ 40) {x : Int32} : gC (d + 4) (0) (0) m_X9_fills [.ref a, .int x] (XV h t) (Ret (some (.int (fills2V 2 (nI p) m x t).1)) (XV h (fills2V 2 (nI p) m x t).2)) := by
  refine gC.of (ls := [some (.ref a), some (.int x), none]) (by decide +kernel) rfl rfl rfl rfl (Nat.le_of_ble_eq_true rfl) ?_
  refine r_aload_n 0 dX9_fills_0 rfl rfl rfl ?_
  refine r_getr (k := 0) (b := 56) dX9_fills_1 pa.2.2.1 rfl (by decide) (Or.inl q374) (Or.inr q375) rfl pa.2.2.2.2.1 ?_
  refine r_bipush (v := nI 30) dX9_fills_4 (by decide +kernel) ?_
  refine r_callV_0 dX9_fills_6 kX9_26 (V_begins hx ht) (gRecv.of hx.s56 rfl) rfl rfl (Nat.le_of_ble_eq_true rfl) ?_
  refine r_aload_n 0 dX9_fills_9 rfl rfl rfl ?_
  refine r_iload_n 1 dX9_fills_10 rfl rfl ?_
  refine r_callSU_1 (ci := 9) dX9_fills_11 kX9_32 rfl (V_X7_fills_2 hx pa (ranT_le ht)) (gRecv.of pa.2.2.1 rfl) rfl rfl (Nat.le_of_ble_eq_true rfl) ?_
  refine r_istore_n 2 dX9_fills_14 rfl (by decide) rfl ?_
  refine gG_ls (ls' := [_, _, _]) rfl ?_
  refine r_iload_n 2 dX9_fills_15 rfl rfl ?_
  refine r_aload_n 0 dX9_fills_16 rfl rfl rfl ?_
  refine r_iconst (v := nI 1) dX9_fills_17 rfl ?_
  refine r_callU_1 dX9_fills_18 kX9_36_X9 (V_X7_lends_2 hx pa (fills0V_le (ranT_le ht))) (gRecv.of pa.2.2.1 rfl) rfl rfl (Nat.le_of_ble_eq_true rfl) ?_
  refine r_isub dX9_fills_21 ?_
  refine e_iret dX9_fills_22 rfl ?_
  exact ⟨rfl, rfl⟩
theorem V_X7_tells_2 {d : Nat} {h : Hp} (hx : LayX (hS h) (hR h)) {a p : Nat} {m : Int32} (pa : PAt h a p 2 m) {t : TR} (ht : t.2 ≤ 40) {x : Int32} : gC (d + 6) (0) (0) m_X7_tells [.ref a, .int x] (XV h t) (Ret (some (.int (tells0V 2 (nI p) m x t).1)) (XV h (tells0V 2 (nI p) m x t).2)) := by
  refine gC.of (ls := [some (.ref a), some (.int x), none]) (by decide +kernel) rfl rfl rfl rfl (Nat.le_of_ble_eq_true rfl) ?_
  refine r_aload_n 0 dX7_tells_0 rfl rfl rfl ?_
  refine r_getr (k := 0) (b := 56) dX7_tells_1 pa.2.2.1 rfl (by decide) (Or.inl q363) (Or.inl rfl) rfl pa.2.2.2.2.1 ?_
  refine r_bipush (v := nI 13) dX7_tells_4 (by decide +kernel) ?_
  refine r_callV_0 dX7_tells_6 kX7_22 (V_begins hx ht) (gRecv.of hx.s56 rfl) rfl rfl (Nat.le_of_ble_eq_true rfl) ?_
  refine r_aload_n 0 dX7_tells_9 rfl rfl rfl ?_
  refine r_iload_n 1 dX7_tells_10 rfl rfl ?_
  refine r_callU_1 dX7_tells_11 kX7_32_X9 (V_X9_fills_2 hx pa (ranT_le ht)) (gRecv.of pa.2.2.1 rfl) rfl rfl (Nat.le_of_ble_eq_true rfl) ?_
  refine r_istore_n 2 dX7_tells_14 rfl (by decide) rfl ?_
  refine gG_ls (ls' := [_, _, _]) rfl ?_
  refine r_iload_n 2 dX7_tells_15 rfl rfl ?_
  refine r_aload_n 0 dX7_tells_16 rfl rfl rfl ?_
  refine r_iload_n 1 dX7_tells_17 rfl rfl ?_
  refine r_callU_1 dX7_tells_18 kX7_35_X9 (V_X7_lends_2 hx pa (fills2V_le (ranT_le ht))) (gRecv.of pa.2.2.1 rfl) rfl rfl (Nat.le_of_ble_eq_true rfl) ?_
  refine r_ixor dX7_tells_21 ?_
  refine e_iret dX7_tells_22 rfl ?_
  exact ⟨rfl, rfl⟩
theorem V_X7_lets_3 {d : Nat} {h : Hp} (hx : LayX (hS h) (hR h)) {a p : Nat} {m : Int32} (pa : PAt h a p 3 m) {t : TR} (ht : t.2 ≤ 40) {x : Int32} : gC (d + 1) (0) (0) m_X7_lets [.ref a, .int x] (XV h t) (Ret (some (.int ((x + nI p, ranT t (nI 10))).1)) (XV h ((x + nI p, ranT t (nI 10))).2)) := by
  refine gC.of (ls := [some (.ref a), some (.int x)]) (by decide +kernel) rfl rfl rfl rfl (Nat.le_of_ble_eq_true rfl) ?_
  refine r_aload_n 0 dX7_lets_0 rfl rfl rfl ?_
  refine r_getr (k := 0) (b := 56) dX7_lets_1 pa.2.2.1 rfl (by decide) (Or.inl q363) (Or.inl rfl) rfl pa.2.2.2.2.1 ?_
  refine r_bipush (v := nI 10) dX7_lets_4 (by decide +kernel) ?_
  refine r_callV_0 dX7_lets_6 kX7_22 (V_begins hx ht) (gRecv.of hx.s56 rfl) rfl rfl (Nat.le_of_ble_eq_true rfl) ?_
  refine r_iload_n 1 dX7_lets_9 rfl rfl ?_
  refine r_aload_n 0 dX7_lets_10 rfl rfl rfl ?_
  refine r_geti (k := 1) dX7_lets_11 pa.2.2.1 rfl (by decide) (Or.inl q376) (Or.inl rfl) rfl ?_
  refine r_eqi (show _ = nI (p) from ((congrFun (XV_far (by have := pa.1; omega) (by have := pa.1; omega)) 1).trans pa.2.2.2.2.2.1)) ?_
  refine r_iadd dX7_lets_14 ?_
  refine e_iret dX7_lets_15 rfl ?_
  exact ⟨rfl, rfl⟩
theorem V_X7_lends_3 {d : Nat} {h : Hp} (hx : LayX (hS h) (hR h)) {a p : Nat} {m : Int32} (pa : PAt h a p 3 m) {t : TR} (ht : t.2 ≤ 40) {x : Int32} : gC (d + 1) (0) (0) m_X7_lends [.ref a, .int x] (XV h t) (Ret (some (.int ((x - m, ranT t (nI 12))).1)) (XV h ((x - m, ranT t (nI 12))).2)) := by
  refine gC.of (ls := [some (.ref a), some (.int x)]) (by decide +kernel) rfl rfl rfl rfl (Nat.le_of_ble_eq_true rfl) ?_
  refine r_aload_n 0 dX7_lends_0 rfl rfl rfl ?_
  refine r_getr (k := 0) (b := 56) dX7_lends_1 pa.2.2.1 rfl (by decide) (Or.inl q363) (Or.inl rfl) rfl pa.2.2.2.2.1 ?_
  refine r_bipush (v := nI 12) dX7_lends_4 (by decide +kernel) ?_
  refine r_callV_0 dX7_lends_6 kX7_22 (V_begins hx ht) (gRecv.of hx.s56 rfl) rfl rfl (Nat.le_of_ble_eq_true rfl) ?_
  refine r_iload_n 1 dX7_lends_9 rfl rfl ?_
  refine r_aload_n 0 dX7_lends_10 rfl rfl rfl ?_
  refine r_geti (k := 2) dX7_lends_11 pa.2.2.1 rfl (by decide) (Or.inl q379) (Or.inl rfl) rfl ?_
  refine r_eqi (show _ = m from ((congrFun (XV_far (by have := pa.1; omega) (by have := pa.1; omega)) 2).trans pa.2.2.2.2.2.2)) ?_
  refine r_isub dX7_lends_14 ?_
  refine e_iret dX7_lends_15 rfl ?_
  exact ⟨rfl, rfl⟩
theorem V_X10_lends_3 {d : Nat} {h : Hp} (hx : LayX (hS h) (hR h)) {a p : Nat} {m : Int32} (pa : PAt h a p 3 m) {t : TR} (ht : t.2 ≤ 40) {x : Int32} : gC (d + 2) (0) (0) m_X10_lends [.ref a, .int x] (XV h t) (Ret (some (.int ((-(x - m), ranT (ranT t (nI 40)) (nI 12))).1)) (XV h ((-(x - m), ranT (ranT t (nI 40)) (nI 12))).2)) := by
  refine gC.of (ls := [some (.ref a), some (.int x)]) (by decide +kernel) rfl rfl rfl rfl (Nat.le_of_ble_eq_true rfl) ?_
  refine r_aload_n 0 dX10_lends_0 rfl rfl rfl ?_
  refine r_getr (k := 0) (b := 56) dX10_lends_1 pa.2.2.1 rfl (by decide) (Or.inl q364) (Or.inr q365) rfl pa.2.2.2.2.1 ?_
  refine r_bipush (v := nI 40) dX10_lends_4 (by decide +kernel) ?_
  refine r_callV_0 dX10_lends_6 kX10_19 (V_begins hx ht) (gRecv.of hx.s56 rfl) rfl rfl (Nat.le_of_ble_eq_true rfl) ?_
  refine r_aload_n 0 dX10_lends_9 rfl rfl rfl ?_
  refine r_iload_n 1 dX10_lends_10 rfl rfl ?_
  refine r_callSU_1 (ci := 10) dX10_lends_11 kX10_25 rfl (V_X7_lends_3 hx pa (ranT_le ht)) (gRecv.of pa.2.2.1 rfl) rfl rfl (Nat.le_of_ble_eq_true rfl) ?_
  refine r_ineg dX10_lends_14 ?_
  refine e_iret dX10_lends_15 rfl ?_
  exact ⟨rfl, rfl⟩
theorem V_X7_fills_3 {d : Nat} {h : Hp} (hx : LayX (hS h) (hR h)) {a p : Nat} {m : Int32} (pa : PAt h a p 3 m) {t : TR} (ht : t.2 ≤ 40) {x : Int32} : gC (d + 3) (0) (0) m_X7_fills [.ref a, .int x] (XV h t) (Ret (some (.int (fills0V 3 (nI p) x t).1)) (XV h (fills0V 3 (nI p) x t).2)) := by
  refine gC.of (ls := [some (.ref a), some (.int x)]) (by decide +kernel) rfl rfl rfl rfl (Nat.le_of_ble_eq_true rfl) ?_
  refine r_aload_n 0 dX7_fills_0 rfl rfl rfl ?_
  refine r_getr (k := 0) (b := 56) dX7_fills_1 pa.2.2.1 rfl (by decide) (Or.inl q363) (Or.inl rfl) rfl pa.2.2.2.2.1 ?_
  refine r_bipush (v := nI 11) dX7_fills_4 (by decide +kernel) ?_
  refine r_callV_0 dX7_fills_6 kX7_22 (V_begins hx ht) (gRecv.of hx.s56 rfl) rfl rfl (Nat.le_of_ble_eq_true rfl) ?_
  refine r_aload_n 0 dX7_fills_9 rfl rfl rfl ?_
  refine r_iload_n 1 dX7_fills_10 rfl rfl ?_
  refine r_callU_1 dX7_fills_11 kX7_28_X10 (V_X7_lets_3 hx pa (ranT_le ht)) (gRecv.of pa.2.2.1 rfl) rfl rfl (Nat.le_of_ble_eq_true rfl) ?_
  refine r_iconst (v := nI 2) dX7_fills_14 rfl ?_
  refine r_imul dX7_fills_15 ?_
  refine e_iret dX7_fills_16 rfl ?_
  exact ⟨rfl, rfl⟩
theorem V_X7_tells_3 {d : Nat} {h : Hp} (hx : LayX (hS h) (hR h)) {a p : Nat} {m : Int32} (pa : PAt h a p 3 m) {t : TR} (ht : t.2 ≤ 40) {x : Int32} : gC (d + 6) (0) (0) m_X7_tells [.ref a, .int x] (XV h t) (Ret (some (.int (tells0V 3 (nI p) m x t).1)) (XV h (tells0V 3 (nI p) m x t).2)) := by
  refine gC.of (ls := [some (.ref a), some (.int x), none]) (by decide +kernel) rfl rfl rfl rfl (Nat.le_of_ble_eq_true rfl) ?_
  refine r_aload_n 0 dX7_tells_0 rfl rfl rfl ?_
  refine r_getr (k := 0) (b := 56) dX7_tells_1 pa.2.2.1 rfl (by decide) (Or.inl q363) (Or.inl rfl) rfl pa.2.2.2.2.1 ?_
  refine r_bipush (v := nI 13) dX7_tells_4 (by decide +kernel) ?_
  refine r_callV_0 dX7_tells_6 kX7_22 (V_begins hx ht) (gRecv.of hx.s56 rfl) rfl rfl (Nat.le_of_ble_eq_true rfl) ?_
  refine r_aload_n 0 dX7_tells_9 rfl rfl rfl ?_
  refine r_iload_n 1 dX7_tells_10 rfl rfl ?_
  refine r_callU_1 dX7_tells_11 kX7_32_X10 (V_X7_fills_3 hx pa (ranT_le ht)) (gRecv.of pa.2.2.1 rfl) rfl rfl (Nat.le_of_ble_eq_true rfl) ?_
  refine r_istore_n 2 dX7_tells_14 rfl (by decide) rfl ?_
  refine gG_ls (ls' := [_, _, _]) rfl ?_
  refine r_iload_n 2 dX7_tells_15 rfl rfl ?_
  refine r_aload_n 0 dX7_tells_16 rfl rfl rfl ?_
  refine r_iload_n 1 dX7_tells_17 rfl rfl ?_
  refine r_callU_1 dX7_tells_18 kX7_35_X10 (V_X10_lends_3 hx pa (fills0V_le (ranT_le ht))) (gRecv.of pa.2.2.1 rfl) rfl rfl (Nat.le_of_ble_eq_true rfl) ?_
  refine r_ixor dX7_tells_21 ?_
  refine e_iret dX7_tells_22 rfl ?_
  exact ⟨rfl, rfl⟩
theorem V_X7_lets_4 {d : Nat} {h : Hp} (hx : LayX (hS h) (hR h)) {a p : Nat} {m : Int32} (pa : PAt h a p 4 m) {t : TR} (ht : t.2 ≤ 40) {x : Int32} : gC (d + 1) (0) (0) m_X7_lets [.ref a, .int x] (XV h t) (Ret (some (.int ((x + nI p, ranT t (nI 10))).1)) (XV h ((x + nI p, ranT t (nI 10))).2)) := by
  refine gC.of (ls := [some (.ref a), some (.int x)]) (by decide +kernel) rfl rfl rfl rfl (Nat.le_of_ble_eq_true rfl) ?_
  refine r_aload_n 0 dX7_lets_0 rfl rfl rfl ?_
  refine r_getr (k := 0) (b := 56) dX7_lets_1 pa.2.2.1 rfl (by decide) (Or.inl q363) (Or.inl rfl) rfl pa.2.2.2.2.1 ?_
  refine r_bipush (v := nI 10) dX7_lets_4 (by decide +kernel) ?_
  refine r_callV_0 dX7_lets_6 kX7_22 (V_begins hx ht) (gRecv.of hx.s56 rfl) rfl rfl (Nat.le_of_ble_eq_true rfl) ?_
  refine r_iload_n 1 dX7_lets_9 rfl rfl ?_
  refine r_aload_n 0 dX7_lets_10 rfl rfl rfl ?_
  refine r_geti (k := 1) dX7_lets_11 pa.2.2.1 rfl (by decide) (Or.inl q376) (Or.inl rfl) rfl ?_
  refine r_eqi (show _ = nI (p) from ((congrFun (XV_far (by have := pa.1; omega) (by have := pa.1; omega)) 1).trans pa.2.2.2.2.2.1)) ?_
  refine r_iadd dX7_lets_14 ?_
  refine e_iret dX7_lets_15 rfl ?_
  exact ⟨rfl, rfl⟩
theorem V_X8_lets_4 {d : Nat} {h : Hp} (hx : LayX (hS h) (hR h)) {a p : Nat} {m : Int32} (pa : PAt h a p 4 m) {t : TR} (ht : t.2 ≤ 40) {x : Int32} : gC (d + 2) (0) (0) m_X8_lets [.ref a, .int x] (XV h t) (Ret (some (.int (letsV 4 (nI p) x t).1)) (XV h (letsV 4 (nI p) x t).2)) := by
  refine gC.of (ls := [some (.ref a), some (.int x)]) (by decide +kernel) rfl rfl rfl rfl (Nat.le_of_ble_eq_true rfl) ?_
  refine r_aload_n 0 dX8_lets_0 rfl rfl rfl ?_
  refine r_getr (k := 0) (b := 56) dX8_lets_1 pa.2.2.1 rfl (by decide) (Or.inl q370) (Or.inr q371) rfl pa.2.2.2.2.1 ?_
  refine r_bipush (v := nI 20) dX8_lets_4 (by decide +kernel) ?_
  refine r_callV_0 dX8_lets_6 kX8_27 (V_begins hx ht) (gRecv.of hx.s56 rfl) rfl rfl (Nat.le_of_ble_eq_true rfl) ?_
  refine r_aload_n 0 dX8_lets_9 rfl rfl rfl ?_
  refine r_iload_n 1 dX8_lets_10 rfl rfl ?_
  refine r_callSU_1 (ci := 11) dX8_lets_11 kX8_33 rfl (V_X7_lets_4 hx pa (ranT_le ht)) (gRecv.of pa.2.2.1 rfl) rfl rfl (Nat.le_of_ble_eq_true rfl) ?_
  refine r_iconst (v := nI 3) dX8_lets_14 rfl ?_
  refine r_imul dX8_lets_15 ?_
  refine e_iret dX8_lets_16 rfl ?_
  exact ⟨rfl, rfl⟩
theorem V_X7_lends_4 {d : Nat} {h : Hp} (hx : LayX (hS h) (hR h)) {a p : Nat} {m : Int32} (pa : PAt h a p 4 m) {t : TR} (ht : t.2 ≤ 40) {x : Int32} : gC (d + 1) (0) (0) m_X7_lends [.ref a, .int x] (XV h t) (Ret (some (.int ((x - m, ranT t (nI 12))).1)) (XV h ((x - m, ranT t (nI 12))).2)) := by
  refine gC.of (ls := [some (.ref a), some (.int x)]) (by decide +kernel) rfl rfl rfl rfl (Nat.le_of_ble_eq_true rfl) ?_
  refine r_aload_n 0 dX7_lends_0 rfl rfl rfl ?_
  refine r_getr (k := 0) (b := 56) dX7_lends_1 pa.2.2.1 rfl (by decide) (Or.inl q363) (Or.inl rfl) rfl pa.2.2.2.2.1 ?_
  refine r_bipush (v := nI 12) dX7_lends_4 (by decide +kernel) ?_
  refine r_callV_0 dX7_lends_6 kX7_22 (V_begins hx ht) (gRecv.of hx.s56 rfl) rfl rfl (Nat.le_of_ble_eq_true rfl) ?_
  refine r_iload_n 1 dX7_lends_9 rfl rfl ?_
  refine r_aload_n 0 dX7_lends_10 rfl rfl rfl ?_
  refine r_geti (k := 2) dX7_lends_11 pa.2.2.1 rfl (by decide) (Or.inl q379) (Or.inl rfl) rfl ?_
  refine r_eqi (show _ = m from ((congrFun (XV_far (by have := pa.1; omega) (by have := pa.1; omega)) 2).trans pa.2.2.2.2.2.2)) ?_
  refine r_isub dX7_lends_14 ?_
  refine e_iret dX7_lends_15 rfl ?_
  exact ⟨rfl, rfl⟩
theorem V_X7_fills_4 {d : Nat} {h : Hp} (hx : LayX (hS h) (hR h)) {a p : Nat} {m : Int32} (pa : PAt h a p 4 m) {t : TR} (ht : t.2 ≤ 40) {x : Int32} : gC (d + 3) (0) (0) m_X7_fills [.ref a, .int x] (XV h t) (Ret (some (.int (fills0V 4 (nI p) x t).1)) (XV h (fills0V 4 (nI p) x t).2)) := by
  refine gC.of (ls := [some (.ref a), some (.int x)]) (by decide +kernel) rfl rfl rfl rfl (Nat.le_of_ble_eq_true rfl) ?_
  refine r_aload_n 0 dX7_fills_0 rfl rfl rfl ?_
  refine r_getr (k := 0) (b := 56) dX7_fills_1 pa.2.2.1 rfl (by decide) (Or.inl q363) (Or.inl rfl) rfl pa.2.2.2.2.1 ?_
  refine r_bipush (v := nI 11) dX7_fills_4 (by decide +kernel) ?_
  refine r_callV_0 dX7_fills_6 kX7_22 (V_begins hx ht) (gRecv.of hx.s56 rfl) rfl rfl (Nat.le_of_ble_eq_true rfl) ?_
  refine r_aload_n 0 dX7_fills_9 rfl rfl rfl ?_
  refine r_iload_n 1 dX7_fills_10 rfl rfl ?_
  refine r_callU_1 dX7_fills_11 kX7_28_X11 (V_X8_lets_4 hx pa (ranT_le ht)) (gRecv.of pa.2.2.1 rfl) rfl rfl (Nat.le_of_ble_eq_true rfl) ?_
  refine r_iconst (v := nI 2) dX7_fills_14 rfl ?_
  refine r_imul dX7_fills_15 ?_
  refine e_iret dX7_fills_16 rfl ?_
  exact ⟨rfl, rfl⟩
theorem V_X7_tells_4 {d : Nat} {h : Hp} (hx : LayX (hS h) (hR h)) {a p : Nat} {m : Int32} (pa : PAt h a p 4 m) {t : TR} (ht : t.2 ≤ 40) {x : Int32} : gC (d + 6) (0) (0) m_X7_tells [.ref a, .int x] (XV h t) (Ret (some (.int (tells0V 4 (nI p) m x t).1)) (XV h (tells0V 4 (nI p) m x t).2)) := by
  refine gC.of (ls := [some (.ref a), some (.int x), none]) (by decide +kernel) rfl rfl rfl rfl (Nat.le_of_ble_eq_true rfl) ?_
  refine r_aload_n 0 dX7_tells_0 rfl rfl rfl ?_
  refine r_getr (k := 0) (b := 56) dX7_tells_1 pa.2.2.1 rfl (by decide) (Or.inl q363) (Or.inl rfl) rfl pa.2.2.2.2.1 ?_
  refine r_bipush (v := nI 13) dX7_tells_4 (by decide +kernel) ?_
  refine r_callV_0 dX7_tells_6 kX7_22 (V_begins hx ht) (gRecv.of hx.s56 rfl) rfl rfl (Nat.le_of_ble_eq_true rfl) ?_
  refine r_aload_n 0 dX7_tells_9 rfl rfl rfl ?_
  refine r_iload_n 1 dX7_tells_10 rfl rfl ?_
  refine r_callU_1 dX7_tells_11 kX7_32_X11 (V_X7_fills_4 hx pa (ranT_le ht)) (gRecv.of pa.2.2.1 rfl) rfl rfl (Nat.le_of_ble_eq_true rfl) ?_
  refine r_istore_n 2 dX7_tells_14 rfl (by decide) rfl ?_
  refine gG_ls (ls' := [_, _, _]) rfl ?_
  refine r_iload_n 2 dX7_tells_15 rfl rfl ?_
  refine r_aload_n 0 dX7_tells_16 rfl rfl rfl ?_
  refine r_iload_n 1 dX7_tells_17 rfl rfl ?_
  refine r_callU_1 dX7_tells_18 kX7_35_X11 (V_X7_lends_4 hx pa (fills0V_le (ranT_le ht))) (gRecv.of pa.2.2.1 rfl) rfl rfl (Nat.le_of_ble_eq_true rfl) ?_
  refine r_ixor dX7_tells_21 ?_
  refine e_iret dX7_tells_22 rfl ?_
  exact ⟨rfl, rfl⟩
theorem V_X11_tells_4 {d : Nat} {h : Hp} (hx : LayX (hS h) (hR h)) {a p : Nat} {m : Int32} (pa : PAt h a p 4 m) {t : TR} (ht : t.2 ≤ 40) {x : Int32} : gC (d + 7) (0) (0) m_X11_tells [.ref a, .int x] (XV h t) (Ret (some (.int (tells4V 4 (nI p) m x t).1)) (XV h (tells4V 4 (nI p) m x t).2)) := by
  refine gC.of (ls := [some (.ref a), some (.int x), none]) (by decide +kernel) rfl rfl rfl rfl (Nat.le_of_ble_eq_true rfl) ?_
  refine r_aload_n 0 dX11_tells_0 rfl rfl rfl ?_
  refine r_getr (k := 0) (b := 56) dX11_tells_1 pa.2.2.1 rfl (by decide) (Or.inl q368) (Or.inr q369) rfl pa.2.2.2.2.1 ?_
  refine r_bipush (v := nI 50) dX11_tells_4 (by decide +kernel) ?_
  refine r_callV_0 dX11_tells_6 kX11_23 (V_begins hx ht) (gRecv.of hx.s56 rfl) rfl rfl (Nat.le_of_ble_eq_true rfl) ?_
  refine r_aload_n 0 dX11_tells_9 rfl rfl rfl ?_
  refine r_iload_n 1 dX11_tells_10 rfl rfl ?_
  refine r_callSX_1 (ci := 11) dX11_tells_11 kX11_29 rfl (V_X7_tells_4 hx pa (ranT_le ht)) (gRecv.of pa.2.2.1 rfl) rfl rfl (Nat.le_of_ble_eq_true rfl) ?_
  refine r_istore_n 2 dX11_tells_14 rfl (by decide) rfl ?_
  refine gG_ls (ls' := [_, _, _]) rfl ?_
  refine r_iload_n 2 dX11_tells_15 rfl rfl ?_
  refine r_aload_n 0 dX11_tells_16 rfl rfl rfl ?_
  refine r_iconst (v := nI 2) dX11_tells_17 rfl ?_
  refine r_callU_1 dX11_tells_18 kX11_33 (V_X8_lets_4 hx pa (tells0V_le (ranT_le ht))) (gRecv.of pa.2.2.1 rfl) rfl rfl (Nat.le_of_ble_eq_true rfl) ?_
  refine r_isub dX11_tells_21 ?_
  refine e_iret dX11_tells_22 rfl ?_
  exact ⟨rfl, rfl⟩
theorem V_X7_lets_5 {d : Nat} {h : Hp} (hx : LayX (hS h) (hR h)) {a p : Nat} {m : Int32} (pa : PAt h a p 5 m) {t : TR} (ht : t.2 ≤ 40) {x : Int32} : gC (d + 1) (0) (0) m_X7_lets [.ref a, .int x] (XV h t) (Ret (some (.int ((x + nI p, ranT t (nI 10))).1)) (XV h ((x + nI p, ranT t (nI 10))).2)) := by
  refine gC.of (ls := [some (.ref a), some (.int x)]) (by decide +kernel) rfl rfl rfl rfl (Nat.le_of_ble_eq_true rfl) ?_
  refine r_aload_n 0 dX7_lets_0 rfl rfl rfl ?_
  refine r_getr (k := 0) (b := 56) dX7_lets_1 pa.2.2.1 rfl (by decide) (Or.inl q363) (Or.inl rfl) rfl pa.2.2.2.2.1 ?_
  refine r_bipush (v := nI 10) dX7_lets_4 (by decide +kernel) ?_
  refine r_callV_0 dX7_lets_6 kX7_22 (V_begins hx ht) (gRecv.of hx.s56 rfl) rfl rfl (Nat.le_of_ble_eq_true rfl) ?_
  refine r_iload_n 1 dX7_lets_9 rfl rfl ?_
  refine r_aload_n 0 dX7_lets_10 rfl rfl rfl ?_
  refine r_geti (k := 1) dX7_lets_11 pa.2.2.1 rfl (by decide) (Or.inl q376) (Or.inl rfl) rfl ?_
  refine r_eqi (show _ = nI (p) from ((congrFun (XV_far (by have := pa.1; omega) (by have := pa.1; omega)) 1).trans pa.2.2.2.2.2.1)) ?_
  refine r_iadd dX7_lets_14 ?_
  refine e_iret dX7_lets_15 rfl ?_
  exact ⟨rfl, rfl⟩
theorem V_X7_lends_5 {d : Nat} {h : Hp} (hx : LayX (hS h) (hR h)) {a p : Nat} {m : Int32} (pa : PAt h a p 5 m) {t : TR} (ht : t.2 ≤ 40) {x : Int32} : gC (d + 1) (0) (0) m_X7_lends [.ref a, .int x] (XV h t) (Ret (some (.int ((x - m, ranT t (nI 12))).1)) (XV h ((x - m, ranT t (nI 12))).2)) := by
  refine gC.of (ls := [some (.ref a), some (.int x)]) (by decide +kernel) rfl rfl rfl rfl (Nat.le_of_ble_eq_true rfl) ?_
  refine r_aload_n 0 dX7_lends_0 rfl rfl rfl ?_
  refine r_getr (k := 0) (b := 56) dX7_lends_1 pa.2.2.1 rfl (by decide) (Or.inl q363) (Or.inl rfl) rfl pa.2.2.2.2.1 ?_
  refine r_bipush (v := nI 12) dX7_lends_4 (by decide +kernel) ?_
  refine r_callV_0 dX7_lends_6 kX7_22 (V_begins hx ht) (gRecv.of hx.s56 rfl) rfl rfl (Nat.le_of_ble_eq_true rfl) ?_
  refine r_iload_n 1 dX7_lends_9 rfl rfl ?_
  refine r_aload_n 0 dX7_lends_10 rfl rfl rfl ?_
  refine r_geti (k := 2) dX7_lends_11 pa.2.2.1 rfl (by decide) (Or.inl q379) (Or.inl rfl) rfl ?_
  refine r_eqi (show _ = m from ((congrFun (XV_far (by have := pa.1; omega) (by have := pa.1; omega)) 2).trans pa.2.2.2.2.2.2)) ?_
  refine r_isub dX7_lends_14 ?_
  refine e_iret dX7_lends_15 rfl ?_
  exact ⟨rfl, rfl⟩
theorem V_X7_fills_5 {d : Nat} {h : Hp} (hx : LayX (hS h) (hR h)) {a p : Nat} {m : Int32} (pa : PAt h a p 5 m) {t : TR} (ht : t.2 ≤ 40) {x : Int32} : gC (d + 3) (0) (0) m_X7_fills [.ref a, .int x] (XV h t) (Ret (some (.int (fills0V 5 (nI p) x t).1)) (XV h (fills0V 5 (nI p) x t).2)) := by
  refine gC.of (ls := [some (.ref a), some (.int x)]) (by decide +kernel) rfl rfl rfl rfl (Nat.le_of_ble_eq_true rfl) ?_
  refine r_aload_n 0 dX7_fills_0 rfl rfl rfl ?_
  refine r_getr (k := 0) (b := 56) dX7_fills_1 pa.2.2.1 rfl (by decide) (Or.inl q363) (Or.inl rfl) rfl pa.2.2.2.2.1 ?_
  refine r_bipush (v := nI 11) dX7_fills_4 (by decide +kernel) ?_
  refine r_callV_0 dX7_fills_6 kX7_22 (V_begins hx ht) (gRecv.of hx.s56 rfl) rfl rfl (Nat.le_of_ble_eq_true rfl) ?_
  refine r_aload_n 0 dX7_fills_9 rfl rfl rfl ?_
  refine r_iload_n 1 dX7_fills_10 rfl rfl ?_
  refine r_callU_1 dX7_fills_11 kX7_28_X12 (V_X7_lets_5 hx pa (ranT_le ht)) (gRecv.of pa.2.2.1 rfl) rfl rfl (Nat.le_of_ble_eq_true rfl) ?_
  refine r_iconst (v := nI 2) dX7_fills_14 rfl ?_
  refine r_imul dX7_fills_15 ?_
  refine e_iret dX7_fills_16 rfl ?_
  exact ⟨rfl, rfl⟩
theorem V_X9_fills_5 {d : Nat} {h : Hp} (hx : LayX (hS h) (hR h)) {a p : Nat} {m : Int32} (pa : PAt h a p 5 m) {t : TR} (ht : t.2 ≤ 40) {x : Int32} : gC (d + 4) (0) (0) m_X9_fills [.ref a, .int x] (XV h t) (Ret (some (.int (fills2V 5 (nI p) m x t).1)) (XV h (fills2V 5 (nI p) m x t).2)) := by
  refine gC.of (ls := [some (.ref a), some (.int x), none]) (by decide +kernel) rfl rfl rfl rfl (Nat.le_of_ble_eq_true rfl) ?_
  refine r_aload_n 0 dX9_fills_0 rfl rfl rfl ?_
  refine r_getr (k := 0) (b := 56) dX9_fills_1 pa.2.2.1 rfl (by decide) (Or.inl q374) (Or.inr q375) rfl pa.2.2.2.2.1 ?_
  refine r_bipush (v := nI 30) dX9_fills_4 (by decide +kernel) ?_
  refine r_callV_0 dX9_fills_6 kX9_26 (V_begins hx ht) (gRecv.of hx.s56 rfl) rfl rfl (Nat.le_of_ble_eq_true rfl) ?_
  refine r_aload_n 0 dX9_fills_9 rfl rfl rfl ?_
  refine r_iload_n 1 dX9_fills_10 rfl rfl ?_
  refine r_callSU_1 (ci := 12) dX9_fills_11 kX9_32 rfl (V_X7_fills_5 hx pa (ranT_le ht)) (gRecv.of pa.2.2.1 rfl) rfl rfl (Nat.le_of_ble_eq_true rfl) ?_
  refine r_istore_n 2 dX9_fills_14 rfl (by decide) rfl ?_
  refine gG_ls (ls' := [_, _, _]) rfl ?_
  refine r_iload_n 2 dX9_fills_15 rfl rfl ?_
  refine r_aload_n 0 dX9_fills_16 rfl rfl rfl ?_
  refine r_iconst (v := nI 1) dX9_fills_17 rfl ?_
  refine r_callU_1 dX9_fills_18 kX9_36_X12 (V_X7_lends_5 hx pa (fills0V_le (ranT_le ht))) (gRecv.of pa.2.2.1 rfl) rfl rfl (Nat.le_of_ble_eq_true rfl) ?_
  refine r_isub dX9_fills_21 ?_
  refine e_iret dX9_fills_22 rfl ?_
  exact ⟨rfl, rfl⟩
theorem V_X12_fills_5 {d : Nat} {h : Hp} (hx : LayX (hS h) (hR h)) {a p : Nat} {m : Int32} (pa : PAt h a p 5 m) {t : TR} (ht : t.2 ≤ 40) {x : Int32} : gC (d + 5) (0) (0) m_X12_fills [.ref a, .int x] (XV h t) (Ret (some (.int (fillsV 5 5 (nI p) m x t).1)) (XV h (fillsV 5 5 (nI p) m x t).2)) := by
  refine gC.of (ls := [some (.ref a), some (.int x)]) (by decide +kernel) rfl rfl rfl rfl (Nat.le_of_ble_eq_true rfl) ?_
  refine r_aload_n 0 dX12_fills_0 rfl rfl rfl ?_
  refine r_getr (k := 0) (b := 56) dX12_fills_1 pa.2.2.1 rfl (by decide) (Or.inl q372) (Or.inr q373) rfl pa.2.2.2.2.1 ?_
  refine r_bipush (v := nI 60) dX12_fills_4 (by decide +kernel) ?_
  refine r_callV_0 dX12_fills_6 kX12_26 (V_begins hx ht) (gRecv.of hx.s56 rfl) rfl rfl (Nat.le_of_ble_eq_true rfl) ?_
  refine r_aload_n 0 dX12_fills_9 rfl rfl rfl ?_
  refine r_iload_n 1 dX12_fills_10 rfl rfl ?_
  refine r_iconst (v := nI 1) dX12_fills_11 rfl ?_
  refine r_iadd dX12_fills_12 ?_
  refine r_callSU_1 (ci := 12) dX12_fills_13 kX12_32 rfl (V_X9_fills_5 hx pa (ranT_le ht)) (gRecv.of pa.2.2.1 rfl) rfl rfl (Nat.le_of_ble_eq_true rfl) ?_
  refine e_iret dX12_fills_16 rfl ?_
  exact ⟨rfl, rfl⟩
theorem V_X7_tells_5 {d : Nat} {h : Hp} (hx : LayX (hS h) (hR h)) {a p : Nat} {m : Int32} (pa : PAt h a p 5 m) {t : TR} (ht : t.2 ≤ 40) {x : Int32} : gC (d + 6) (0) (0) m_X7_tells [.ref a, .int x] (XV h t) (Ret (some (.int (tells0V 5 (nI p) m x t).1)) (XV h (tells0V 5 (nI p) m x t).2)) := by
  refine gC.of (ls := [some (.ref a), some (.int x), none]) (by decide +kernel) rfl rfl rfl rfl (Nat.le_of_ble_eq_true rfl) ?_
  refine r_aload_n 0 dX7_tells_0 rfl rfl rfl ?_
  refine r_getr (k := 0) (b := 56) dX7_tells_1 pa.2.2.1 rfl (by decide) (Or.inl q363) (Or.inl rfl) rfl pa.2.2.2.2.1 ?_
  refine r_bipush (v := nI 13) dX7_tells_4 (by decide +kernel) ?_
  refine r_callV_0 dX7_tells_6 kX7_22 (V_begins hx ht) (gRecv.of hx.s56 rfl) rfl rfl (Nat.le_of_ble_eq_true rfl) ?_
  refine r_aload_n 0 dX7_tells_9 rfl rfl rfl ?_
  refine r_iload_n 1 dX7_tells_10 rfl rfl ?_
  refine r_callU_1 dX7_tells_11 kX7_32_X12 (V_X12_fills_5 hx pa (ranT_le ht)) (gRecv.of pa.2.2.1 rfl) rfl rfl (Nat.le_of_ble_eq_true rfl) ?_
  refine r_istore_n 2 dX7_tells_14 rfl (by decide) rfl ?_
  refine gG_ls (ls' := [_, _, _]) rfl ?_
  refine r_iload_n 2 dX7_tells_15 rfl rfl ?_
  refine r_aload_n 0 dX7_tells_16 rfl rfl rfl ?_
  refine r_iload_n 1 dX7_tells_17 rfl rfl ?_
  refine r_callU_1 dX7_tells_18 kX7_35_X12 (V_X7_lends_5 hx pa (fillsV_le (ranT_le ht))) (gRecv.of pa.2.2.1 rfl) rfl rfl (Nat.le_of_ble_eq_true rfl) ?_
  refine r_ixor dX7_tells_21 ?_
  refine e_iret dX7_tells_22 rfl ?_
  exact ⟨rfl, rfl⟩
theorem V_X7_lets_6 {d : Nat} {h : Hp} (hx : LayX (hS h) (hR h)) {a p : Nat} {m : Int32} (pa : PAt h a p 6 m) {t : TR} (ht : t.2 ≤ 40) {x : Int32} : gC (d + 1) (0) (0) m_X7_lets [.ref a, .int x] (XV h t) (Ret (some (.int ((x + nI p, ranT t (nI 10))).1)) (XV h ((x + nI p, ranT t (nI 10))).2)) := by
  refine gC.of (ls := [some (.ref a), some (.int x)]) (by decide +kernel) rfl rfl rfl rfl (Nat.le_of_ble_eq_true rfl) ?_
  refine r_aload_n 0 dX7_lets_0 rfl rfl rfl ?_
  refine r_getr (k := 0) (b := 56) dX7_lets_1 pa.2.2.1 rfl (by decide) (Or.inl q363) (Or.inl rfl) rfl pa.2.2.2.2.1 ?_
  refine r_bipush (v := nI 10) dX7_lets_4 (by decide +kernel) ?_
  refine r_callV_0 dX7_lets_6 kX7_22 (V_begins hx ht) (gRecv.of hx.s56 rfl) rfl rfl (Nat.le_of_ble_eq_true rfl) ?_
  refine r_iload_n 1 dX7_lets_9 rfl rfl ?_
  refine r_aload_n 0 dX7_lets_10 rfl rfl rfl ?_
  refine r_geti (k := 1) dX7_lets_11 pa.2.2.1 rfl (by decide) (Or.inl q376) (Or.inl rfl) rfl ?_
  refine r_eqi (show _ = nI (p) from ((congrFun (XV_far (by have := pa.1; omega) (by have := pa.1; omega)) 1).trans pa.2.2.2.2.2.1)) ?_
  refine r_iadd dX7_lets_14 ?_
  refine e_iret dX7_lets_15 rfl ?_
  exact ⟨rfl, rfl⟩
theorem V_X7_lends_6 {d : Nat} {h : Hp} (hx : LayX (hS h) (hR h)) {a p : Nat} {m : Int32} (pa : PAt h a p 6 m) {t : TR} (ht : t.2 ≤ 40) {x : Int32} : gC (d + 1) (0) (0) m_X7_lends [.ref a, .int x] (XV h t) (Ret (some (.int ((x - m, ranT t (nI 12))).1)) (XV h ((x - m, ranT t (nI 12))).2)) := by
  refine gC.of (ls := [some (.ref a), some (.int x)]) (by decide +kernel) rfl rfl rfl rfl (Nat.le_of_ble_eq_true rfl) ?_
  refine r_aload_n 0 dX7_lends_0 rfl rfl rfl ?_
  refine r_getr (k := 0) (b := 56) dX7_lends_1 pa.2.2.1 rfl (by decide) (Or.inl q363) (Or.inl rfl) rfl pa.2.2.2.2.1 ?_
  refine r_bipush (v := nI 12) dX7_lends_4 (by decide +kernel) ?_
  refine r_callV_0 dX7_lends_6 kX7_22 (V_begins hx ht) (gRecv.of hx.s56 rfl) rfl rfl (Nat.le_of_ble_eq_true rfl) ?_
  refine r_iload_n 1 dX7_lends_9 rfl rfl ?_
  refine r_aload_n 0 dX7_lends_10 rfl rfl rfl ?_
  refine r_geti (k := 2) dX7_lends_11 pa.2.2.1 rfl (by decide) (Or.inl q379) (Or.inl rfl) rfl ?_
  refine r_eqi (show _ = m from ((congrFun (XV_far (by have := pa.1; omega) (by have := pa.1; omega)) 2).trans pa.2.2.2.2.2.2)) ?_
  refine r_isub dX7_lends_14 ?_
  refine e_iret dX7_lends_15 rfl ?_
  exact ⟨rfl, rfl⟩
theorem V_X10_lends_6 {d : Nat} {h : Hp} (hx : LayX (hS h) (hR h)) {a p : Nat} {m : Int32} (pa : PAt h a p 6 m) {t : TR} (ht : t.2 ≤ 40) {x : Int32} : gC (d + 2) (0) (0) m_X10_lends [.ref a, .int x] (XV h t) (Ret (some (.int ((-(x - m), ranT (ranT t (nI 40)) (nI 12))).1)) (XV h ((-(x - m), ranT (ranT t (nI 40)) (nI 12))).2)) := by
  refine gC.of (ls := [some (.ref a), some (.int x)]) (by decide +kernel) rfl rfl rfl rfl (Nat.le_of_ble_eq_true rfl) ?_
  refine r_aload_n 0 dX10_lends_0 rfl rfl rfl ?_
  refine r_getr (k := 0) (b := 56) dX10_lends_1 pa.2.2.1 rfl (by decide) (Or.inl q364) (Or.inr q365) rfl pa.2.2.2.2.1 ?_
  refine r_bipush (v := nI 40) dX10_lends_4 (by decide +kernel) ?_
  refine r_callV_0 dX10_lends_6 kX10_19 (V_begins hx ht) (gRecv.of hx.s56 rfl) rfl rfl (Nat.le_of_ble_eq_true rfl) ?_
  refine r_aload_n 0 dX10_lends_9 rfl rfl rfl ?_
  refine r_iload_n 1 dX10_lends_10 rfl rfl ?_
  refine r_callSU_1 (ci := 13) dX10_lends_11 kX10_25 rfl (V_X7_lends_6 hx pa (ranT_le ht)) (gRecv.of pa.2.2.1 rfl) rfl rfl (Nat.le_of_ble_eq_true rfl) ?_
  refine r_ineg dX10_lends_14 ?_
  refine e_iret dX10_lends_15 rfl ?_
  exact ⟨rfl, rfl⟩
theorem V_X13_lends_6 {d : Nat} {h : Hp} (hx : LayX (hS h) (hR h)) {a p : Nat} {m : Int32} (pa : PAt h a p 6 m) {t : TR} (ht : t.2 ≤ 40) {x : Int32} : gC (d + 3) (0) (0) m_X13_lends [.ref a, .int x] (XV h t) (Ret (some (.int (lendsV 6 (nI p) m x t).1)) (XV h (lendsV 6 (nI p) m x t).2)) := by
  refine gC.of (ls := [some (.ref a), some (.int x)]) (by decide +kernel) rfl rfl rfl rfl (Nat.le_of_ble_eq_true rfl) ?_
  refine r_aload_n 0 dX13_lends_0 rfl rfl rfl ?_
  refine r_getr (k := 0) (b := 56) dX13_lends_1 pa.2.2.1 rfl (by decide) (Or.inl q366) (Or.inr q367) rfl pa.2.2.2.2.1 ?_
  refine r_bipush (v := nI 70) dX13_lends_4 (by decide +kernel) ?_
  refine r_callV_0 dX13_lends_6 kX13_27 (V_begins hx ht) (gRecv.of hx.s56 rfl) rfl rfl (Nat.le_of_ble_eq_true rfl) ?_
  refine r_aload_n 0 dX13_lends_9 rfl rfl rfl ?_
  refine r_iload_n 1 dX13_lends_10 rfl rfl ?_
  refine r_callSU_1 (ci := 13) dX13_lends_11 kX13_33 rfl (V_X10_lends_6 hx pa (ranT_le ht)) (gRecv.of pa.2.2.1 rfl) rfl rfl (Nat.le_of_ble_eq_true rfl) ?_
  refine r_aload_n 0 dX13_lends_14 rfl rfl rfl ?_
  refine r_geti (k := 1) dX13_lends_15 pa.2.2.1 rfl (by decide) (Or.inl q377) (Or.inr q378) rfl ?_
  refine r_eqi (show _ = nI (p) from ((congrFun (XV_far (by have := pa.1; omega) (by have := pa.1; omega)) 1).trans pa.2.2.2.2.2.1)) ?_
  refine r_ixor dX13_lends_18 ?_
  refine e_iret dX13_lends_19 rfl ?_
  exact ⟨rfl, rfl⟩
theorem V_X7_fills_6 {d : Nat} {h : Hp} (hx : LayX (hS h) (hR h)) {a p : Nat} {m : Int32} (pa : PAt h a p 6 m) {t : TR} (ht : t.2 ≤ 40) {x : Int32} : gC (d + 3) (0) (0) m_X7_fills [.ref a, .int x] (XV h t) (Ret (some (.int (fills0V 6 (nI p) x t).1)) (XV h (fills0V 6 (nI p) x t).2)) := by
  refine gC.of (ls := [some (.ref a), some (.int x)]) (by decide +kernel) rfl rfl rfl rfl (Nat.le_of_ble_eq_true rfl) ?_
  refine r_aload_n 0 dX7_fills_0 rfl rfl rfl ?_
  refine r_getr (k := 0) (b := 56) dX7_fills_1 pa.2.2.1 rfl (by decide) (Or.inl q363) (Or.inl rfl) rfl pa.2.2.2.2.1 ?_
  refine r_bipush (v := nI 11) dX7_fills_4 (by decide +kernel) ?_
  refine r_callV_0 dX7_fills_6 kX7_22 (V_begins hx ht) (gRecv.of hx.s56 rfl) rfl rfl (Nat.le_of_ble_eq_true rfl) ?_
  refine r_aload_n 0 dX7_fills_9 rfl rfl rfl ?_
  refine r_iload_n 1 dX7_fills_10 rfl rfl ?_
  refine r_callU_1 dX7_fills_11 kX7_28_X13 (V_X7_lets_6 hx pa (ranT_le ht)) (gRecv.of pa.2.2.1 rfl) rfl rfl (Nat.le_of_ble_eq_true rfl) ?_
  refine r_iconst (v := nI 2) dX7_fills_14 rfl ?_
  refine r_imul dX7_fills_15 ?_
  refine e_iret dX7_fills_16 rfl ?_
  exact ⟨rfl, rfl⟩
theorem V_X7_tells_6 {d : Nat} {h : Hp} (hx : LayX (hS h) (hR h)) {a p : Nat} {m : Int32} (pa : PAt h a p 6 m) {t : TR} (ht : t.2 ≤ 40) {x : Int32} : gC (d + 6) (0) (0) m_X7_tells [.ref a, .int x] (XV h t) (Ret (some (.int (tells0V 6 (nI p) m x t).1)) (XV h (tells0V 6 (nI p) m x t).2)) := by
  refine gC.of (ls := [some (.ref a), some (.int x), none]) (by decide +kernel) rfl rfl rfl rfl (Nat.le_of_ble_eq_true rfl) ?_
  refine r_aload_n 0 dX7_tells_0 rfl rfl rfl ?_
  refine r_getr (k := 0) (b := 56) dX7_tells_1 pa.2.2.1 rfl (by decide) (Or.inl q363) (Or.inl rfl) rfl pa.2.2.2.2.1 ?_
  refine r_bipush (v := nI 13) dX7_tells_4 (by decide +kernel) ?_
  refine r_callV_0 dX7_tells_6 kX7_22 (V_begins hx ht) (gRecv.of hx.s56 rfl) rfl rfl (Nat.le_of_ble_eq_true rfl) ?_
  refine r_aload_n 0 dX7_tells_9 rfl rfl rfl ?_
  refine r_iload_n 1 dX7_tells_10 rfl rfl ?_
  refine r_callU_1 dX7_tells_11 kX7_32_X13 (V_X7_fills_6 hx pa (ranT_le ht)) (gRecv.of pa.2.2.1 rfl) rfl rfl (Nat.le_of_ble_eq_true rfl) ?_
  refine r_istore_n 2 dX7_tells_14 rfl (by decide) rfl ?_
  refine gG_ls (ls' := [_, _, _]) rfl ?_
  refine r_iload_n 2 dX7_tells_15 rfl rfl ?_
  refine r_aload_n 0 dX7_tells_16 rfl rfl rfl ?_
  refine r_iload_n 1 dX7_tells_17 rfl rfl ?_
  refine r_callU_1 dX7_tells_18 kX7_35_X13 (V_X13_lends_6 hx pa (fills0V_le (ranT_le ht))) (gRecv.of pa.2.2.1 rfl) rfl rfl (Nat.le_of_ble_eq_true rfl) ?_
  refine r_ixor dX7_tells_21 ?_
  refine e_iret dX7_tells_22 rfl ?_
  exact ⟨rfl, rfl⟩
