theorem X_sheetAt_n {d : Nat} {h : Hp} (hx : LayX (hS h) (hR h)) {s : Nat} (hs : s < 4) (h0 : hR h (62 + s) 0 = none) : gC (d + 3) (0) (0) m_X0_sheetAt [.ref 21, .int (nI s)] (h) ((fun out h' => out = .inr 22 ∧ h' = wI h 22 6 (nI 2))) := by
  refine gC.of (ls := [some (.ref 21), some (.int (nI s))]) (by decide +kernel) rfl rfl rfl rfl (Nat.le_of_ble_eq_true rfl) ?_
  refine r_aload_n 0 dX0_sheetAt_0 rfl rfl rfl ?_
  refine r_aload_n 0 dX0_sheetAt_1 rfl rfl rfl ?_
  refine r_getr (k := 7) (b := 59) dX0_sheetAt_2 hx.s21 rfl (by decide) (Or.inl q312) (Or.inl rfl) rfl hx.r_sheets ?_
  refine r_iload_n 1 dX0_sheetAt_5 rfl rfl ?_
  refine r_aaldN (s) (b := (62 + s)) dX0_sheetAt_6 hx.s59 (by decide) rfl (by omega) (by decide) (hx.shs hs).2 (by omega) ?_
  refine r_getn (k := 0) dX0_sheetAt_7 (hx.shs hs).1 rfl (by decide) (Or.inr ⟨_, q300⟩) (Or.inl rfl) rfl h0 ?_
  refine r_ifnull_t 17 dX0_sheetAt_10 (by decide) ?_
  refine r_iconst (v := nI 0) dX0_sheetAt_17 rfl ?_
  refine r_iconst (v := nI 2) dX0_sheetAt_18 rfl ?_
  refine r_need0 dX0_sheetAt_19 rfl (by exact hx) (Nat.le_of_ble_eq_true rfl) ?_
  refine t_out (hx).s22 rfl rfl ?_
  exact ⟨rfl, rfl⟩
theorem X_sheetAt_s {d : Nat} {h : Hp} (hx : LayX (hS h) (hR h)) {s : Nat} (hs : s < 4) {a A t n : Nat} {bt : Int32} (h0 : hR h (62 + s) 0 = some a) (so : ShO h a A t n bt) : gC (d + 3) (0) (0) m_X0_sheetAt [.ref 21, .int (nI s)] (h) (Ret (some (.ref a)) h) := by
  refine gC.of (ls := [some (.ref 21), some (.int (nI s))]) (by decide +kernel) rfl rfl rfl rfl (Nat.le_of_ble_eq_true rfl) ?_
  have ha := so.1
  refine r_aload_n 0 dX0_sheetAt_0 rfl rfl rfl ?_
  refine r_aload_n 0 dX0_sheetAt_1 rfl rfl rfl ?_
  refine r_getr (k := 7) (b := 59) dX0_sheetAt_2 hx.s21 rfl (by decide) (Or.inl q312) (Or.inl rfl) rfl hx.r_sheets ?_
  refine r_iload_n 1 dX0_sheetAt_5 rfl rfl ?_
  refine r_aaldN (s) (b := (62 + s)) dX0_sheetAt_6 hx.s59 (by decide) rfl (by omega) (by decide) (hx.shs hs).2 (by omega) ?_
  refine r_getr (k := 0) (b := a) dX0_sheetAt_7 (hx.shs hs).1 rfl (by decide) (Or.inr ⟨_, q300⟩) (Or.inl rfl) rfl h0 ?_
  refine r_ifnull_f dX0_sheetAt_10 (by omega) ?_
  refine r_iconst (v := nI 1) dX0_sheetAt_13 rfl ?_
  refine r_goto 18 dX0_sheetAt_14 (by decide) ?_
  refine r_iconst (v := nI 2) dX0_sheetAt_18 rfl ?_
  refine r_need1 dX0_sheetAt_19 rfl (by exact hx) (Nat.le_of_ble_eq_true rfl) ?_
  refine r_aload_n 0 dX0_sheetAt_22 rfl rfl rfl ?_
  refine r_getr (k := 7) (b := 59) dX0_sheetAt_23 hx.s21 rfl (by decide) (Or.inl q312) (Or.inl rfl) rfl hx.r_sheets ?_
  refine r_iload_n 1 dX0_sheetAt_26 rfl rfl ?_
  refine r_aaldN (s) (b := (62 + s)) dX0_sheetAt_27 hx.s59 (by decide) rfl (by omega) (by decide) (hx.shs hs).2 (by omega) ?_
  refine r_getr (k := 0) (b := a) dX0_sheetAt_28 (hx.shs hs).1 rfl (by decide) (Or.inr ⟨_, q300⟩) (Or.inl rfl) rfl h0 ?_
  refine r_castSh rfl dX0_sheetAt_31 so ?_
  refine e_aret dX0_sheetAt_34 rfl (Or.inl ⟨_, rfl⟩) rfl ?_
  exact ⟨rfl, rfl⟩
theorem r_sheetAt_n {d mc ms : Nat} {M : gM} {pc : Nat} {ls : gLs} {st : List Value} {h : Hp} {Q : gQ} {s : Nat} (hM : mOwn M = RX0) (dc : decode (mC M) pc = .ok (.invokevirtual 258, 3)) (hx : LayX (hS h) (hR h)) (hs : s < 4) (h0 : hR h (62 + s) 0 = none) (hcat : (st.map fun v => v.category).sum ≤ 8) (kk : gTh (d + 4) mc ms M pc ls 22 (wI h 22 6 (nI 2)) Q) : gG (d + 4) mc ms M pc ls (.int (nI s) :: .ref 21 :: st) h Q :=
  r_callV (mc1 := 0) (ms1 := 0) dc (by rw [hM]; exact kX0_258) (X_sheetAt_n hx hs h0) (gRecv.of hx.s21 rfl) rfl rfl hcat (fun v h' e => by cases e.1) (fun a h' e => by obtain ⟨e1, e2⟩ := e; cases e1; subst e2; exact kk)
theorem r_sheetAt_s {d mc ms : Nat} {M : gM} {pc : Nat} {ls : gLs} {st : List Value} {h : Hp} {Q : gQ} {s a A t n : Nat} {bt : Int32} (hM : mOwn M = RX0) (dc : decode (mC M) pc = .ok (.invokevirtual 258, 3)) (hx : LayX (hS h) (hR h)) (hs : s < 4) (h0 : hR h (62 + s) 0 = some a) (so : ShO h a A t n bt) (hcat : (st.map fun v => v.category).sum ≤ 8) (kk : gG (d + 4) mc ms M (pc + 3) ls (.ref a :: st) h Q) : gG (d + 4) mc ms M pc ls (.int (nI s) :: .ref 21 :: st) h Q :=
  r_callV_1 dc (by rw [hM]; exact kX0_258) (X_sheetAt_s hx hs h0 so) (gRecv.of hx.s21 rfl) rfl rfl hcat kk
