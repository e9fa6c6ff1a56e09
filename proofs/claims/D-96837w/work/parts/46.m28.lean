theorem V_X13_tells_6 {d : Nat} {h : Hp} (hx : LayX (hS h) (hR h)) {a p : Nat} {m : Int32} (pa : PAt h a p 6 m) {t : TR} (ht : t.2 ≤ 40) {x : Int32} : gC (d + 7) (0) (0) m_X13_tells [.ref a, .int x] (XV h t) (Ret (some (.int (tells6V 6 (nI p) m x t).1)) (XV h (tells6V 6 (nI p) m x t).2)) := by
  refine gC.of (ls := [some (.ref a), some (.int x), none]) (by decide +kernel) rfl rfl rfl rfl (Nat.le_of_ble_eq_true rfl) ?_
  refine r_aload_n 0 dX13_tells_0 rfl rfl rfl ?_
  refine r_getr (k := 0) (b := 56) dX13_tells_1 pa.2.2.1 rfl (by decide) (Or.inl q366) (Or.inr q367) rfl pa.2.2.2.2.1 ?_
  refine r_bipush (v := nI 71) dX13_tells_4 (by decide +kernel) ?_
  refine r_callV_0 dX13_tells_6 kX13_27 (V_begins hx ht) (gRecv.of hx.s56 rfl) rfl rfl (Nat.le_of_ble_eq_true rfl) ?_
  refine r_aload_n 0 dX13_tells_9 rfl rfl rfl ?_
  refine r_iload_n 1 dX13_tells_10 rfl rfl ?_
  refine r_callU_1 dX13_tells_11 kX13_40 (V_X7_fills_6 hx pa (ranT_le ht)) (gRecv.of pa.2.2.1 rfl) rfl rfl (Nat.le_of_ble_eq_true rfl) ?_
  refine r_istore_n 2 dX13_tells_14 rfl (by decide) rfl ?_
  refine gG_ls (ls' := [_, _, _]) rfl ?_
  refine r_iload_n 2 dX13_tells_15 rfl rfl ?_
  refine r_aload_n 0 dX13_tells_16 rfl rfl rfl ?_
  refine r_iload_n 1 dX13_tells_17 rfl rfl ?_
  refine r_callSX_1 (ci := 13) dX13_tells_18 kX13_43 rfl (V_X7_tells_6 hx pa (fills0V_le (ranT_le ht))) (gRecv.of pa.2.2.1 rfl) rfl rfl (Nat.le_of_ble_eq_true rfl) ?_
  refine r_isub dX13_tells_21 ?_
  refine e_iret dX13_tells_22 rfl ?_
  have e1 : fillsV 6 6 (nI p) m x (ranT t (nI 71)) = fills0V 6 (nI p) x (ranT t (nI 71)) := rfl
  unfold tells6V
  rw [e1]
  refine ⟨?_, ?_⟩ <;> dsimp only
theorem r_lets_X0 {d mc ms : Nat} {M : gM} {pc count : Nat} {ls : gLs} {st : List Value} {h : Hp} {Q : gQ} {a p k : Nat} {m x : Int32} {t : TR} (hx : LayX (hS h) (hR h)) (hM : mOwn M = RX0) (dc : decode (mC M) pc = .ok (.invokeinterface 319 count, 5)) (pa : PAt h a p k m) (ht : t.2 ≤ 40) (hcat : (st.map fun v => v.category).sum ≤ 8) (kk : gG (d + 8) mc ms M (pc + 5) ls (.int (letsV k (nI p) x t).1 :: st) (XV h (letsV k (nI p) x t).2) Q) : gG (d + 8) mc ms M pc ls (.int x :: .ref a :: st) (XV h t) Q := by
  have h4 := pa.2.2.2.1
  rcases (show k = 0 ∨ k = 1 ∨ k = 2 ∨ k = 3 ∨ k = 4 ∨ k = 5 ∨ k = 6 by omega) with rfl | rfl | rfl | rfl | rfl | rfl | rfl
  · exact r_callF_1 (ci := 7) dc (by rw [hM]; exact kX0_319_X7) rfl (V_X7_lets_0 hx pa ht) (gRecv.of pa.2.2.1 rfl) rfl rfl hcat kk
  · exact r_callF_1 (ci := 8) dc (by rw [hM]; exact kX0_319_X8) rfl (V_X8_lets_1 hx pa ht) (gRecv.of pa.2.2.1 rfl) rfl rfl hcat kk
  · exact r_callF_1 (ci := 9) dc (by rw [hM]; exact kX0_319_X9) rfl (V_X7_lets_2 hx pa ht) (gRecv.of pa.2.2.1 rfl) rfl rfl hcat kk
  · exact r_callF_1 (ci := 10) dc (by rw [hM]; exact kX0_319_X10) rfl (V_X7_lets_3 hx pa ht) (gRecv.of pa.2.2.1 rfl) rfl rfl hcat kk
  · exact r_callF_1 (ci := 11) dc (by rw [hM]; exact kX0_319_X11) rfl (V_X8_lets_4 hx pa ht) (gRecv.of pa.2.2.1 rfl) rfl rfl hcat kk
  · exact r_callF_1 (ci := 12) dc (by rw [hM]; exact kX0_319_X12) rfl (V_X7_lets_5 hx pa ht) (gRecv.of pa.2.2.1 rfl) rfl rfl hcat kk
  · exact r_callF_1 (ci := 13) dc (by rw [hM]; exact kX0_319_X13) rfl (V_X7_lets_6 hx pa ht) (gRecv.of pa.2.2.1 rfl) rfl rfl hcat kk
theorem r_fills_X0 {d mc ms : Nat} {M : gM} {pc count : Nat} {ls : gLs} {st : List Value} {h : Hp} {Q : gQ} {a p k : Nat} {m x : Int32} {t : TR} (hx : LayX (hS h) (hR h)) (hM : mOwn M = RX0) (dc : decode (mC M) pc = .ok (.invokeinterface 324 count, 5)) (pa : PAt h a p k m) (ht : t.2 ≤ 40) (hcat : (st.map fun v => v.category).sum ≤ 8) (kk : gG (d + 8) mc ms M (pc + 5) ls (.int (fillsV k k (nI p) m x t).1 :: st) (XV h (fillsV k k (nI p) m x t).2) Q) : gG (d + 8) mc ms M pc ls (.int x :: .ref a :: st) (XV h t) Q := by
  have h4 := pa.2.2.2.1
  rcases (show k = 0 ∨ k = 1 ∨ k = 2 ∨ k = 3 ∨ k = 4 ∨ k = 5 ∨ k = 6 by omega) with rfl | rfl | rfl | rfl | rfl | rfl | rfl
  · exact r_callF_1 (ci := 7) dc (by rw [hM]; exact kX0_324_X7) rfl (V_X7_fills_0 hx pa ht) (gRecv.of pa.2.2.1 rfl) rfl rfl hcat kk
  · exact r_callF_1 (ci := 8) dc (by rw [hM]; exact kX0_324_X8) rfl (V_X7_fills_1 hx pa ht) (gRecv.of pa.2.2.1 rfl) rfl rfl hcat kk
  · exact r_callF_1 (ci := 9) dc (by rw [hM]; exact kX0_324_X9) rfl (V_X9_fills_2 hx pa ht) (gRecv.of pa.2.2.1 rfl) rfl rfl hcat kk
  · exact r_callF_1 (ci := 10) dc (by rw [hM]; exact kX0_324_X10) rfl (V_X7_fills_3 hx pa ht) (gRecv.of pa.2.2.1 rfl) rfl rfl hcat kk
  · exact r_callF_1 (ci := 11) dc (by rw [hM]; exact kX0_324_X11) rfl (V_X7_fills_4 hx pa ht) (gRecv.of pa.2.2.1 rfl) rfl rfl hcat kk
  · exact r_callF_1 (ci := 12) dc (by rw [hM]; exact kX0_324_X12) rfl (V_X12_fills_5 hx pa ht) (gRecv.of pa.2.2.1 rfl) rfl rfl hcat kk
  · exact r_callF_1 (ci := 13) dc (by rw [hM]; exact kX0_324_X13) rfl (V_X7_fills_6 hx pa ht) (gRecv.of pa.2.2.1 rfl) rfl rfl hcat kk
theorem r_lends_X0 {d mc ms : Nat} {M : gM} {pc count : Nat} {ls : gLs} {st : List Value} {h : Hp} {Q : gQ} {a p k : Nat} {m x : Int32} {t : TR} (hx : LayX (hS h) (hR h)) (hM : mOwn M = RX0) (dc : decode (mC M) pc = .ok (.invokeinterface 329 count, 5)) (pa : PAt h a p k m) (ht : t.2 ≤ 40) (hcat : (st.map fun v => v.category).sum ≤ 8) (kk : gG (d + 8) mc ms M (pc + 5) ls (.int (lendsV k (nI p) m x t).1 :: st) (XV h (lendsV k (nI p) m x t).2) Q) : gG (d + 8) mc ms M pc ls (.int x :: .ref a :: st) (XV h t) Q := by
  have h4 := pa.2.2.2.1
  rcases (show k = 0 ∨ k = 1 ∨ k = 2 ∨ k = 3 ∨ k = 4 ∨ k = 5 ∨ k = 6 by omega) with rfl | rfl | rfl | rfl | rfl | rfl | rfl
  · exact r_callF_1 (ci := 7) dc (by rw [hM]; exact kX0_329_X7) rfl (V_X7_lends_0 hx pa ht) (gRecv.of pa.2.2.1 rfl) rfl rfl hcat kk
  · exact r_callF_1 (ci := 8) dc (by rw [hM]; exact kX0_329_X8) rfl (V_X7_lends_1 hx pa ht) (gRecv.of pa.2.2.1 rfl) rfl rfl hcat kk
  · exact r_callF_1 (ci := 9) dc (by rw [hM]; exact kX0_329_X9) rfl (V_X7_lends_2 hx pa ht) (gRecv.of pa.2.2.1 rfl) rfl rfl hcat kk
  · exact r_callF_1 (ci := 10) dc (by rw [hM]; exact kX0_329_X10) rfl (V_X10_lends_3 hx pa ht) (gRecv.of pa.2.2.1 rfl) rfl rfl hcat kk
  · exact r_callF_1 (ci := 11) dc (by rw [hM]; exact kX0_329_X11) rfl (V_X7_lends_4 hx pa ht) (gRecv.of pa.2.2.1 rfl) rfl rfl hcat kk
  · exact r_callF_1 (ci := 12) dc (by rw [hM]; exact kX0_329_X12) rfl (V_X7_lends_5 hx pa ht) (gRecv.of pa.2.2.1 rfl) rfl rfl hcat kk
  · exact r_callF_1 (ci := 13) dc (by rw [hM]; exact kX0_329_X13) rfl (V_X13_lends_6 hx pa ht) (gRecv.of pa.2.2.1 rfl) rfl rfl hcat kk
theorem r_tells_X0 {d mc ms : Nat} {M : gM} {pc count : Nat} {ls : gLs} {st : List Value} {h : Hp} {Q : gQ} {a p k : Nat} {m x : Int32} {t : TR} (hx : LayX (hS h) (hR h)) (hM : mOwn M = RX0) (dc : decode (mC M) pc = .ok (.invokeinterface 334 count, 5)) (pa : PAt h a p k m) (ht : t.2 ≤ 40) (hcat : (st.map fun v => v.category).sum ≤ 8) (kk : gG (d + 8) mc ms M (pc + 5) ls (.int (tellsV k k (nI p) m x t).1 :: st) (XV h (tellsV k k (nI p) m x t).2) Q) : gG (d + 8) mc ms M pc ls (.int x :: .ref a :: st) (XV h t) Q := by
  have h4 := pa.2.2.2.1
  rcases (show k = 0 ∨ k = 1 ∨ k = 2 ∨ k = 3 ∨ k = 4 ∨ k = 5 ∨ k = 6 by omega) with rfl | rfl | rfl | rfl | rfl | rfl | rfl
  · exact r_callF_1 (ci := 7) dc (by rw [hM]; exact kX0_334_X7) rfl (V_X7_tells_0 hx pa ht) (gRecv.of pa.2.2.1 rfl) rfl rfl hcat kk
  · exact r_callF_1 (ci := 8) dc (by rw [hM]; exact kX0_334_X8) rfl (V_X7_tells_1 hx pa ht) (gRecv.of pa.2.2.1 rfl) rfl rfl hcat kk
  · exact r_callF_1 (ci := 9) dc (by rw [hM]; exact kX0_334_X9) rfl (V_X7_tells_2 hx pa ht) (gRecv.of pa.2.2.1 rfl) rfl rfl hcat kk
  · exact r_callF_1 (ci := 10) dc (by rw [hM]; exact kX0_334_X10) rfl (V_X7_tells_3 hx pa ht) (gRecv.of pa.2.2.1 rfl) rfl rfl hcat kk
  · exact r_callF_1 (ci := 11) dc (by rw [hM]; exact kX0_334_X11) rfl (V_X11_tells_4 hx pa ht) (gRecv.of pa.2.2.1 rfl) rfl rfl hcat kk
  · exact r_callF_1 (ci := 12) dc (by rw [hM]; exact kX0_334_X12) rfl (V_X7_tells_5 hx pa ht) (gRecv.of pa.2.2.1 rfl) rfl rfl hcat kk
  · exact r_callF_1 (ci := 13) dc (by rw [hM]; exact kX0_334_X13) rfl (V_X13_tells_6 hx pa ht) (gRecv.of pa.2.2.1 rfl) rfl rfl hcat kk
theorem X_voice {d : Nat} {h : Hp} {S : MSt} (hX : CX h S) (w : WF S.r) {p a x : Int32} : gC (d + 409) (0) (0) m_X0_voice [.ref 21, .int p, .int a, .int x] (h) (RX h (aVoice S p a x)) := by
  have e_0 : aVoice S p a x = (if inB p 0 (S.r 2 - 1) = true then (if inB a (nI 0) (nI 3) = true then vcR S (voiceV (toN a) (kindN S.r (toN p)) p (pv S.r (toN p) 1) x (S.traced, 0)) else errA S (-1000000001) 1) else errA S (-1000000001) 1) := rfl
  rw [e_0]
  have hn8 := w.n8
  have hx := hX.hx
  have hl := hX.hl
  have hb : 21 ≤ 23 ∧ 23 + 10 < 78 := by decide
  have hn : S.r 2 = nI (np S.r) := w.n
  have lw := hX.lw
  have Vr := w.V
  have K := w.K
  refine gC.ofH (ls := [some (.ref 21), some (.int p), some (.int a), some (.int x), none]) (by decide +kernel) rfl rfl rfl rfl (Nat.le_of_ble_eq_true rfl) ?_
  refine gG_h hX.lg ?_
  refine r_aload_n 0 dX0_voice_0 rfl rfl rfl ?_
  refine r_iload_n 1 dX0_voice_1 rfl rfl ?_
  refine r_iload_n 2 dX0_voice_2 rfl rfl ?_
  refine r_iconst (v := nI 0) dX0_voice_3 rfl ?_
  refine r_iconst (v := nI 3) dX0_voice_4 rfl ?_
  refine r_callS_1 dX0_voice_5 kX0_86 (X_in)  rfl rfl (Nat.le_of_ble_eq_true rfl) ?_
  refine r_personAt dX0_voice_8 kX0_135 (by exact hx) (by exact hl) lw w (Nat.le_of_ble_eq_true rfl) (fun k a q9 e_p h_k n_p n_c ha hq9 pa => ?_) (fun n_p => ?_) (fun n_p n_c => ?_)
  · skip
    rw [ifT n_p, ifT n_c]
    subst e_p
    have e_k : toN (nI k) = k := toN_nI (by omega)
    try simp only [e_k]
    have h79 := pa.2.2.2.1
    refine gG_h hX.lg.symm ?_
    rw [kindN_of hq9 h79]
    refine r_astore dX0_voice_11 (by decide) rfl rfl ?_
    refine gG_ls (ls' := [_, _, _, _, _]) rfl ?_
    refine r_aload_n 0 dX0_voice_13 rfl rfl rfl ?_
    refine r_getr (k := 5) (b := 56) dX0_voice_14 hx.s21 rfl (by decide) (Or.inl q310) (Or.inl rfl) rfl hx.r_trace ?_
    refine r_iconst (v := nI 0) dX0_voice_17 rfl ?_
    refine r_puti (k := 1) dX0_voice_18 hx.s56 rfl (by decide) (Or.inr ⟨_, q287⟩) (Or.inl rfl) (Or.inl rfl) rfl rfl rfl ?_
    refine gG_h XV_of ?_
    refine r_iload_n 2 dX0_voice_21 rfl rfl ?_
    obtain ⟨c, h_c, rfl⟩ := inB_n (by decide) n_c
    have e_c : toN (nI c) = c := toN_nI (by omega)
    simp only [e_c]
    rcases (show c = 0 ∨ c = 1 ∨ c = 2 ∨ c = 3 by omega) with rfl | rfl | rfl | rfl
    · skip
      refine r_tabIn 48 (off := 26) dX0_voice_22 (by decide) (by decide) (by decide +kernel) (by decide) ?_
      refine r_aload dX0_voice_48 rfl rfl ?_
      refine r_iload_n 3 dX0_voice_50 rfl rfl ?_
      refine r_lets_X0 (t := (hI h 57, 0)) (by exact hx) rfl dX0_voice_51 pa (by show 0 ≤ 40; omega) (Nat.le_of_ble_eq_true rfl) ?_
      refine e_iret dX0_voice_56 rfl ?_
      exact rx_voice hX (a := 0) (vk := q9) (n := nI k) (m := pv S.r k 1) (v := x) (q := letsV q9 (nI k) x (hI h 57, 0)) (voiceV_e (a := 0) (vk := q9) (trE0 hX))
    · skip
      refine r_tabIn 57 (off := 35) dX0_voice_22 (by decide) (by decide) (by decide +kernel) (by decide) ?_
      refine r_aload dX0_voice_57 rfl rfl ?_
      refine r_iload_n 3 dX0_voice_59 rfl rfl ?_
      refine r_fills_X0 (t := (hI h 57, 0)) (by exact hx) rfl dX0_voice_60 pa (by show 0 ≤ 40; omega) (Nat.le_of_ble_eq_true rfl) ?_
      refine e_iret dX0_voice_65 rfl ?_
      exact rx_voice hX (a := 1) (vk := q9) (n := nI k) (m := pv S.r k 1) (v := x) (q := fillsV q9 q9 (nI k) (pv S.r k 1) x (hI h 57, 0)) (voiceV_e (a := 1) (vk := q9) (trE0 hX))
    · skip
      refine r_tabIn 66 (off := 44) dX0_voice_22 (by decide) (by decide) (by decide +kernel) (by decide) ?_
      refine r_aload dX0_voice_66 rfl rfl ?_
      refine r_iload_n 3 dX0_voice_68 rfl rfl ?_
      refine r_lends_X0 (t := (hI h 57, 0)) (by exact hx) rfl dX0_voice_69 pa (by show 0 ≤ 40; omega) (Nat.le_of_ble_eq_true rfl) ?_
      refine e_iret dX0_voice_74 rfl ?_
      exact rx_voice hX (a := 2) (vk := q9) (n := nI k) (m := pv S.r k 1) (v := x) (q := lendsV q9 (nI k) (pv S.r k 1) x (hI h 57, 0)) (voiceV_e (a := 2) (vk := q9) (trE0 hX))
    · skip
      refine r_tabOut 75 dX0_voice_22 (by decide) (by decide) ?_
      refine r_aload dX0_voice_75 rfl rfl ?_
      refine r_iload_n 3 dX0_voice_77 rfl rfl ?_
      refine r_tells_X0 (t := (hI h 57, 0)) (by exact hx) rfl dX0_voice_78 pa (by show 0 ≤ 40; omega) (Nat.le_of_ble_eq_true rfl) ?_
      refine e_iret dX0_voice_83 rfl ?_
      exact rx_voice hX (a := 3) (vk := q9) (n := nI k) (m := pv S.r k 1) (v := x) (q := tellsV q9 q9 (nI k) (pv S.r k 1) x (hI h 57, 0)) (voiceV_e (a := 3) (vk := q9) (trE0 hX))
  · skip
    rw [ifF n_p]
    refine t_catch [] (0, 56, 84, 8) [(57, 65, 84, 8), (66, 74, 84, 8), (75, 83, 84, 8)] (hx).s22 rfl rfl (fun z hz => by cases hz) rfl (by decide) q126 q128 ?_
    refine r_astore dX0_voice_84 (by decide) rfl rfl ?_
    refine gG_ls (ls' := [_, _, _, _, _]) rfl ?_
    refine r_aload_n 0 dX0_voice_86 rfl rfl rfl ?_
    refine r_aload dX0_voice_87 rfl rfl ?_
    refine r_callV_1 dX0_voice_89 kX0_131 (X_finds (k := 1) (by exact hx) (by decide)) (gRecv.of hx.s21 rfl) rfl rfl (Nat.le_of_ble_eq_true rfl) ?_
    refine e_iret dX0_voice_92 rfl ?_
    exact RX.err hX.self (FrX.lg (by decide)) (by decide) (by decide) (by decide)
  · skip
    rw [ifT n_p, ifF n_c]
    refine t_catch [] (0, 56, 84, 8) [(57, 65, 84, 8), (66, 74, 84, 8), (75, 83, 84, 8)] (hx).s22 rfl rfl (fun z hz => by cases hz) rfl (by decide) q126 q128 ?_
    refine r_astore dX0_voice_84 (by decide) rfl rfl ?_
    refine gG_ls (ls' := [_, _, _, _, _]) rfl ?_
    refine r_aload_n 0 dX0_voice_86 rfl rfl rfl ?_
    refine r_aload dX0_voice_87 rfl rfl ?_
    refine r_callV_1 dX0_voice_89 kX0_131 (X_finds (k := 1) (by exact hx) (by decide)) (gRecv.of hx.s21 rfl) rfl rfl (Nat.le_of_ble_eq_true rfl) ?_
    refine e_iret dX0_voice_92 rfl ?_
    exact RX.err hX.self (FrX.lg (by decide)) (by decide) (by decide) (by decide)
