/-! sheets: the thing at a, its array at A of n things of kind t -/
def ShO (h : Hp) (a A t n : Nat) (bt : Int32) : Prop := 78 ≤ a ∧ a < hN h ∧ hR h a 0 = some A ∧ 78 ≤ A ∧ A < hN h ∧ hS h A = .inr (t, n) ∧ n ≤ 40 ∧ ((hS h a = .inl 22 ∧ t = 1 ∧ bt = nI 8) ∨ (hS h a = .inl 23 ∧ t = 2 ∧ bt = nI 16) ∨ (hS h a = .inl 24 ∧ t = 0 ∧ bt = nI 32))
theorem ShO.si {h : Hp} {f : Nat → Row} {a A t n : Nat} {bt : Int32} (so : ShO h a A t n bt) : ShO (sI h f) a A t n bt := so
theorem ShA.so {h : Hp} {s A : Nat} {bt sz : Int32} {f : Nat → Int32} (k : ShA h s A bt sz f) (hb : ¬ bt = 0) : ∃ a t n, hR h (62 + s) 0 = some a ∧ ShO h a A t n bt ∧ sz = nI n ∧ n ≤ 40 ∧ ∀ i, i < n → hI h A i = f i := by
  rcases k with ⟨k1, k2⟩ | ⟨a, c, t, n, k1, k2, k3, k4, k5, k6, k7, k8, k9, k10, k11, k12⟩
  · exact absurd k1 hb
  · refine ⟨a, t, n, k1, ⟨k2, k3, k5, k6, k7, k8, k10, ?_⟩, k9, k10, k12⟩
    rcases k11 with ⟨rfl, e⟩ | ⟨rfl, e⟩ | ⟨rfl, e⟩
    · exact Or.inl ⟨k4, e⟩
    · exact Or.inr (Or.inl ⟨k4, e⟩)
    · exact Or.inr (Or.inr ⟨k4, e⟩)
theorem ShA.no {h : Hp} {s A : Nat} {bt sz : Int32} {f : Nat → Int32} (k : ShA h s A bt sz f) (hb : bt = 0) : hR h (62 + s) 0 = none := by
  rcases k with ⟨k1, k2⟩ | ⟨a, c, t, n, k1, k2, k3, k4, k5, k6, k7, k8, k9, k10, k11, k12⟩
  · exact k2
  · subst hb
    rcases k11 with ⟨-, -, e⟩ | ⟨-, -, e⟩ | ⟨-, -, e⟩ <;> exact absurd e (by decide)
/-- sheet s, if it is there -/
def SAt (h : Hp) (S : MSt) (s a A t n : Nat) : Prop := hR h (62 + s) 0 = some a ∧ ShO h a A t n (S.bits s) ∧ S.size s = nI n ∧ n ≤ 40 ∧ ∀ i, i < n → hI h A i = S.sheets (40 * s + i)
theorem CX.sat {h : Hp} {S : MSt} (x : CX h S) {s : Nat} (hs : s < 4) (hb : ¬ S.bits s = 0) : ∃ a A t n, SAt h S s a A t n := by
  obtain ⟨A, h1, -⟩ := x.sh
  obtain ⟨a, t, n, k1, k2, k3, k4, k5⟩ := (h1 s hs).so hb
  exact ⟨a, A s, t, n, k1, k2, k3, k4, k5⟩
theorem CX.nosh {h : Hp} {S : MSt} (x : CX h S) {s : Nat} (hs : s < 4) (hb : S.bits s = 0) : hR h (62 + s) 0 = none := by
  obtain ⟨A, h1, -⟩ := x.sh
  exact (h1 s hs).no hb
theorem LayX.shs {S : gSh} {R : gRf} (h : LayX S R) {s : Nat} (hs : s < 4) : S (62 + s) = .inl 5 ∧ R 59 s = some (62 + s) := by
  rcases (show s = 0 ∨ s = 1 ∨ s = 2 ∨ s = 3 by omega) with rfl | rfl | rfl | rfl
  · exact ⟨h.s62, h.r_sh0⟩
  · exact ⟨h.s63, h.r_sh1⟩
  · exact ⟨h.s64, h.r_sh2⟩
  · exact ⟨h.s65, h.r_sh3⟩

theorem r_size_X0_234 {d mc ms : Nat} {M : gM} {pc : Nat} {ls : gLs} {st : List Value} {h : Hp} {Q : gQ} {a A t n : Nat} {bt : Int32} (hM : mOwn M = RX0) (dc : decode (mC M) pc = .ok (.invokevirtual 234, 3)) (so : ShO h a A t n bt) (hcat : (st.map fun v => v.category).sum ≤ 8) (kk : gG (d + 1) mc ms M (pc + 3) ls (.int (nI n) :: st) h Q) : gG (d + 1) mc ms M pc ls (.ref a :: st) h Q := by
  obtain ⟨h1, h2, h3, h4, h5, h6, h7, h8⟩ := so
  rcases h8 with ⟨e1, rfl, rfl⟩ | ⟨e1, rfl, rfl⟩ | ⟨e1, rfl, rfl⟩
  · exact r_callU_1 dc (by rw [hM]; exact kX0_234_X22) (ZX22_size e1 h3 h6 (by omega)) (gRecv.of e1 rfl) rfl rfl hcat kk
  · exact r_callU_1 dc (by rw [hM]; exact kX0_234_X23) (ZX23_size e1 h3 h6 (by omega)) (gRecv.of e1 rfl) rfl rfl hcat kk
  · exact r_callU_1 dc (by rw [hM]; exact kX0_234_X24) (ZX24_size e1 h3 h6 (by omega)) (gRecv.of e1 rfl) rfl rfl hcat kk
theorem r_size_X21_7 {d mc ms : Nat} {M : gM} {pc : Nat} {ls : gLs} {st : List Value} {h : Hp} {Q : gQ} {a A t n : Nat} {bt : Int32} (hM : mOwn M = RX21) (dc : decode (mC M) pc = .ok (.invokevirtual 7, 3)) (so : ShO h a A t n bt) (hcat : (st.map fun v => v.category).sum ≤ 8) (kk : gG (d + 1) mc ms M (pc + 3) ls (.int (nI n) :: st) h Q) : gG (d + 1) mc ms M pc ls (.ref a :: st) h Q := by
  obtain ⟨h1, h2, h3, h4, h5, h6, h7, h8⟩ := so
  rcases h8 with ⟨e1, rfl, rfl⟩ | ⟨e1, rfl, rfl⟩ | ⟨e1, rfl, rfl⟩
  · exact r_callU_1 dc (by rw [hM]; exact kX21_7_X22) (ZX22_size e1 h3 h6 (by omega)) (gRecv.of e1 rfl) rfl rfl hcat kk
  · exact r_callU_1 dc (by rw [hM]; exact kX21_7_X23) (ZX23_size e1 h3 h6 (by omega)) (gRecv.of e1 rfl) rfl rfl hcat kk
  · exact r_callU_1 dc (by rw [hM]; exact kX21_7_X24) (ZX24_size e1 h3 h6 (by omega)) (gRecv.of e1 rfl) rfl rfl hcat kk
theorem r_get_X0_237 {d mc ms : Nat} {M : gM} {pc : Nat} {ls : gLs} {st : List Value} {h : Hp} {Q : gQ} {a A t n : Nat} {bt : Int32} {i : Nat} (hi : i < n) (hM : mOwn M = RX0) (dc : decode (mC M) pc = .ok (.invokevirtual 237, 3)) (so : ShO h a A t n bt) (hcat : (st.map fun v => v.category).sum ≤ 8) (kk : gG (d + 1) mc ms M (pc + 3) ls (.int (hI h A i) :: st) h Q) : gG (d + 1) mc ms M pc ls (.int (nI i) :: .ref a :: st) h Q := by
  obtain ⟨h1, h2, h3, h4, h5, h6, h7, h8⟩ := so
  rcases h8 with ⟨e1, rfl, rfl⟩ | ⟨e1, rfl, rfl⟩ | ⟨e1, rfl, rfl⟩
  · exact r_callU_1 dc (by rw [hM]; exact kX0_237_X22) (ZX22_get e1 h3 h6 (by omega) hi) (gRecv.of e1 rfl) rfl rfl hcat kk
  · exact r_callU_1 dc (by rw [hM]; exact kX0_237_X23) (ZX23_get e1 h3 h6 (by omega) hi) (gRecv.of e1 rfl) rfl rfl hcat kk
  · exact r_callU_1 dc (by rw [hM]; exact kX0_237_X24) (ZX24_get e1 h3 h6 (by omega) hi) (gRecv.of e1 rfl) rfl rfl hcat kk
theorem r_get_X21_13 {d mc ms : Nat} {M : gM} {pc : Nat} {ls : gLs} {st : List Value} {h : Hp} {Q : gQ} {a A t n : Nat} {bt : Int32} {i : Nat} (hi : i < n) (hM : mOwn M = RX21) (dc : decode (mC M) pc = .ok (.invokevirtual 13, 3)) (so : ShO h a A t n bt) (hcat : (st.map fun v => v.category).sum ≤ 8) (kk : gG (d + 1) mc ms M (pc + 3) ls (.int (hI h A i) :: st) h Q) : gG (d + 1) mc ms M pc ls (.int (nI i) :: .ref a :: st) h Q := by
  obtain ⟨h1, h2, h3, h4, h5, h6, h7, h8⟩ := so
  rcases h8 with ⟨e1, rfl, rfl⟩ | ⟨e1, rfl, rfl⟩ | ⟨e1, rfl, rfl⟩
  · exact r_callU_1 dc (by rw [hM]; exact kX21_13_X22) (ZX22_get e1 h3 h6 (by omega) hi) (gRecv.of e1 rfl) rfl rfl hcat kk
  · exact r_callU_1 dc (by rw [hM]; exact kX21_13_X23) (ZX23_get e1 h3 h6 (by omega) hi) (gRecv.of e1 rfl) rfl rfl hcat kk
  · exact r_callU_1 dc (by rw [hM]; exact kX21_13_X24) (ZX24_get e1 h3 h6 (by omega) hi) (gRecv.of e1 rfl) rfl rfl hcat kk
theorem r_put_X0_356 {d mc ms : Nat} {M : gM} {pc : Nat} {ls : gLs} {st : List Value} {h : Hp} {Q : gQ} {a A t n : Nat} {bt : Int32} {i : Nat} {v : Int32} (hi : i < n) (hM : mOwn M = RX0) (dc : decode (mC M) pc = .ok (.invokevirtual 356, 3)) (so : ShO h a A t n bt) (hcat : (st.map fun v => v.category).sum ≤ 8) (kk : gG (d + 1) mc ms M (pc + 3) ls st (wI h A i (narV bt v)) Q) : gG (d + 1) mc ms M pc ls (.int v :: .int (nI i) :: .ref a :: st) h Q := by
  obtain ⟨h1, h2, h3, h4, h5, h6, h7, h8⟩ := so
  rcases h8 with ⟨e1, rfl, rfl⟩ | ⟨e1, rfl, rfl⟩ | ⟨e1, rfl, rfl⟩
  · exact r_callU_0 dc (by rw [hM]; exact kX0_356_X22) (ZX22_put e1 h3 h6 (by omega) hi) (gRecv.of e1 rfl) rfl rfl hcat kk
  · exact r_callU_0 dc (by rw [hM]; exact kX0_356_X23) (ZX23_put e1 h3 h6 (by omega) hi) (gRecv.of e1 rfl) rfl rfl hcat kk
  · exact r_callU_0 dc (by rw [hM]; exact kX0_356_X24) (ZX24_put e1 h3 h6 (by omega) hi) (gRecv.of e1 rfl) rfl rfl hcat kk
theorem r_width_X0_359 {d mc ms : Nat} {M : gM} {pc : Nat} {ls : gLs} {st : List Value} {h : Hp} {Q : gQ} {a A t n : Nat} {bt : Int32} (hM : mOwn M = RX0) (dc : decode (mC M) pc = .ok (.invokevirtual 359, 3)) (so : ShO h a A t n bt) (hcat : (st.map fun v => v.category).sum ≤ 8) (kk : gG (d + 1) mc ms M (pc + 3) ls (.int bt :: st) h Q) : gG (d + 1) mc ms M pc ls (.ref a :: st) h Q := by
  obtain ⟨h1, h2, h3, h4, h5, h6, h7, h8⟩ := so
  rcases h8 with ⟨e1, rfl, rfl⟩ | ⟨e1, rfl, rfl⟩ | ⟨e1, rfl, rfl⟩
  · exact r_callU_1 dc (by rw [hM]; exact kX0_359_X22) (ZX22_width) (gRecv.of e1 rfl) rfl rfl hcat kk
  · exact r_callU_1 dc (by rw [hM]; exact kX0_359_X23) (ZX23_width) (gRecv.of e1 rfl) rfl rfl hcat kk
  · exact r_callU_1 dc (by rw [hM]; exact kX0_359_X24) (ZX24_width) (gRecv.of e1 rfl) rfl rfl hcat kk
theorem r_castSh {d mc ms : Nat} {M : gM} {pc : Nat} {ls : gLs} {st : List Value} {h : Hp} {Q : gQ} {a A t n : Nat} {bt : Int32} (hM : mOwn M = RX0) (dc : decode (mC M) pc = .ok (.checkcast 98, 3)) (so : ShO h a A t n bt) (kk : gG d mc ms M (pc + 3) ls (.ref a :: st) h Q) : gG d mc ms M pc ls (.ref a :: st) h Q := by
  obtain ⟨h1, h2, h3, h4, h5, h6, h7, h8⟩ := so
  rcases h8 with ⟨e1, rfl, rfl⟩ | ⟨e1, rfl, rfl⟩ | ⟨e1, rfl, rfl⟩
  · exact r_castY dc e1 rfl (by rw [hM]; exact q997) q1906 kk
  · exact r_castY dc e1 rfl (by rw [hM]; exact q997) q1908 kk
  · exact r_castY dc e1 rfl (by rw [hM]; exact q997) q1907 kk
