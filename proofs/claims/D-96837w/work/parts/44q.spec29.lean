theorem r_callSX_1 {d mc ms : Nat} {M M1 : gM} {pc : Nat} {ls : gLs} {st stk : List Value} {h h1 : Hp} {Q : gQ} {w : Value} {b : Nat} {As : List Value} {C up : String} {ci : Nat} {T9 : u_T} {N9 : Nat} {n index : Nat} (dc : decode (mC M) pc = .ok (.invokespecial index, 3)) (hv : gSX (mOwn M) up index M1 n) (hcl : gcl[ci]? = some (C, T9, N9)) (hC : gC d 0 0 M1 (.ref b :: As) h (Ret (some w) h1)) (hb : gRecv h b C) (hn : As.length = n) (hst : stk = As.reverse ++ .ref b :: st) (hcat : (st.map fun v => v.category).sum ≤ 8) (kk : gG (d + 1) mc ms M (pc + 3) ls (w :: st) h1 Q) : gG (d + 1) mc ms M pc ls stk h Q :=
  r_callSX (mc1 := 0) (ms1 := 0) dc hv hcl hC hb hn hst hcat (fun v h' e => by obtain ⟨e1, e2⟩ := e; cases e1; subst e2; exact kk) (fun a h' e => by cases e.1)
/-! the component's trace -/
def XV (h : Hp) (t : TR) : Hp := bI (bI h 57 t.1) 56 (ru (hI h 56) 1 (nI t.2))
theorem XV_far {h : Hp} {t : TR} {a : Nat} (h1 : a ≠ 56) (h2 : a ≠ 57) : hI (XV h t) a = hI h a := (bI_n h1).trans (bI_n h2)
theorem XV_56 {h : Hp} {t : TR} : hI (XV h t) 56 1 = nI t.2 := by
  show hI (bI (bI h 57 t.1) 56 _) 56 1 = _
  rw [bI_s, ru_s]
theorem XV_ran {h : Hp} {t : TR} {b : Int32} (c : t.2 < 40) : wI (wI (XV h t) 57 t.2 b) 56 1 (nI (t.2 + 1)) = XV h (ranT t b) := by
  unfold ranT
  rw [if_pos c]
  show sI h _ = sI h _
  congr 1
  funext a j
  show u2 (u2 (uf (uf (hI h) 57 t.1) 56 (ru (hI h 56) 1 (nI t.2))) 57 t.2 b) 56 1 (nI (t.2 + 1)) a j = uf (uf (hI h) 57 (ru t.1 t.2 b)) 56 (ru (hI h 56) 1 (nI (t.2 + 1))) a j
  unfold u2 uf ru
  by_cases e1 : a = 56
  · subst e1
    by_cases e2 : j = 1 <;> simp [e2]
  · by_cases e2 : a = 57
    · subst e2
      by_cases e3 : j = t.2 <;> simp [e3]
    · simp [e1, e2]
theorem XV_of {h : Hp} : wI h 56 1 (nI 0) = XV h (hI h 57, 0) := by
  show sI h _ = sI h _
  congr 1
  funext a j
  show u2 (hI h) 56 1 (nI 0) a j = uf (uf (hI h) 57 (hI h 57)) 56 (ru (hI h 56) 1 (nI 0)) a j
  unfold u2 uf ru
  by_cases e1 : a = 56
  · subst e1
    by_cases e2 : j = 1 <;> simp [e2]
  · by_cases e2 : a = 57
    · subst e2; simp
    · simp [e1, e2]
/-- two traces alike -/
def TRe (t t' : TR) : Prop := t.2 = t'.2 ∧ ∀ k, k < 40 → t.1 k = t'.1 k
theorem ranT_e {t t' : TR} (e : TRe t t') (b : Int32) : TRe (ranT t b) (ranT t' b) := by
  obtain ⟨f, n⟩ := t
  obtain ⟨f', n'⟩ := t'
  obtain ⟨e1, e2⟩ := e
  have e1 : n = n' := e1
  subst e1
  unfold ranT
  by_cases c : n < 40
  · rw [if_pos c, if_pos c]
    refine ⟨rfl, fun k hk => ?_⟩
    show ru f n b k = ru f' n b k
    unfold ru
    by_cases q : k = n
    · rw [if_pos q, if_pos q]
    · rw [if_neg q, if_neg q]; exact e2 k hk
  · rw [if_neg c, if_neg c]
    exact ⟨rfl, e2⟩
def VRe (q q' : Int32 × TR) : Prop := q.1 = q'.1 ∧ TRe q.2 q'.2
theorem letsV_e {k : Nat} {n x : Int32} {t t' : TR} (e : TRe t t') : VRe (letsV k n x t) (letsV k n x t') := by
  unfold letsV
  by_cases c : k = 1 ∨ k = 4
  · rw [if_pos c, if_pos c]; exact ⟨rfl, ranT_e (ranT_e e _) _⟩
  · rw [if_neg c, if_neg c]; exact ⟨rfl, ranT_e e _⟩
theorem lendsV_e {k : Nat} {n m x : Int32} {t t' : TR} (e : TRe t t') : VRe (lendsV k n m x t) (lendsV k n m x t') := by
  unfold lendsV
  by_cases c : k = 3
  · rw [if_pos c, if_pos c]; exact ⟨rfl, ranT_e (ranT_e e _) _⟩
  · rw [if_neg c, if_neg c]
    by_cases c : k = 6
    · rw [if_pos c, if_pos c]; exact ⟨rfl, ranT_e (ranT_e (ranT_e e _) _) _⟩
    · rw [if_neg c, if_neg c]; exact ⟨rfl, ranT_e e _⟩
theorem fills0V_e {vk : Nat} {n x : Int32} {t t' : TR} (e : TRe t t') : VRe (fills0V vk n x t) (fills0V vk n x t') := by
  have a := letsV_e (k := vk) (n := n) (x := x) (ranT_e e (nI 11))
  exact ⟨by unfold fills0V; rw [a.1], a.2⟩
theorem fills2V_e {vk : Nat} {n m x : Int32} {t t' : TR} (e : TRe t t') : VRe (fills2V vk n m x t) (fills2V vk n m x t') := by
  have a := fills0V_e (vk := vk) (n := n) (x := x) (ranT_e e (nI 30))
  have b := lendsV_e (k := vk) (n := n) (m := m) (x := nI 1) a.2
  exact ⟨by unfold fills2V; rw [a.1, b.1], b.2⟩
theorem fillsV_e {k vk : Nat} {n m x : Int32} {t t' : TR} (e : TRe t t') : VRe (fillsV k vk n m x t) (fillsV k vk n m x t') := by
  unfold fillsV
  by_cases c : k = 2
  · rw [if_pos c, if_pos c]; exact fills2V_e e
  · rw [if_neg c, if_neg c]
    by_cases c : k = 5
    · rw [if_pos c, if_pos c]; exact fills2V_e (ranT_e e _)
    · rw [if_neg c, if_neg c]; exact fills0V_e e
theorem tells0V_e {vk : Nat} {n m x : Int32} {t t' : TR} (e : TRe t t') : VRe (tells0V vk n m x t) (tells0V vk n m x t') := by
  have a := fillsV_e (k := vk) (vk := vk) (n := n) (m := m) (x := x) (ranT_e e (nI 13))
  have b := lendsV_e (k := vk) (n := n) (m := m) (x := x) a.2
  exact ⟨by unfold tells0V; rw [a.1, b.1], b.2⟩
theorem tells4V_e {vk : Nat} {n m x : Int32} {t t' : TR} (e : TRe t t') : VRe (tells4V vk n m x t) (tells4V vk n m x t') := by
  have a := tells0V_e (vk := vk) (n := n) (m := m) (x := x) (ranT_e e (nI 50))
  have b := letsV_e (k := vk) (n := n) (x := nI 2) a.2
  exact ⟨by unfold tells4V; rw [a.1, b.1], b.2⟩
theorem tells6V_e {vk : Nat} {n m x : Int32} {t t' : TR} (e : TRe t t') : VRe (tells6V vk n m x t) (tells6V vk n m x t') := by
  have a := fillsV_e (k := vk) (vk := vk) (n := n) (m := m) (x := x) (ranT_e e (nI 71))
  have b := tells0V_e (vk := vk) (n := n) (m := m) (x := x) a.2
  exact ⟨by unfold tells6V; rw [a.1, b.1], b.2⟩
theorem tellsV_e {k vk : Nat} {n m x : Int32} {t t' : TR} (e : TRe t t') : VRe (tellsV k vk n m x t) (tellsV k vk n m x t') := by
  unfold tellsV
  by_cases c : k = 4
  · rw [if_pos c, if_pos c]; exact tells4V_e e
  · rw [if_neg c, if_neg c]
    by_cases c : k = 6
    · rw [if_pos c, if_pos c]; exact tells6V_e e
    · rw [if_neg c, if_neg c]; exact tells0V_e e
theorem voiceV_e {a vk : Nat} {n m x : Int32} {t t' : TR} (e : TRe t t') : VRe (voiceV a vk n m x t) (voiceV a vk n m x t') := by
  unfold voiceV
  by_cases c : a = 0
  · rw [if_pos c, if_pos c]; exact letsV_e e
  · rw [if_neg c, if_neg c]
    by_cases c : a = 1
    · rw [if_pos c, if_pos c]; exact fillsV_e e
    · rw [if_neg c, if_neg c]
      by_cases c : a = 2
      · rw [if_pos c, if_pos c]; exact lendsV_e e
      · rw [if_neg c, if_neg c]; exact tellsV_e e
theorem cx_xv {h : Hp} {S : MSt} (x : CX h S) {t t' : TR} (e : TRe t t') : CX (XV h t) ((S.s_traced t'.1).s_many (nI t'.2)) := by
  have n := x.hN
  have far : ∀ a, a ≠ 56 → a ≠ 57 → hI (XV h t) a = hI h a := fun a q1 q2 => XV_far q1 q2
  have ex : ExtH h (XV h t) := ⟨Nat.le_refl _, fun a _ q1 _ q3 _ => ⟨q3, far a (by omega) (by omega), rfl⟩⟩
  refine ⟨x.hx, x.hl, x.hl3, x.hl4, n, x.hold.fr (fun o ho => far _ (by omega) (by omega)), ?_, x.lw.ext ex rfl rfl, fun hk => ⟨(x.kept hk).1.fr (fun o ho => far _ (by omega) (by omega)), (x.kept hk).2.ext ex rfl rfl⟩, ?_, fun j q1 q2 => ?_, fun j hj => ?_, ?_, ?_⟩
  · rw [far 23 (by decide) (by decide)]; exact x.tight
  · rw [far 21 (by decide) (by decide)]; exact x.im
  · rw [far 58 (by decide) (by decide)]; exact x.fnd j q1 q2
  · show hI (bI (bI h 57 t.1) 56 _) 57 j = t'.1 j
    rw [bI_n (by decide), bI_s]
    exact e.2 j hj
  · show hI (XV h t) 56 1 = nI t'.2
    rw [XV_56, e.1]
  · obtain ⟨A, q1, q2⟩ := x.sh
    refine ⟨A, fun s hs => ?_, q2⟩
    rcases q1 s hs with j | ⟨a, c, t, m, k1, k2, k3, k4, k5, k6, k7, k8, k9, k10, k11, k12⟩
    · exact Or.inl j
    · exact Or.inr ⟨a, c, t, m, k1, k2, k3, k4, k5, k6, k7, k8, k9, k10, k11, fun i hi => by rw [far _ (by omega) (by omega)]; exact k12 i hi⟩
theorem rx_voice {h : Hp} {S : MSt} (x : CX h S) {a vk : Nat} {n m v : Int32} {q : Int32 × TR} (e : VRe q (voiceV a vk n m v (S.traced, 0))) : RX h (vcR S (voiceV a vk n m v (S.traced, 0))) (.inl (some (.int q.1))) (XV h q.2) :=
  ⟨by rw [e.1]; rfl, cx_xv x e.2, ⟨Nat.le_refl _, fun a h1 h2 => ⟨rfl, XV_far (by omega) (by omega), rfl⟩⟩⟩
theorem trE0 {h : Hp} {S : MSt} (x : CX h S) : TRe (hI h 57, 0) (S.traced, 0) := ⟨rfl, x.tr⟩
