/-! the component against the mathematical state -/
/-- sheet s of the component, its array at A -/
def ShA (h : Hp) (s A : Nat) (bt sz : Int32) (f : Nat → Int32) : Prop :=
  (bt = 0 ∧ hR h (62 + s) 0 = none) ∨ (∃ a c t n, hR h (62 + s) 0 = some a ∧ 78 ≤ a ∧ a < hN h ∧ hS h a = .inl c ∧ hR h a 0 = some A ∧ 78 ≤ A ∧ A < hN h ∧ hS h A = .inr (t, n) ∧ sz = nI n ∧ n ≤ 40 ∧ ((c = 22 ∧ t = 1 ∧ bt = nI 8) ∨ (c = 23 ∧ t = 2 ∧ bt = nI 16) ∨ (c = 24 ∧ t = 0 ∧ bt = nI 32)) ∧ ∀ i, i < n → hI h A i = f i)
def CXs (h : Hp) (S : MSt) : Prop := ∃ A : Nat → Nat, (∀ s, s < 4 → ShA h s (A s) (S.bits s) (S.size s) (fun i => S.sheets (40 * s + i))) ∧ ∀ s s', s < 4 → s' < 4 → s ≠ s' → S.bits s ≠ 0 → S.bits s' ≠ 0 → A s ≠ A s'
def CX (h : Hp) (S : MSt) : Prop := (LayX (hS h) (hR h)) ∧ (LayL (hS h) (hR h) 23) ∧ (LayL (hS h) (hR h) 34) ∧ (LayL (hS h) (hR h) 45) ∧ (78 ≤ hN h) ∧ (HoldL h 23 S.r) ∧ (hI h 23 7 = -1) ∧ (LW h 23 S.r) ∧ (S.isK ≠ 0 → HoldL h 34 S.kept ∧ LW h 34 S.kept) ∧ (hI h 21 4 = S.images) ∧ (∀ k, 1 ≤ k → k < 6 → hI h 58 k = S.found k) ∧ (∀ k, k < 40 → hI h 57 k = S.traced k) ∧ (hI h 56 1 = S.many) ∧ (CXs h S)
theorem CX.hx {h : Hp} {S : MSt} (x : CX h S) : LayX (hS h) (hR h) := x.1
theorem CX.hl {h : Hp} {S : MSt} (x : CX h S) : LayL (hS h) (hR h) 23 := x.2.1
theorem CX.hl3 {h : Hp} {S : MSt} (x : CX h S) : LayL (hS h) (hR h) 34 := x.2.2.1
theorem CX.hl4 {h : Hp} {S : MSt} (x : CX h S) : LayL (hS h) (hR h) 45 := x.2.2.2.1
theorem CX.hN {h : Hp} {S : MSt} (x : CX h S) : 78 ≤ hN h := x.2.2.2.2.1
theorem CX.hold {h : Hp} {S : MSt} (x : CX h S) : HoldL h 23 S.r := x.2.2.2.2.2.1
theorem CX.tight {h : Hp} {S : MSt} (x : CX h S) : hI h 23 7 = -1 := x.2.2.2.2.2.2.1
theorem CX.lw {h : Hp} {S : MSt} (x : CX h S) : LW h 23 S.r := x.2.2.2.2.2.2.2.1
theorem CX.kept {h : Hp} {S : MSt} (x : CX h S) : S.isK ≠ 0 → HoldL h 34 S.kept ∧ LW h 34 S.kept := x.2.2.2.2.2.2.2.2.1
theorem CX.im {h : Hp} {S : MSt} (x : CX h S) : hI h 21 4 = S.images := x.2.2.2.2.2.2.2.2.2.1
theorem CX.fnd {h : Hp} {S : MSt} (x : CX h S) : ∀ k, 1 ≤ k → k < 6 → hI h 58 k = S.found k := x.2.2.2.2.2.2.2.2.2.2.1
theorem CX.tr {h : Hp} {S : MSt} (x : CX h S) : ∀ k, k < 40 → hI h 57 k = S.traced k := x.2.2.2.2.2.2.2.2.2.2.2.1
theorem CX.many {h : Hp} {S : MSt} (x : CX h S) : hI h 56 1 = S.many := x.2.2.2.2.2.2.2.2.2.2.2.2.1
theorem CX.sh {h : Hp} {S : MSt} (x : CX h S) : CXs h S := x.2.2.2.2.2.2.2.2.2.2.2.2.2
/-- what the component may write without being another one: the finding's code, facts, the land tried, fits, thirsts -/
def EXc (a : Nat) : Prop := a = 22 ∨ a = 33 ∨ a = 44 ∨ (45 ≤ a ∧ a ≤ 55) ∨ a = 60 ∨ a = 61 ∨ (66 ≤ a ∧ a ≤ 77)
/-- h' is h but for that -/
def FrC (h h' : Hp) : Prop := hN h ≤ hN h' ∧ (∀ a, a < hN h → hS h' a = hS h a) ∧ (∀ a, a < hN h → a ≠ 46 → a ≠ 51 → hR h' a = hR h a) ∧ ∀ a, a < hN h → ¬ EXc a → hI h' a = hI h a
theorem FrC.r {h : Hp} : FrC h h := ⟨Nat.le_refl _, fun _ _ => rfl, fun _ _ _ _ => rfl, fun _ _ _ => rfl⟩
theorem FrC.t {a b c : Hp} (h1 : FrC a b) (h2 : FrC b c) : FrC a c := ⟨Nat.le_trans h1.1 h2.1, fun x hx => (h2.2.1 x (Nat.lt_of_lt_of_le hx h1.1)).trans (h1.2.1 x hx), fun x hx q1 q2 => (h2.2.2.1 x (Nat.lt_of_lt_of_le hx h1.1) q1 q2).trans (h1.2.2.1 x hx q1 q2), fun x hx q => (h2.2.2.2 x (Nat.lt_of_lt_of_le hx h1.1) q).trans (h1.2.2.2 x hx q)⟩
theorem FrC.ext {h h' : Hp} (f : FrC h h') : ExtH h h' := ⟨f.1, fun a c h1 h2 h3 _ => ⟨(f.2.1 a h2).trans h3, f.2.2.2 a h2 (by unfold EXc; omega), f.2.2.1 a h2 (by omega) (by omega)⟩⟩
theorem FrC.w {h : Hp} {a k : Nat} {v : Int32} (ha : EXc a) : FrC h (wI h a k v) := ⟨Nat.le_refl _, fun _ _ => rfl, fun _ _ _ _ => rfl, fun x _ hx => funext fun j => if_neg fun q => hx (by rw [q.1]; exact ha)⟩
theorem FrC.c {h : Hp} {a i b j n : Nat} (hb : EXc b) : FrC h (cI h a i b j n) := ⟨Nat.le_refl _, fun _ _ => rfl, fun _ _ _ _ => rfl, fun x _ hx => funext fun k => if_neg fun q => hx (by rw [q.1]; exact hb)⟩
theorem LayX.rr {S S' : gSh} {R R' : gRf} (h : LayX S R) (e0 : ∀ a, a < 66 → S' a = S a) (e1 : R' 21 = R 21) (e2 : R' 56 = R 56) (e3 : R' 59 = R 59) : LayX S' R' := by
  unfold LayX at h ⊢
  rw [e1, e2, e3, e0 21 (by decide), e0 22 (by decide), e0 56 (by decide), e0 57 (by decide), e0 58 (by decide), e0 59 (by decide), e0 60 (by decide), e0 61 (by decide), e0 62 (by decide), e0 63 (by decide), e0 64 (by decide), e0 65 (by decide)]
  exact h
theorem LayL.rs {S S' : gSh} {R R' : gRf} {b : Nat} (h : LayL S R b) (e0 : ∀ a, a < 66 → S' a = S a) (hb : b + 10 < 66) (e1 : R' b = R b) (e2 : R' (b + 9) = R (b + 9)) : LayL S' R' b := by
  unfold LayL at h ⊢
  rw [e1, e2, e0 b (by omega), e0 (b + 1) (by omega), e0 (b + 2) (by omega), e0 (b + 3) (by omega), e0 (b + 4) (by omega), e0 (b + 5) (by omega), e0 (b + 6) (by omega), e0 (b + 7) (by omega), e0 (b + 8) (by omega), e0 (b + 9) (by omega), e0 (b + 10) (by omega)]
  exact h
theorem ShA.fr {h h' : Hp} {s A : Nat} {bt sz : Int32} {f : Nat → Int32} (hs : s < 4) (hn : 78 ≤ hN h) (x : FrC h h') (k : ShA h s A bt sz f) : ShA h' s A bt sz f := by
  have e0 : hR h' (62 + s) = hR h (62 + s) := x.2.2.1 _ (by omega) (by omega) (by omega)
  rcases k with ⟨k1, k2⟩ | ⟨a, c, t, n, k1, k2, k3, k4, k5, k6, k7, k8, k9, k10, k11, k12⟩
  · exact Or.inl ⟨k1, by rw [e0]; exact k2⟩
  · refine Or.inr ⟨a, c, t, n, by rw [e0]; exact k1, k2, Nat.lt_of_lt_of_le k3 x.1, (x.2.1 a k3).trans k4, by rw [x.2.2.1 a k3 (by omega) (by omega)]; exact k5, k6, Nat.lt_of_lt_of_le k7 x.1, (x.2.1 A k7).trans k8, k9, k10, k11, fun i hi => ?_⟩
    rw [x.2.2.2 A k7 (by unfold EXc; omega)]
    exact k12 i hi
theorem HoldL.fr {h h' : Hp} {b : Nat} {r : Row} (e : ∀ o, o ≤ 8 → hI h' (b + o) = hI h (b + o)) (k : HoldL h b r) : HoldL h' b r := fun o j i hi => by
  have := ix_is hi
  rw [e o (by omega)]
  exact k o j i hi
theorem CX.fr {h h' : Hp} {S : MSt} (x : CX h S) (f : FrC h h') : CX h' S := by
  have n := x.hN
  have eS : ∀ a, a < 66 → hS h' a = hS h a := fun a ha => f.2.1 a (by omega)
  have eR : ∀ a, a < 66 → a ≠ 46 → a ≠ 51 → hR h' a = hR h a := fun a ha h1 h2 => f.2.2.1 a (by omega) h1 h2
  have eI : ∀ a, a < 66 → ¬ EXc a → hI h' a = hI h a := fun a ha h1 => f.2.2.2 a (by omega) h1
  have ex : ExtH h h' := f.ext
  refine ⟨x.hx.rr eS (eR 21 (by decide) (by decide) (by decide)) (eR 56 (by decide) (by decide) (by decide)) (eR 59 (by decide) (by decide) (by decide)), x.hl.rs eS (by decide) (eR 23 (by decide) (by decide) (by decide)) (eR 32 (by decide) (by decide) (by decide)), x.hl3.rs eS (by decide) (eR 34 (by decide) (by decide) (by decide)) (eR 43 (by decide) (by decide) (by decide)), x.hl4.rs eS (by decide) (eR 45 (by decide) (by decide) (by decide)) (eR 54 (by decide) (by decide) (by decide)), Nat.le_trans n f.1, x.hold.fr (fun o ho => eI _ (by omega) (by unfold EXc; omega)), ?_, x.lw.ext ex (eR 24 (by decide) (by decide) (by decide)) (eR 29 (by decide) (by decide) (by decide)), fun hk => ⟨(x.kept hk).1.fr (fun o ho => eI _ (by omega) (by unfold EXc; omega)), (x.kept hk).2.ext ex (eR 35 (by decide) (by decide) (by decide)) (eR 40 (by decide) (by decide) (by decide))⟩, ?_, fun k h1 h2 => ?_, fun k hk => ?_, ?_, ?_⟩
  · rw [eI 23 (by decide) (by unfold EXc; omega)]; exact x.tight
  · rw [eI 21 (by decide) (by unfold EXc; omega)]; exact x.im
  · rw [eI 58 (by decide) (by unfold EXc; omega)]; exact x.fnd k h1 h2
  · rw [eI 57 (by decide) (by unfold EXc; omega)]; exact x.tr k hk
  · rw [eI 56 (by decide) (by unfold EXc; omega)]; exact x.many
  · obtain ⟨A, h1, h2⟩ := x.sh
    exact ⟨A, fun s hs => (h1 s hs).fr hs n f, h2⟩
theorem LH_hold {h : Hp} {b : Nat} {r : Row} {t : Int32} (k : HoldL h b r) (ht : hI h b 7 = t) : LH h b r t = h := by
  have e : lhf (hI h) b r t = hI h := by
    funext a j
    unfold lhf
    by_cases q : a = b ∧ j = 7
    · obtain ⟨rfl, rfl⟩ := q
      rw [if_pos ⟨rfl, rfl⟩, ht]
    · rw [if_neg q]
      by_cases q2 : b ≤ a
      · rw [if_pos q2]
        cases hx : ix (a - b) j with
        | none => rfl
        | some i =>
          have h1 := k _ _ _ hx
          rw [show b + (a - b) = a by omega] at h1
          exact h1.symm
      · rw [if_neg q2]
  show sI h (lhf (hI h) b r t) = h
  rw [e]
  rfl
/-- the component's heap with its land in the open -/
theorem CX.lg {h : Hp} {S : MSt} (x : CX h S) : h = LG h 23 S.r (-1) (hI h 33) := by
  rw [← LG_0 h 23 S.r (-1), LH_hold x.hold x.tight]
theorem HoldL.lg {h : Hp} {b : Nat} {r g : Row} {t : Int32} : HoldL (LG h b r t g) b r := fun _ _ _ hi => LH_r hi
/-- what holds of everything else when the land has gone on -/
theorem CX.land {h : Hp} {S : MSt} (x : CX h S) {r g : Row} (lw : LW h 23 r) : CX (LG h 23 r (-1) g) (S.s_r r) := by
  have n := x.hN
  have far : ∀ a, a < 23 ∨ 33 < a → hI (LG h 23 r (-1) g) a = hI h a := fun a ha => LG_far (by omega)
  have ex : ExtH h (LG h 23 r (-1) g) := LG_ext (by omega)
  refine ⟨x.hx, x.hl, x.hl3, x.hl4, n, HoldL.lg, LG_rt, lw.ext ex rfl rfl, fun hk => ⟨(x.kept hk).1.fr (fun o ho => far _ (by omega)), (x.kept hk).2.ext ex rfl rfl⟩, ?_, fun k h1 h2 => ?_, fun k hk => ?_, ?_, ?_⟩
  · rw [far 21 (by omega)]; exact x.im
  · rw [far 58 (by omega)]; exact x.fnd k h1 h2
  · rw [far 57 (by omega)]; exact x.tr k hk
  · rw [far 56 (by omega)]; exact x.many
  · obtain ⟨A, h1, h2⟩ := x.sh
    refine ⟨A, fun s hs => ?_, h2⟩
    rcases h1 s hs with k | ⟨a, c, t, m, k1, k2, k3, k4, k5, k6, k7, k8, k9, k10, k11, k12⟩
    · exact Or.inl k
    · exact Or.inr ⟨a, c, t, m, k1, k2, k3, k4, k5, k6, k7, k8, k9, k10, k11, fun i hi => by rw [far _ (by omega)]; exact k12 i hi⟩
/-- the reference's things are as they were -/
def FrX (h h' : Hp) : Prop := hN h ≤ hN h' ∧ ∀ a, 66 ≤ a → a ≤ 77 → hS h' a = hS h a ∧ hI h' a = hI h a ∧ hR h' a = hR h a
theorem FrX.r {h : Hp} : FrX h h := ⟨Nat.le_refl _, fun _ _ _ => ⟨rfl, rfl, rfl⟩⟩
theorem FrX.t {a b c : Hp} (h1 : FrX a b) (h2 : FrX b c) : FrX a c := ⟨Nat.le_trans h1.1 h2.1, fun x q1 q2 => ⟨(h2.2 x q1 q2).1.trans (h1.2 x q1 q2).1, (h2.2 x q1 q2).2.1.trans (h1.2 x q1 q2).2.1, (h2.2 x q1 q2).2.2.trans (h1.2 x q1 q2).2.2⟩⟩
theorem FrX.s {h : Hp} {f : Nat → Row} (hf : ∀ a, 66 ≤ a → a ≤ 77 → f a = hI h a) : FrX h (sI h f) := ⟨Nat.le_refl _, fun a h1 h2 => ⟨rfl, hf a h1 h2, rfl⟩⟩
theorem FrX.w {h : Hp} {a k : Nat} {v : Int32} (ha : a < 66 ∨ 77 < a) : FrX h (wI h a k v) := ⟨Nat.le_refl _, fun x h1 h2 => ⟨rfl, funext fun j => if_neg fun q => by omega, rfl⟩⟩
theorem FrX.lg {h : Hp} {b : Nat} {r g : Row} {t : Int32} (hb : b + 10 < 66) : FrX h (LG h b r t g) := ⟨Nat.le_refl _, fun x h1 h2 => ⟨rfl, LG_far (by omega), rfl⟩⟩
/-- what an act of the component leaves -/
def RX (h : Hp) (q : Int32 × MSt) : gQ := fun out h' => out = .inl (some (.int q.1)) ∧ CX h' q.2 ∧ FrX h h'
/-- a finding found -/
def erH (h : Hp) (k : Nat) : Hp := wI (wI h 22 6 (nI k)) 58 k (hI h 58 k + nI 1)
theorem CX.err {h : Hp} {S : MSt} (x : CX h S) {k : Nat} (h1 : 1 ≤ k) (h6 : k < 6) : CX (erH h k) (S.s_found (ru S.found k (S.found k + nI 1))) := by
  have n := x.hN
  have far : ∀ a, a ≠ 22 → a ≠ 58 → hI (erH h k) a = hI h a := fun a q1 q2 => funext fun j => by
    show u2 (u2 (hI h) 22 6 (nI k)) 58 k _ a j = _
    rw [u2_n _ _ _ _ _ _ (Or.inl q2), u2_n _ _ _ _ _ _ (Or.inl q1)]
  have ex : ExtH h (erH h k) := ⟨Nat.le_refl _, fun a _ q1 _ q3 _ => ⟨q3, far a (by omega) (by omega), rfl⟩⟩
  refine ⟨x.hx, x.hl, x.hl3, x.hl4, n, x.hold.fr (fun o ho => far _ (by omega) (by omega)), ?_, x.lw.ext ex rfl rfl, fun hk => ⟨(x.kept hk).1.fr (fun o ho => far _ (by omega) (by omega)), (x.kept hk).2.ext ex rfl rfl⟩, ?_, fun j q1 q2 => ?_, fun j hj => ?_, ?_, ?_⟩
  · rw [far 23 (by decide) (by decide)]; exact x.tight
  · rw [far 21 (by decide) (by decide)]; exact x.im
  · show u2 (u2 (hI h) 22 6 (nI k)) 58 k (hI h 58 k + nI 1) 58 j = ru S.found k (S.found k + nI 1) j
    by_cases e : j = k
    · subst e
      rw [u2_s, ru_s, x.fnd j q1 q2]
    · rw [u2_n _ _ _ _ _ _ (Or.inr e), u2_n _ _ _ _ _ _ (Or.inl (by decide)), ru_n e]
      exact x.fnd j q1 q2
  · rw [far 57 (by decide) (by decide)]; exact x.tr j hj
  · rw [far 56 (by decide) (by decide)]; exact x.many
  · obtain ⟨A, q1, q2⟩ := x.sh
    refine ⟨A, fun s hs => ?_, q2⟩
    rcases q1 s hs with j | ⟨a, c, t, m, k1, k2, k3, k4, k5, k6, k7, k8, k9, k10, k11, k12⟩
    · exact Or.inl j
    · exact Or.inr ⟨a, c, t, m, k1, k2, k3, k4, k5, k6, k7, k8, k9, k10, k11, fun i hi => by rw [far _ (by omega) (by omega)]; exact k12 i hi⟩
theorem RX.err {h h1 : Hp} {S : MSt} {v e : Int32} {k : Nat} (x : CX h1 S) (f : FrX h h1) (q1 : 1 ≤ k) (q6 : k < 6) (hv : v = e) : RX h (errA S e k) (.inl (some (.int v))) (erH h1 k) :=
  ⟨by rw [hv]; rfl, x.err q1 q6, f.t ((FrX.w (by omega)).t (FrX.w (by omega)))⟩
/-- .. the land as it was -/
theorem RX.same {h h1 : Hp} {S : MSt} {v : Int32} {q : Int32 × MSt} (x : CX h1 S) (f : FrX h h1) (e1 : v = q.1) (e2 : S = q.2) : RX h q (.inl (some (.int v))) h1 := ⟨by rw [e1], by rw [← e2]; exact x, f⟩
theorem CX.self {h : Hp} {S : MSt} (x : CX h S) {g : Row} : CX (LG h 23 S.r (-1) g) S := x.land (r := S.r) x.lw
theorem r_need1 {d mc ms : Nat} {M : gM} {pc : Nat} {ls : gLs} {st : List Value} {h : Hp} {Q : gQ} {k : Nat} (dc : decode (mC M) pc = .ok (.invokevirtual 94, 3)) (hM : mOwn M = RX0) (hx : LayX (hS h) (hR h)) (hcat : (st.map fun v => v.category).sum ≤ 8) (kk : gG (d + 2) mc ms M (pc + 3) ls st h Q) : gG (d + 2) mc ms M pc ls (.int (nI k) :: .int (nI 1) :: .ref 21 :: st) h Q :=
  r_callV_0 dc (by rw [hM]; exact kX0_94) (X_need_1 hx) (gRecv.of hx.s21 rfl) rfl rfl hcat kk
theorem r_need0 {d mc ms : Nat} {M : gM} {pc : Nat} {ls : gLs} {st : List Value} {h : Hp} {Q : gQ} {k : Nat} (dc : decode (mC M) pc = .ok (.invokevirtual 94, 3)) (hM : mOwn M = RX0) (hx : LayX (hS h) (hR h)) (hcat : (st.map fun v => v.category).sum ≤ 8) (kk : gTh (d + 2) mc ms M pc ls 22 (wI h 22 6 (nI k)) Q) : gG (d + 2) mc ms M pc ls (.int (nI k) :: .int (nI 0) :: .ref 21 :: st) h Q :=
  r_callV (mc1 := 0) (ms1 := 0) dc (by rw [hM]; exact kX0_94) (X_need_0 hx) (gRecv.of hx.s21 rfl) rfl rfl hcat (fun v h' e => by cases e.1) (fun a h' e => by obtain ⟨e1, e2⟩ := e; cases e1; subst e2; exact kk)
theorem r_needB {d mc ms : Nat} {M : gM} {pc : Nat} {ls : gLs} {st : List Value} {h : Hp} {Q : gQ} {k : Nat} {c : Bool} (dc : decode (mC M) pc = .ok (.invokevirtual 94, 3)) (hM : mOwn M = RX0) (hx : LayX (hS h) (hR h)) (hcat : (st.map fun v => v.category).sum ≤ 8) (kt : c = true → gG (d + 2) mc ms M (pc + 3) ls st h Q) (kf : c = false → gTh (d + 2) mc ms M pc ls 22 (wI h 22 6 (nI k)) Q) : gG (d + 2) mc ms M pc ls (.int (nI k) :: .int (b2 c) :: .ref 21 :: st) h Q := by
  cases c with
  | true => exact r_need1 dc hM hx hcat (kt rfl)
  | false => exact r_need0 dc hM hx hcat (kf rfl)
