/-! a new person of the component -/
def nP (h : Hp) (k : Nat) (p m : Int32) : Hp := wI (wI (wR (hM h (.inl (7 + k))) (hN h) 0 (some 56)) (hN h) 1 p) (hN h) 2 m
theorem nP_I {h : Hp} {k a : Nat} {p m : Int32} (q : a ≠ hN h) : hI (nP h k p m) a = hI h a := funext fun j => by
  show u2 (u2 (hI (hM h (.inl (7 + k)))) (hN h) 1 p) (hN h) 2 m a j = _
  rw [u2_n _ _ _ _ _ _ (Or.inl q), u2_n _ _ _ _ _ _ (Or.inl q)]
  exact congrFun (hM_I q) j
theorem nP_R {h : Hp} {k a : Nat} {p m : Int32} (q : a ≠ hN h) : hR (nP h k p m) a = hR h a := funext fun j => by
  show u2 (hR (hM h (.inl (7 + k)))) (hN h) 0 (some 56) a j = _
  rw [u2_n _ _ _ _ _ _ (Or.inl q)]
  exact congrFun (hM_R q) j
theorem nP_S {h : Hp} {k a : Nat} {p m : Int32} (q : a ≠ hN h) : hS (nP h k p m) a = hS h a := hM_S q
theorem nP_Fr {h : Hp} {k : Nat} {p m : Int32} : FrC h (nP h k p m) :=
  ⟨Nat.le_succ _, fun a ha => nP_S (by omega), fun a ha _ _ => nP_R (by omega), fun a ha _ => nP_I (by omega)⟩
theorem nP_pa {h : Hp} {k p : Nat} {m : Int32} (hn : 78 ≤ hN h) (hk : k < 7) : PAt (nP h k (nI p) m) (hN h) p k m := by
  refine ⟨hn, Nat.lt_succ_self _, hM_Sn, hk, ?_, ?_, ?_⟩
  · show u2 (hR (hM h (.inl (7 + k)))) (hN h) 0 (some 56) (hN h) 0 = _
    rw [u2_s]
  · show u2 (u2 (hI (hM h (.inl (7 + k)))) (hN h) 1 (nI p)) (hN h) 2 m (hN h) 1 = _
    rw [u2_n _ _ _ _ _ _ (Or.inr (by decide)), u2_s]
  · show u2 (u2 (hI (hM h (.inl (7 + k)))) (hN h) 1 (nI p)) (hN h) 2 m (hN h) 2 = _
    rw [u2_s]
/-- .. and put at p -/
def pH (h : Hp) (k p : Nat) (m : Int32) : Hp := wR (nP h k (nI p) m) 24 p (some (hN h))
theorem pH_R {h : Hp} {k p a : Nat} {m : Int32} (q : a ≠ 24) : hR (pH h k p m) a = hR (nP h k (nI p) m) a := funext fun j => by
  show u2 (hR (nP h k (nI p) m)) 24 p (some (hN h)) a j = _
  rw [u2_n _ _ _ _ _ _ (Or.inl q)]
theorem pH_x {h : Hp} {S : MSt} (x : CX h S) {k p : Nat} {m : Int32} : LayX (hS (pH h k p m)) (hR (pH h k p m)) :=
  (x.fr (nP_Fr (k := k) (p := nI p) (m := m))).hx.rr (fun _ _ => rfl) (pH_R (by decide)) (pH_R (by decide)) (pH_R (by decide))
theorem pH_l {h : Hp} {S : MSt} (x : CX h S) {k p : Nat} {m : Int32} : LayL (hS (pH h k p m)) (hR (pH h k p m)) 23 :=
  (x.fr (nP_Fr (k := k) (p := nI p) (m := m))).hl.rs (fun _ _ => rfl) (by decide) (pH_R (by decide)) (pH_R (by decide))
theorem pH_lg {h : Hp} {S : MSt} (x : CX h S) {k p : Nat} {m : Int32} {r : Row} (e : ∀ o j i, ix o j = some i → r i = S.r i) : pH h k p m = LG (pH h k p m) 23 r (-1) (hI (pH h k p m) 33) := by
  have y := x.fr (nP_Fr (k := k) (p := nI p) (m := m))
  have q : HoldL (pH h k p m) 23 r := fun o j i hi => (y.hold o j i hi).trans (congrArg (cvt o) (e o j i hi).symm)
  have t : hI (pH h k p m) 23 7 = -1 := y.tight
  rw [← LG_0 (pH h k p m) 23 r (-1), LH_hold q t]
theorem cx_person {h : Hp} {S : MSt} (x : CX h S) {k p : Nat} {m : Int32} (hk : k < 7) (hp : p < 8) {r g : Row} (q5 : ∀ j, j = 5 ∨ j = 6 ∨ 181 ≤ j → r j = S.r j) (q0 : pv r p 0 = nI k) (q1 : pv r p 1 = m)
    (qo : ∀ p', p' < 8 → p' ≠ p → pv r p' 0 = pv S.r p' 0 ∧ pv r p' 1 = pv S.r p' 1 ∧ (np S.r ≤ p' → np r ≤ p')) : CX (LG (pH h k p m) 23 r (-1) g) (S.s_r r) := by
  have y := x.fr (nP_Fr (k := k) (p := nI p) (m := m))
  have n := y.hN
  have far : ∀ a, a < 23 ∨ 33 < a → hI (LG (pH h k p m) 23 r (-1) g) a = hI (nP h k (nI p) m) a := fun a ha => LG_far (by omega)
  have eR : ∀ a, a ≠ 24 → hR (LG (pH h k p m) 23 r (-1) g) a = hR (nP h k (nI p) m) a := fun a ha => pH_R ha
  have ex : ExtH (nP h k (nI p) m) (LG (pH h k p m) 23 r (-1) g) := ⟨Nat.le_refl _, fun a _ h1 _ h3 _ => ⟨h3, far a (by omega), eR a (by omega)⟩⟩
  refine ⟨pH_x x, pH_l x, y.hl3.rs (fun _ _ => rfl) (by decide) (eR 34 (by decide)) (eR 43 (by decide)), y.hl4.rs (fun _ _ => rfl) (by decide) (eR 45 (by decide)) (eR 54 (by decide)), n, HoldL.lg, LG_rt, ⟨fun p' hp' => ?_, fun u hu => ?_⟩, fun hk => ⟨(y.kept hk).1.fr (fun o ho => far _ (by omega)), (y.kept hk).2.ext ex (eR 35 (by decide)) (eR 40 (by decide))⟩, ?_, fun k h1 h2 => ?_, fun k hk => ?_, ?_, ?_⟩
  · by_cases e : p' = p
    · subst e
      refine Or.inr ⟨hN h, k, ?_, q0, ?_⟩
      · show u2 (hR (nP h k (nI p') m)) 24 p' (some (hN h)) 24 p' = _
        rw [u2_s]
      · show PAt _ _ p' k (pv r p' 1)
        rw [q1]
        exact (nP_pa x.hN hk).ext ex
    · have eA : hR (LG (pH h k p m) 23 r (-1) g) (23 + 1) p' = hR (nP h k (nI p) m) (23 + 1) p' := by
        show u2 (hR (nP h k (nI p) m)) 24 p (some (hN h)) 24 p' = _
        rw [u2_n _ _ _ _ _ _ (Or.inr e)]
      obtain ⟨z0, z1, z2⟩ := qo p' hp' e
      rw [eA]
      show (_ ∧ np r ≤ p') ∨ ∃ a k, _ ∧ pv r p' 0 = nI k ∧ PAt _ a p' k (pv r p' 1)
      rw [z0, z1]
      rcases y.lw.1 p' hp' with k | ⟨a, k, k1, k2, k3⟩
      · exact Or.inl ⟨k.1, z2 k.2⟩
      · exact Or.inr ⟨a, k, k1, k2, k3.ext ex⟩
  · have e5 : r (5 + u) = S.r (5 + u) := q5 _ (by omega)
    have eA : hR (LG (pH h k p m) 23 r (-1) g) (23 + 6) = hR (nP h k (nI p) m) (23 + 6) := eR _ (by decide)
    rw [eA]
    show (r (5 + u) = -1 ∧ _) ∨ ∃ e a v, r (5 + u) = nI e ∧ e ≤ 50 ∧ _ ∧ TV 400 _ a v ∧ ∀ f : Row, v f = (walkP r u e (f (nmA u)) (f (nmB u)) (f (nmC u))).1
    rw [e5]
    rcases y.lw.2 u hu with k | ⟨e, a, v, k1, k2, k3, k4, k5⟩
    · exact Or.inl k
    · refine Or.inr ⟨e, a, v, k1, k2, k3, k4.ext ex, fun f => ?_⟩
      have eb : byV r u e = byV S.r u e := by
        funext k
        unfold byV
        rw [q5 (181 + 50 * u + k) (by omega)]
      have k5 := k5 f
      unfold walkP at k5 ⊢
      rw [eb]
      exact k5
  · rw [far 21 (by omega)]; exact y.im
  · rw [far 58 (by omega)]; exact y.fnd k h1 h2
  · rw [far 57 (by omega)]; exact y.tr k hk
  · rw [far 56 (by omega)]; exact y.many
  · obtain ⟨A, h1, h2⟩ := y.sh
    refine ⟨A, fun s hs => ?_, h2⟩
    rcases h1 s hs with k | ⟨a, c, t, m, k1, k2, k3, k4, k5, k6, k7, k8, k9, k10, k11, k12⟩
    · exact Or.inl ⟨k.1, by rw [eR _ (by omega)]; exact k.2⟩
    · exact Or.inr ⟨a, c, t, m, by rw [eR _ (by omega)]; exact k1, k2, k3, k4, by rw [eR _ (by omega)]; exact k5, k6, k7, k8, k9, k10, k11, fun i hi => by rw [far _ (by omega)]; exact k12 i hi⟩
theorem frx_person {h : Hp} (hn : 78 ≤ hN h) {k p : Nat} {m : Int32} {r g : Row} : FrX h (LG (pH h k p m) 23 r (-1) g) :=
  ⟨Nat.le_succ _, fun a h1 h2 => ⟨nP_S (k := k) (p := nI p) (m := m) (by omega), (LG_far (by omega)).trans (nP_I (by omega)), (pH_R (by omega)).trans (nP_R (by omega))⟩⟩
