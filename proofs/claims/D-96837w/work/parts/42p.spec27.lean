/-! things made: sheets, copies -/
theorem gG_w {d mc ms mc' ms' : Nat} {M : gM} {pc : Nat} {ls : gLs} {st : List Value} {h : Hp} {Q : gQ} (h1 : mc ≤ mc') (h2 : ms ≤ ms') (k : gG d mc ms M pc ls st h Q) : gG d mc' ms' M pc ls st h Q := by
  intro E p l e R s m args below meth c H locs cells slots MC MS la X hr hl r1 r2 r3 r4 r5 r6
  exact k E p l e R s m args below meth c H locs cells slots MC MS la X hr hl r1 r2 (by omega) (by omega) (by omega) (by omega)
theorem hM_S {h : Hp} {x : Nat ⊕ (Nat × Nat)} {a : Nat} (q : a ≠ hN h) : hS (hM h x) a = hS h a := if_neg q
theorem hM_Sn {h : Hp} {x : Nat ⊕ (Nat × Nat)} : hS (hM h x) (hN h) = x := if_pos rfl
theorem hM_I {h : Hp} {x : Nat ⊕ (Nat × Nat)} {a : Nat} (q : a ≠ hN h) : hI (hM h x) a = hI h a := funext fun _ => if_neg q
theorem hM_In {h : Hp} {x : Nat ⊕ (Nat × Nat)} : hI (hM h x) (hN h) = fun _ => 0 := funext fun _ => if_pos rfl
theorem hM_R {h : Hp} {x : Nat ⊕ (Nat × Nat)} {a : Nat} (q : a ≠ hN h) : hR (hM h x) a = hR h a := funext fun _ => if_neg q
theorem wR_n {h : Hp} {a b k : Nat} {v : Option Nat} (q : b ≠ a) : hR (wR h a k v) b = hR h b := funext fun _ => if_neg fun z => q z.1
theorem wR_s {h : Hp} {a k : Nat} {v : Option Nat} : hR (wR h a k v) a k = v := if_pos ⟨rfl, rfl⟩
theorem bI_self {h : Hp} {a : Nat} {F : Row} (e : hI h a = F) : h = bI h a F := by
  have e2 : uf (hI h) a F = hI h := by funext c; unfold uf; by_cases q : c = a <;> simp [q, e]
  show h = sI h (uf (hI h) a F)
  rw [e2]
  rfl
theorem zeroS_at {f : Row} {s i : Nat} : ∀ k, i < k → zeroS f s k (40 * s + i) = nI 0
  | 0, h => absurd h (by omega)
  | k + 1, h => by
    show ru (zeroS f s k) (40 * s + k) (nI 0) (40 * s + i) = _
    by_cases e : i = k
    · subst e; exact ru_s _ _ _
    · rw [ru_n (by omega)]; exact zeroS_at k (by omega)
theorem zeroS_n {f : Row} {s j : Nat} : ∀ k, (j < 40 * s ∨ 40 * s + k ≤ j) → zeroS f s k j = f j
  | 0, _ => rfl
  | k + 1, h => by
    show ru (zeroS f s k) (40 * s + k) (nI 0) j = _
    rw [ru_n (by omega)]
    exact zeroS_n k (by omega)
/-- sheets changed, nothing else -/
theorem cx_shs {h h' : Hp} {S S' : MSt} (x : CX h S) (n : hN h ≤ hN h') (eS : ∀ a, a < hN h → hS h' a = hS h a) (eI : ∀ a, a < hN h → hI h' a = hI h a) (eR : ∀ a, a < hN h → (a < 62 ∨ 65 < a) → hR h' a = hR h a) (s1 : S'.r = S.r) (s2 : S'.kept = S.kept) (s3 : S'.found = S.found) (s4 : S'.traced = S.traced) (s5 : S'.isK = S.isK) (s6 : S'.images = S.images) (s7 : S'.many = S.many) (sh : CXs h' S') : CX h' S' := by
  have n8 := x.hN
  have ex : ExtH h h' := ⟨n, fun a c q1 q2 q3 _ => ⟨(eS a q2).trans q3, eI a q2, eR a q2 (by omega)⟩⟩
  refine ⟨x.hx.rr (fun a ha => eS a (by omega)) (eR 21 (by omega) (by omega)) (eR 56 (by omega) (by omega)) (eR 59 (by omega) (by omega)), x.hl.rs (fun a ha => eS a (by omega)) (by decide) (eR 23 (by omega) (by omega)) (eR 32 (by omega) (by omega)), x.hl3.rs (fun a ha => eS a (by omega)) (by decide) (eR 34 (by omega) (by omega)) (eR 43 (by omega) (by omega)), x.hl4.rs (fun a ha => eS a (by omega)) (by decide) (eR 45 (by omega) (by omega)) (eR 54 (by omega) (by omega)), Nat.le_trans n8 n, ?_, ?_, ?_, ?_, ?_, ?_, ?_, ?_, sh⟩
  · rw [s1]; exact x.hold.fr (fun o ho => eI _ (by omega))
  · rw [eI 23 (by omega)]; exact x.tight
  · rw [s1]; exact x.lw.ext ex (eR 24 (by omega) (by omega)) (eR 29 (by omega) (by omega))
  · rw [s5, s2]; exact fun hk => ⟨(x.kept hk).1.fr (fun o ho => eI _ (by omega)), (x.kept hk).2.ext ex (eR 35 (by omega) (by omega)) (eR 40 (by omega) (by omega))⟩
  · rw [eI 21 (by omega), s6]; exact x.im
  · rw [eI 58 (by omega), s3]; exact x.fnd
  · rw [eI 57 (by omega), s4]; exact x.tr
  · rw [eI 56 (by omega), s7]; exact x.many
/-- a sheet taken away, a sheet made -/
theorem cx_nosheet {h : Hp} {S : MSt} (x : CX h S) {s : Nat} (hs : s < 4) {n : Int32} : CX (wR h (62 + s) 0 none) (okS S s 0 n).2 := by
  have n8 := x.hN
  refine cx_shs x (Nat.le_refl _) (fun _ _ => rfl) (fun _ _ => rfl) (fun a _ q => wR_n (by omega)) rfl rfl rfl rfl rfl rfl rfl ?_
  obtain ⟨A, h1, h2⟩ := x.sh
  refine ⟨A, fun s' hs' => ?_, fun s1 s2 q1 q2 q3 q4 q5 => ?_⟩
  · by_cases e : s' = s
    · subst e
      exact Or.inl ⟨ru_s _ _ _, wR_s⟩
    · have eb : (okS S s 0 n).2.bits s' = S.bits s' := ru_n e
      have ez : (okS S s 0 n).2.size s' = S.size s' := ru_n e
      rw [eb, ez]
      rcases h1 s' hs' with ⟨j1, j2⟩ | ⟨a, c, t, m, k1, k2, k3, k4, k5, k6, k7, k8, k9, k10, k11, k12⟩
      · exact Or.inl ⟨j1, (congrFun (wR_n (by omega)) 0).trans j2⟩
      · exact Or.inr ⟨a, c, t, m, (congrFun (wR_n (by omega)) 0).trans k1, k2, k3, k4, (congrFun (wR_n (by omega)) 0).trans k5, k6, k7, k8, k9, k10, k11, fun i hi => (k12 i hi).trans (zeroS_n 40 (by omega)).symm⟩
  · have b1 : s1 ≠ s := fun e => q4 (by rw [e]; exact ru_s _ _ _)
    have b2' : s2 ≠ s := fun e => q5 (by rw [e]; exact ru_s _ _ _)
    exact h2 s1 s2 q1 q2 q3 (by rw [← (ru_n b1 : (okS S s 0 n).2.bits s1 = S.bits s1)]; exact q4) (by rw [← (ru_n b2' : (okS S s 0 n).2.bits s2 = S.bits s2)]; exact q5)
def nsH (h : Hp) (s c t z : Nat) : Hp := wR (wR (hM (hM h (.inl c)) (.inr (t, z))) (hN h) 0 (some (hN h + 1))) (62 + s) 0 (some (hN h))
theorem cx_newsheet {h : Hp} {S : MSt} (x : CX h S) {s c t z : Nat} {bt : Int32} (hs : s < 4) (hz : z ≤ 40) (hk : (c = 22 ∧ t = 1 ∧ bt = nI 8) ∨ (c = 23 ∧ t = 2 ∧ bt = nI 16) ∨ (c = 24 ∧ t = 0 ∧ bt = nI 32)) : CX (nsH h s c t z) (okS S s bt (nI z)).2 := by
  have n8 := x.hN
  have hb0 : ¬ bt = 0 := by rcases hk with ⟨-, -, e⟩ | ⟨-, -, e⟩ | ⟨-, -, e⟩ <;> rw [e] <;> decide
  have eS : ∀ a, a < hN h → hS (nsH h s c t z) a = hS h a := fun a ha => (hM_S (h := hM h (.inl c)) (x := .inr (t, z)) (show a ≠ hN h + 1 by omega)).trans (hM_S (by omega))
  have eI : ∀ a, a < hN h → hI (nsH h s c t z) a = hI h a := fun a ha => (hM_I (h := hM h (.inl c)) (x := .inr (t, z)) (show a ≠ hN h + 1 by omega)).trans (hM_I (by omega))
  have eR : ∀ a, a < hN h → a ≠ 62 + s → hR (nsH h s c t z) a = hR h a := fun a ha q => (wR_n q).trans ((wR_n (by omega)).trans ((hM_R (h := hM h (.inl c)) (x := .inr (t, z)) (show a ≠ hN h + 1 by omega)).trans (hM_R (by omega))))
  refine cx_shs x (show hN h ≤ hN h + 1 + 1 by omega) eS eI (fun a ha q => eR a ha (by omega)) rfl rfl rfl rfl rfl rfl rfl ?_
  obtain ⟨A, h1, h2⟩ := x.sh
  refine ⟨fun s' => if s' = s then hN h + 1 else A s', fun s' hs' => ?_, fun s1 s2 q1 q2 q3 q4 q5 => ?_⟩
  · show ShA (nsH h s c t z) s' (if s' = s then hN h + 1 else A s') _ _ _
    by_cases e : s' = s
    · subst e
      rw [if_pos rfl]
      refine Or.inr ⟨hN h, c, t, z, wR_s, n8, show hN h < hN h + 1 + 1 by omega, ?_, ?_, by omega, show hN h + 1 < hN h + 1 + 1 by omega, hM_Sn (h := hM h (.inl c)), ?_, hz, ?_, fun i hi => ?_⟩
      · exact (hM_S (h := hM h (.inl c)) (show hN h ≠ hN h + 1 by omega)).trans hM_Sn
      · exact (congrFun (wR_n (by omega)) 0).trans wR_s
      · show ru S.size s' (if bt = 0 then nI 0 else nI z) s' = _
        rw [ru_s, if_neg hb0]
      · have eb : (okS S s' bt (nI z)).2.bits s' = bt := ru_s _ _ _
        rw [eb]
        exact hk
      · exact (congrFun (hM_In (h := hM h (.inl c)) (x := .inr (t, z))) i).trans (zeroS_at 40 (by omega)).symm
    · rw [if_neg e]
      have eb : (okS S s bt (nI z)).2.bits s' = S.bits s' := ru_n e
      have ez : (okS S s bt (nI z)).2.size s' = S.size s' := ru_n e
      rw [eb, ez]
      rcases h1 s' hs' with ⟨j1, j2⟩ | ⟨a, c', t', m, k1, k2, k3, k4, k5, k6, k7, k8, k9, k10, k11, k12⟩
      · exact Or.inl ⟨j1, (congrFun (eR _ (by omega) (by omega)) 0).trans j2⟩
      · exact Or.inr ⟨a, c', t', m, (congrFun (eR _ (by omega) (by omega)) 0).trans k1, k2, show a < hN h + 1 + 1 by omega, (eS a k3).trans k4, (congrFun (eR a k3 (by omega)) 0).trans k5, k6, show A s' < hN h + 1 + 1 by omega, (eS _ k7).trans k8, k9, k10, k11, fun i hi => (congrFun (eI _ k7) i).trans ((k12 i hi).trans (zeroS_n 40 (by omega)).symm)⟩
  · have lt : ∀ s', s' < 4 → s' ≠ s → (okS S s bt (nI z)).2.bits s' ≠ 0 → A s' < hN h := fun s' q e qb => by
      have eb : (okS S s bt (nI z)).2.bits s' = S.bits s' := ru_n e
      obtain ⟨a, t', n', -, so, -⟩ := (h1 s' q).so (by rw [← eb]; exact qb)
      exact so.2.2.2.2.1
    show (if s1 = s then hN h + 1 else A s1) ≠ (if s2 = s then hN h + 1 else A s2)
    by_cases e1 : s1 = s
    · by_cases e2 : s2 = s
      · exact absurd (e1.trans e2.symm) q3
      · rw [if_pos e1, if_neg e2]
        have := lt s2 q2 e2 q5
        omega
    · by_cases e2 : s2 = s
      · rw [if_neg e1, if_pos e2]
        have := lt s1 q1 e1 q4
        omega
      · rw [if_neg e1, if_neg e2]
        have eb1 : (okS S s bt (nI z)).2.bits s1 = S.bits s1 := ru_n e1
        have eb2 : (okS S s bt (nI z)).2.bits s2 = S.bits s2 := ru_n e2
        exact h2 s1 s2 q1 q2 q3 (by rw [← eb1]; exact q4) (by rw [← eb2]; exact q5)
def w3B (b : Int32) : Bool := decide (b = nI 8) || decide (b = nI 16) || decide (b = nI 32)
theorem widB_w {b : Int32} (h : ¬ b = 0) : widB b = w3B b := by
  unfold widB w3B
  rw [decide_eq_false h, Bool.false_or]
theorem w3B_is {b : Int32} (h : w3B b = true) (h1 : ¬ b = nI 8) (h2 : ¬ b = nI 16) : b = nI 32 := by
  unfold w3B at h
  rw [decide_eq_false h1, decide_eq_false h2] at h
  exact of_decide_eq_true h
theorem FrX.ns {h : Hp} {s c t z : Nat} (n : 78 ≤ hN h) (hs : s < 4) : FrX h (nsH h s c t z) := ⟨show hN h ≤ hN h + 1 + 1 by omega, fun a h1 h2 => ⟨(hM_S (h := hM h (.inl c)) (x := .inr (t, z)) (show a ≠ hN h + 1 by omega)).trans (hM_S (by omega)), (hM_I (h := hM h (.inl c)) (x := .inr (t, z)) (show a ≠ hN h + 1 by omega)).trans (hM_I (by omega)), (wR_n (by omega)).trans ((wR_n (by omega)).trans ((hM_R (h := hM h (.inl c)) (x := .inr (t, z)) (show a ≠ hN h + 1 by omega)).trans (hM_R (by omega))))⟩⟩
theorem FrX.wr {h : Hp} {a k : Nat} {v : Option Nat} (q : a < 66 ∨ 77 < a) : FrX h (wR h a k v) := ⟨Nat.le_refl _, fun b h1 h2 => ⟨rfl, rfl, wR_n (by omega)⟩⟩
/-- a row copied out -/
def cpG (f : Nat → Int32) : Nat → Row
  | 0 => fun _ => 0
  | k + 1 => ru (cpG f k) k (f k)
theorem cpG_at {f : Nat → Int32} {i : Nat} : ∀ k, i < k → cpG f k i = f i
  | 0, h => absurd h (by omega)
  | k + 1, h => by
    show ru (cpG f k) k (f k) i = _
    by_cases e : i = k
    · subst e; exact ru_s _ _ _
    · rw [ru_n e]; exact cpG_at k (by omega)
theorem FrC.hm {h : Hp} {x : Nat ⊕ (Nat × Nat)} {F : Row} : FrC h (bI (hM h x) (hN h) F) := ⟨show hN h ≤ hN h + 1 by omega, fun a ha => hM_S (x := x) (by omega), fun a ha _ _ => hM_R (x := x) (by omega), fun a ha _ => (bI_n (by omega)).trans (hM_I (x := x) (by omega))⟩
theorem FrX.hm {h : Hp} {x : Nat ⊕ (Nat × Nat)} {F : Row} (n : 78 ≤ hN h) : FrX h (bI (hM h x) (hN h) F) := ⟨show hN h ≤ hN h + 1 by omega, fun a h1 h2 => ⟨hM_S (x := x) (by omega), (bI_n (by omega)).trans (hM_I (x := x) (by omega)), hM_R (x := x) (by omega)⟩⟩
theorem ShO.hm {h : Hp} {a A t n : Nat} {bt : Int32} {x : Nat ⊕ (Nat × Nat)} {F : Row} (so : ShO h a A t n bt) : ShO (bI (hM h x) (hN h) F) a A t n bt := by
  obtain ⟨h1, h2, h3, h4, h5, h6, h7, h8⟩ := so
  have e : hS (bI (hM h x) (hN h) F) a = hS h a := hM_S (x := x) (by omega)
  refine ⟨h1, show a < hN h + 1 by omega, (congrFun (hM_R (x := x) (by omega)) 0).trans h3, h4, show A < hN h + 1 by omega, (hM_S (x := x) (by omega)).trans h6, h7, ?_⟩
  rw [e]
  exact h8
def pwF (g f : Row) (c : Nat) : Nat → Row
  | 0 => g
  | k + 1 => ru (pwF g f c k) (c + k) (f k)
theorem pwF_mv {g f f0 : Row} {b c d n : Nat} (hf : ∀ k, k < n → f k = f0 (b + k)) : ∀ k, k ≤ n → ∀ i, (∀ j, j < i + 1 → g j = f0 (d + j)) → pwF g f c k i = mvF f0 b (d + c) k (d + i)
  | 0, _, i, hg => hg i (by omega)
  | k + 1, hk, i, hg => by
    show ru (pwF g f c k) (c + k) (f k) i = ru (mvF f0 b (d + c) k) (d + c + k) (f0 (b + k)) (d + i)
    unfold ru
    by_cases e : i = c + k
    · rw [if_pos e, if_pos (by omega), hf k (by omega)]
    · rw [if_neg e, if_neg (by omega)]
      exact pwF_mv hf k (by omega) i hg
theorem mvF_n {f : Row} {b c j : Nat} : ∀ k, (j < c ∨ c + k ≤ j) → mvF f b c k j = f j
  | 0, _ => rfl
  | k + 1, h => by
    show ru (mvF f b c k) (c + k) (f (b + k)) j = _
    rw [ru_n (by omega)]
    exact mvF_n k (by omega)
