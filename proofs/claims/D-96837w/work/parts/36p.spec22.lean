/-! the land tried, the image -/
theorem LC_R {h : Hp} {b c a : Nat} (h1 : a ≠ b + 1) (h2 : a ≠ b + 6) : hR (LC h b c) a = hR h a := by
  unfold LC
  rw [cR_n h2, cR_n h1]
theorem FrC.lc {h : Hp} : FrC h (LC h 45 23) := ⟨Nat.le_refl _, fun _ _ => rfl, fun a _ h1 h2 => LC_R h1 h2, fun _ _ _ => rfl⟩
theorem FrC.lg45 {h : Hp} {r g : Row} {t : Int32} : FrC h (LG h 45 r t g) := ⟨Nat.le_refl _, fun _ _ => rfl, fun _ _ _ _ => rfl, fun a _ h1 => LG_far (by unfold EXc at h1; omega)⟩
theorem CX.tried {h : Hp} {S : MSt} (x : CX h S) {r g : Row} {t : Int32} : CX (LG (LC h 45 23) 45 r t g) S := (x.fr FrC.lc).fr FrC.lg45
theorem FrX.lc {h : Hp} {b c : Nat} (hb : b + 10 < 66) : FrX h (LC h b c) := ⟨Nat.le_refl _, fun a h1 h2 => ⟨rfl, rfl, LC_R (by omega) (by omega)⟩⟩
theorem FrX.tried {h : Hp} {r g : Row} {t : Int32} : FrX h (LG (LC h 45 23) 45 r t g) := (FrX.lc (by decide)).t (FrX.lg (by decide))
theorem LW.lc {h : Hp} {b c : Nat} {r : Row} (w : LW h c r) (hb : b + 10 < 66) (hc : c + 10 < b ∨ b + 10 < c) : LW (LC h b c) b r := by
  have ex : ExtH h (LC h b c) := ⟨Nat.le_refl _, fun a k h1 _ h3 _ => ⟨h3, rfl, LC_R (by omega) (by omega)⟩⟩
  refine ⟨fun p hp => ?_, fun u hu => ?_⟩
  · have e : hR (LC h b c) (b + 1) p = hR h (c + 1) p := by
      unfold LC
      rw [congrFun (cR_n (by omega)) p, cR_at hp]
    rw [e]
    rcases w.1 p hp with k | ⟨a, k, k1, k2, k3⟩
    · exact Or.inl k
    · exact Or.inr ⟨a, k, k1, k2, k3.ext ex⟩
  · have e : hR (LC h b c) (b + 6) u = hR h (c + 6) u := by
      unfold LC
      rw [cR_at hu, congrFun (cR_n (by omega)) u]
    rw [e]
    rcases w.2 u hu with k | ⟨e, a, v, k1, k2, k3, k4, k5⟩
    · exact Or.inl k
    · exact Or.inr ⟨e, a, v, k1, k2, k3, k4.ext ex, k5⟩
theorem LW.lt {h : Hp} {b : Nat} {r r' : Row} (x : ∀ k, k < 281 → r' k = r k) (w : LW h b r) : LW h b r' := by
  have pe : ∀ p x, p < 8 → x < 2 → pv r' p x = pv r p x := fun p y h1 h2 => x _ (by omega)
  have ne : np r' = np r := by unfold np; rw [x 2 (by decide)]
  refine ⟨fun p hp => ?_, fun u hu => ?_⟩
  · rw [pe p 0 hp (by decide), pe p 1 hp (by decide), ne]
    exact w.1 p hp
  · rw [x (5 + u) (by omega)]
    rcases w.2 u hu with k | ⟨e, a, v, k1, k2, k3, k4, k5⟩
    · exact Or.inl k
    · refine Or.inr ⟨e, a, v, k1, k2, k3, k4, fun f => ?_⟩
      have eb : byV r' u e = byV r u e := by
        funext k
        unfold byV
        by_cases q : k < e
        · rw [if_pos q, if_pos q, x (181 + 50 * u + k) (by omega)]
        · rw [if_neg q, if_neg q]
      unfold walkP
      rw [eb]
      exact k5 f
theorem HoldL.lt {h : Hp} {b : Nat} {r r' : Row} (x : ∀ k, k < 281 → r' k = r k) (k : HoldL h b r) : HoldL h b r' := fun o j i hi => by
  have := ix_is hi
  rw [x i (by omega)]
  exact k o j i hi
theorem cpR_lt {f t : Row} : ∀ k, k < 281 → cpR 281 f t k = f k := fun k hk => if_pos hk
/-- the image taken -/
theorem CX.image {h : Hp} {S : MSt} (x : CX h S) (hS9 : ∀ v : Int32, True) : CX (wI (LH (LC h 34 23) 34 S.r (-1)) 21 4 (S.images + nI 1)) (((S.s_kept (cpR 281 S.r S.kept)).s_isK (nI 1)).s_images (S.images + nI 1)) := by
  have n := x.hN
  have far : ∀ a, a ≠ 21 → (a < 34 ∨ 42 < a) → hI (wI (LH (LC h 34 23) 34 S.r (-1)) 21 4 (S.images + nI 1)) a = hI h a := fun a q1 q2 => funext fun j => by
    show u2 (lhf (hI h) 34 S.r (-1)) 21 4 _ a j = _
    rw [u2_n _ _ _ _ _ _ (Or.inl q1), lhf_o (by omega)]
  have eR : ∀ a, a ≠ 35 → a ≠ 40 → hR (LC h 34 23) a = hR h a := fun a h1 h2 => LC_R h1 h2
  have ex : ExtH h (wI (LH (LC h 34 23) 34 S.r (-1)) 21 4 (S.images + nI 1)) := ⟨Nat.le_refl _, fun a _ q1 _ q3 _ => ⟨q3, far a (by omega) (by omega), eR a (by omega) (by omega)⟩⟩
  have ex2 : ExtH (LC h 34 23) (wI (LH (LC h 34 23) 34 S.r (-1)) 21 4 (S.images + nI 1)) := ⟨Nat.le_refl _, fun a _ q1 _ q3 _ => ⟨q3, far a (by omega) (by omega), rfl⟩⟩
  refine ⟨x.hx.rr (fun _ _ => rfl) (eR 21 (by decide) (by decide)) (eR 56 (by decide) (by decide)) (eR 59 (by decide) (by decide)), x.hl.rr (eR 23 (by decide) (by decide)) (eR 32 (by decide) (by decide)), x.hl3.rr (eR 34 (by decide) (by decide)) (eR 43 (by decide) (by decide)), x.hl4.rr (eR 45 (by decide) (by decide)) (eR 54 (by decide) (by decide)), n, x.hold.fr (fun o ho => far _ (by omega) (by omega)), ?_, x.lw.ext ex (eR 24 (by decide) (by decide)) (eR 29 (by decide) (by decide)), fun _ => ⟨HoldL.lt cpR_lt (fun o j i hi => ?_), LW.lt cpR_lt ((x.lw.lc (by decide) (by decide)).ext ex2 rfl rfl)⟩, ?_, fun k h1 h2 => ?_, fun k hk => ?_, ?_, ?_⟩
  · rw [far 23 (by decide) (by decide)]; exact x.tight
  · have := ix_is hi
    show u2 (lhf (hI h) 34 S.r (-1)) 21 4 _ (34 + o) j = _
    rw [u2_n _ _ _ _ _ _ (Or.inl (by omega)), lhf_r hi]
  · show u2 (lhf (hI h) 34 S.r (-1)) 21 4 _ 21 4 = _
    rw [u2_s]
    rfl
  · rw [far 58 (by decide) (by decide)]; exact x.fnd k h1 h2
  · rw [far 57 (by decide) (by decide)]; exact x.tr k hk
  · rw [far 56 (by decide) (by decide)]; exact x.many
  · obtain ⟨A, q1, q2⟩ := x.sh
    refine ⟨A, fun s hs => ?_, q2⟩
    have e0 : hR (LC h 34 23) (62 + s) = hR h (62 + s) := eR _ (by omega) (by omega)
    rcases q1 s hs with ⟨j1, j2⟩ | ⟨a, c, t, m, k1, k2, k3, k4, k5, k6, k7, k8, k9, k10, k11, k12⟩
    · exact Or.inl ⟨j1, by show hR (LC h 34 23) (62 + s) 0 = none; rw [e0]; exact j2⟩
    · exact Or.inr ⟨a, c, t, m, by show hR (LC h 34 23) (62 + s) 0 = _; rw [e0]; exact k1, k2, k3, k4, by show hR (LC h 34 23) a 0 = _; rw [eR a (by omega) (by omega)]; exact k5, k6, k7, k8, k9, k10, k11, fun i hi => by rw [far _ (by omega) (by omega)]; exact k12 i hi⟩
theorem LH_t {h : Hp} {b : Nat} {r : Row} {t : Int32} : hI (LH h b r t) b 7 = t := lhf_t
/-- the image put back -/
theorem CX.restore {h : Hp} {S : MSt} (x : CX h S) (hk : S.isK ≠ 0) : CX (LH (LC h 23 34) 23 S.kept (-1)) (S.s_r (cpR 281 S.kept S.r)) := by
  have n := x.hN
  obtain ⟨ho, hw⟩ := x.kept hk
  have far : ∀ a, (a < 23 ∨ 31 < a) → hI (LH (LC h 23 34) 23 S.kept (-1)) a = hI h a := fun a q2 => LH_o (by omega)
  have eR : ∀ a, a ≠ 24 → a ≠ 29 → hR (LC h 23 34) a = hR h a := fun a h1 h2 => LC_R h1 h2
  have ex : ExtH h (LH (LC h 23 34) 23 S.kept (-1)) := ⟨Nat.le_refl _, fun a _ q1 _ q3 _ => ⟨q3, far a (by omega), eR a (by omega) (by omega)⟩⟩
  have ex2 : ExtH (LC h 23 34) (LH (LC h 23 34) 23 S.kept (-1)) := ⟨Nat.le_refl _, fun a _ q1 _ q3 _ => ⟨q3, far a (by omega), rfl⟩⟩
  refine ⟨x.hx.rr (fun _ _ => rfl) (eR 21 (by decide) (by decide)) (eR 56 (by decide) (by decide)) (eR 59 (by decide) (by decide)), x.hl.rr (eR 23 (by decide) (by decide)) (eR 32 (by decide) (by decide)), x.hl3.rr (eR 34 (by decide) (by decide)) (eR 43 (by decide) (by decide)), x.hl4.rr (eR 45 (by decide) (by decide)) (eR 54 (by decide) (by decide)), n, HoldL.lt cpR_lt (fun o j i hi => LH_r hi), LH_t, LW.lt cpR_lt ((hw.lc (by decide) (by decide)).ext ex2 rfl rfl), fun _ => ⟨ho.fr (fun o ho => far _ (by omega)), hw.ext ex (eR 35 (by decide) (by decide)) (eR 40 (by decide) (by decide))⟩, ?_, fun k h1 h2 => ?_, fun k hk => ?_, ?_, ?_⟩
  · rw [far 21 (by decide)]; exact x.im
  · rw [far 58 (by decide)]; exact x.fnd k h1 h2
  · rw [far 57 (by decide)]; exact x.tr k hk
  · rw [far 56 (by decide)]; exact x.many
  · obtain ⟨A, q1, q2⟩ := x.sh
    refine ⟨A, fun s hs => ?_, q2⟩
    have e0 : hR (LC h 23 34) (62 + s) = hR h (62 + s) := eR _ (by omega) (by omega)
    rcases q1 s hs with ⟨j1, j2⟩ | ⟨a, c, t, m, k1, k2, k3, k4, k5, k6, k7, k8, k9, k10, k11, k12⟩
    · exact Or.inl ⟨j1, by show hR (LC h 23 34) (62 + s) 0 = none; rw [e0]; exact j2⟩
    · exact Or.inr ⟨a, c, t, m, by show hR (LC h 23 34) (62 + s) 0 = _; rw [e0]; exact k1, k2, k3, k4, by show hR (LC h 23 34) a 0 = _; rw [eR a (by omega) (by omega)]; exact k5, k6, k7, k8, k9, k10, k11, fun i hi => by rw [far _ (by omega)]; exact k12 i hi⟩
/-- who is thirsty, or nobody -/
def thI (r : Row) (x : Int32) : Int32 := if thV r x < np r then nI (thV r x) else -1
theorem thV_le {r : Row} {x : Int32} : thV r x ≤ np r := by
  have := thF_le (r := r) (x := x) (np r) 0
  unfold thV
  omega
theorem thI_1 {r : Row} {x : Int32} (h8 : np r ≤ 8) (h : thI r x = -1) : thV r x = np r := by
  unfold thI at h
  by_cases c : thV r x < np r
  · rw [if_pos c] at h
    exact absurd h (nI_ne1 (by omega))
  · have := thV_le (r := r) (x := x)
    omega
theorem thI_2 {r : Row} {x : Int32} (h : thV r x = np r) : thI r x = -1 := if_neg (by omega)
theorem thI_3 {r : Row} {x : Int32} (h : thV r x ≠ np r) : thI r x = nI (thV r x) := if_pos (by have := thV_le (r := r) (x := x); omega)
theorem fsF_end {r : Row} {x : Int32} : ∀ k m, fsF r x k m < m + k → thV (passR r (-1) (fsF r x k m)) x ≠ np r
  | 0, m, h => absurd h (by show ¬ m < m + 0; omega)
  | k + 1, m, h => by
    by_cases c : thV (passR r (-1) m) x = np r
    · have e : fsF r x (k + 1) m = fsF r x k (m + 1) := if_pos c
      rw [e] at h ⊢
      exact fsF_end k (m + 1) (by omega)
    · have e : fsF r x (k + 1) m = m := if_neg c
      rw [e]
      exact c
/-- a byte of a word -/
theorem wb_byte (y : Int64) : ((y &&& (255 : Int64)).toInt32).toInt8 = (y.toInt32).toInt8 := by
  apply Int8.toBitVec.inj
  simp only [Int32.toBitVec_toInt8, Int64.toBitVec_toInt32, Int64.toBitVec_and]
  rw [BitVec.signExtend_eq_setWidth_of_le _ (by decide), BitVec.signExtend_eq_setWidth_of_le _ (by decide), BitVec.signExtend_eq_setWidth_of_le _ (by decide), BitVec.signExtend_eq_setWidth_of_le _ (by decide), BitVec.setWidth_setWidth_of_le _ (by decide), BitVec.setWidth_setWidth_of_le _ (by decide), BitVec.setWidth_and]
  have e : BitVec.setWidth 8 (255 : Int64).toBitVec = BitVec.allOnes 8 := by decide
  rw [e, BitVec.and_allOnes]
theorem i8_i8 (x : Int8) : (x.toInt32).toInt8 = x := Int8.toInt8_toInt32 x
theorem RU.r {r : Row} : RU r r := fun _ _ => rfl
theorem RU.t {a b c : Row} (h1 : RU a b) (h2 : RU b c) : RU a c := fun k hk => (h2 k hk).trans (h1 k hk)
theorem RU.feed {r : Row} {wd : Int64} {t : Nat} {n : Nat} (h : t + n ≤ 50) : ∀ k, k ≤ n → RU r (feedR r wd t k)
  | 0, _ => RU.r
  | k + 1, hk => (RU.feed h k (by omega)).t fun j hj => (ru_n (by rcases hj with q | q | q | q | ⟨x, y, h1, h2, h3⟩ <;> omega)).trans (ru_n (by rcases hj with q | q | q | q | ⟨x, y, h1, h2, h3⟩ <;> omega))
theorem wb_st (wd : Int64) (i : Nat) : vp_nar .byte ((wd >>> ((nI (8 * i)).toInt64 &&& 63)).toInt32.toInt8.toInt32) = (wbV wd i).toInt8.toInt32 := by
  show ((wd >>> ((nI (8 * i)).toInt64 &&& 63)).toInt32.toInt8.toInt32).toInt8.toInt32 = _
  unfold wbV
  rw [i8_i8, wb_byte]
theorem cI_at {h : Hp} {a b n k : Nat} (hk : k < n) : hI (cI h a 0 b 0 n) b k = hI h a k := by
  show (if b = b ∧ 0 ≤ k ∧ k < 0 + n then hI h a (0 + (k - 0)) else hI h b k) = _
  rw [if_pos ⟨rfl, by omega, by omega⟩, show 0 + (k - 0) = k by omega]
theorem FrX.c {h : Hp} {a i b j n : Nat} (hb : b < 66) : FrX h (cI h a i b j n) := ⟨Nat.le_refl _, fun x h1 h2 => ⟨rfl, funext fun k => if_neg fun q => by omega, rfl⟩⟩
theorem RU.w4 {r : Row} {v : Int32} : RU r (ru r 4 v) := fun k hk => ru_n (by rcases hk with q | q | q | q | ⟨x, y, h1, h2, h3⟩ <;> omega)
theorem drF_t {r : Row} {k m : Nat} (h : givenSet (passR r (-1) m) (np r) = 0) : drF r (k + 1) m = m := if_pos h
theorem drF_f {r : Row} {k m : Nat} (h : ¬ givenSet (passR r (-1) m) (np r) = 0) : drF r (k + 1) m = drF r k (m + 1) := if_neg h
theorem FrX.lh {h : Hp} {b : Nat} {r : Row} {t : Int32} (hb : b + 10 < 66) : FrX h (LH h b r t) := ⟨Nat.le_refl _, fun x h1 h2 => ⟨rfl, LH_o (by omega), rfl⟩⟩
