/-! rules and covers as the component has them -/
set_option maxRecDepth 100000 in
theorem ruB_256 : ∀ k, k < 256 → (decide (((nI k - nI k / nI 16 * nI 16) &&& ((nI k / nI 16) ^^^ (-1))) = 0)) = ruB (nI k) := by decide +kernel
set_option maxRecDepth 100000 in
theorem div_256 : ∀ k, k < 256 → nI k / nI 16 = nI k >>> (nI 4 &&& 31) ∧ nI k - nI k / nI 16 * nI 16 = nI k &&& nI 15 := by decide +kernel
theorem givB_c {k : Nat} (hk : k < 256) (t : Int32) : givB (nI k) t = decide (t &&& nI k / nI 16 = nI k - nI k / nI 16 * nI 16) := by
  unfold givB
  rw [(div_256 k hk).2, (div_256 k hk).1, Int32.and_comm]
def bcE (x : Int32) : Int32 :=
  let a := x - ((x.toUInt32 >>> ((nI 1).toUInt32 &&& Int32.toUInt32 31)).toInt32 &&& 1431655765)
  let b := (a &&& 858993459) + ((a.toUInt32 >>> ((nI 2).toUInt32 &&& Int32.toUInt32 31)).toInt32 &&& 858993459)
  let c := (b + (b.toUInt32 >>> ((nI 4).toUInt32 &&& Int32.toUInt32 31)).toInt32) &&& 252645135
  let d := c + (c.toUInt32 >>> ((nI 8).toUInt32 &&& Int32.toUInt32 31)).toInt32
  let e := d + (d.toUInt32 >>> ((nI 16).toUInt32 &&& Int32.toUInt32 31)).toInt32
  e &&& nI 63
set_option maxRecDepth 100000 in
theorem bcE_256 : ∀ s, s < 256 → bcE (nI s) = nI (bitN s) := by decide +kernel
/-- how many of the first k -/
def manF (ok : Nat → Bool) : Nat → Nat
  | 0 => 0
  | k + 1 => manF ok k + (if ok k = true then 1 else 0)
theorem manF_t {ok : Nat → Bool} {k : Nat} (h : ok k = true) : manF ok (k + 1) = manF ok k + 1 := by
  show manF ok k + (if ok k = true then 1 else 0) = _
  rw [if_pos h]
theorem manF_f {ok : Nat → Bool} {k : Nat} (h : ok k = false) : manF ok (k + 1) = manF ok k + 0 := by
  show manF ok k + (if ok k = true then 1 else 0) = _
  rw [h]; rfl
theorem manF_le {ok : Nat → Bool} : ∀ k, manF ok k ≤ k
  | 0 => Nat.le_refl _
  | k + 1 => by
    have := manF_le (ok := ok) k
    by_cases c : ok k = true
    · rw [manF_t c]; omega
    · rw [manF_f (by simpa using c)]; omega
theorem manG_F {ok : Nat → Bool} : ∀ k m, manG ok k m = m + manF ok k
  | 0, m => rfl
  | k + 1, m => by
    by_cases c : ok k = true
    · rw [manG_t c, manG_F k, manF_t c]; omega
    · have c' : ok k = false := by simpa using c
      rw [manG_f c', manG_F k, manF_f c']; omega
theorem leaG_lo {ok : Nat → Bool} {l0 : Nat} (hno : ∀ j, j < l0 → ok j = false) : ∀ k c, k ≤ l0 → leaG ok k c = c
  | 0, c, _ => rfl
  | k + 1, c, h => by rw [leaG_f (hno k (by omega))]; exact leaG_lo hno k c (by omega)
theorem leaG_at {ok : Nat → Bool} {l0 : Nat} (h : ok l0 = true) (hno : ∀ j, j < l0 → ok j = false) : ∀ k c, l0 < k → leaG ok k c = l0
  | 0, c, q => absurd q (by omega)
  | k + 1, c, q => by
    by_cases e : k = l0
    · subst e; rw [leaG_t h]; exact leaG_lo hno _ _ (Nat.le_refl _)
    · by_cases c' : ok k = true
      · rw [leaG_t c']; exact leaG_at h hno k _ (by omega)
      · rw [leaG_f (by simpa using c')]; exact leaG_at h hno k _ (by omega)
theorem manF_pos {ok : Nat → Bool} : ∀ k, 0 < manF ok k → ∃ j, j < k ∧ ok j = true
  | 0, h => absurd h (by show ¬ 0 < 0; omega)
  | k + 1, h => by
    by_cases c : ok k = true
    · exact ⟨k, by omega, c⟩
    · rw [manF_f (by simpa using c)] at h
      obtain ⟨j, h1, h2⟩ := manF_pos k (by omega)
      exact ⟨j, by omega, h2⟩
/-- the fits found so far -/
def fiF (ok : Nat → Bool) (F : Row) : Nat → Row
  | 0 => F
  | k + 1 => ru (fiF ok F k) k (b2 (ok k))
theorem fiF_at {ok : Nat → Bool} {F : Row} {i : Nat} : ∀ k, i < k → fiF ok F k i = b2 (ok i)
  | 0, h => absurd h (by omega)
  | k + 1, h => by
    show ru (fiF ok F k) k (b2 (ok k)) i = _
    by_cases e : i = k
    · subst e; exact ru_s _ _ _
    · rw [ru_n e]; exact fiF_at k (by omega)
theorem apF_b {ok gv : Nat → Bool} : ∀ k, k ≤ 256 → ∃ z : Int, (apF ok gv k).toInt = z ∧ -(k : Int) ≤ z ∧ z ≤ k
  | 0, _ => ⟨0, rfl, by omega, by omega⟩
  | k + 1, h => by
    obtain ⟨z, e, h1, h2⟩ := apF_b (ok := ok) (gv := gv) k (by omega)
    have e1 : (nI 1).toInt = 1 := rfl
    have e2 : (-1 : Int32).toInt = -1 := rfl
    have e0 : (nI 0).toInt = 0 := rfl
    by_cases c : ok k = true
    · by_cases c2 : gv k = true
      · refine ⟨z + 1, ?_, by omega, by omega⟩
        rw [apF_1 c c2, Int32.toInt_add, e, e1, Int.bmod_eq_of_le (by omega) (by omega)]
      · refine ⟨z + -1, ?_, by omega, by omega⟩
        rw [apF_2 c (by simpa using c2), Int32.toInt_add, e, e2, Int.bmod_eq_of_le (by omega) (by omega)]
    · refine ⟨z + 0, ?_, by omega, by omega⟩
      rw [apF_3 (by simpa using c), Int32.toInt_add, e, e0, Int.bmod_eq_of_le (by omega) (by omega)]
theorem absI_lt {x : Int32} (h : ∃ z : Int, x.toInt = z ∧ -256 ≤ z ∧ z ≤ 256) : absI x < nI 1000 := by
  obtain ⟨z, e, h1, h2⟩ := h
  have e3 : (nI 1000).toInt = 1000 := rfl
  unfold absI
  by_cases c : x < 0
  · rw [if_pos c, Int32.lt_iff_toInt_lt, Int32.toInt_neg, e, e3, Int.bmod_eq_of_le (by omega) (by omega)]
    omega
  · rw [if_neg c, Int32.lt_iff_toInt_lt, e, e3]
    omega
theorem absI_m {x : Int32} : (if 0 ≤ x then x else 0 - x) = absI x := by
  unfold absI
  by_cases c : x < 0
  · rw [if_pos c, if_neg (Int32.not_le.mpr c), Int32.zero_sub]
  · rw [if_neg c, if_pos (Int32.not_lt.mp c)]
/-- the evenest, as the component finds it -/
def evC (u : Nat → Int32) : Nat → Nat
  | 0 => 0
  | k + 1 => if u (k + 1) < u (evC u k) then k + 1 else evC u k
theorem evC_t {u : Nat → Int32} {k : Nat} (h : u (k + 1) < u (evC u k)) : evC u (k + 1) = k + 1 := if_pos h
theorem evC_f {u : Nat → Int32} {k : Nat} (h : ¬ u (k + 1) < u (evC u k)) : evC u (k + 1) = evC u k := if_neg h
theorem evC_le {u : Nat → Int32} : ∀ k, evC u k ≤ k
  | 0 => Nat.le_refl _
  | k + 1 => by
    by_cases c : u (k + 1) < u (evC u k)
    · rw [evC_t c]; omega
    · rw [evC_f c]; have := evC_le (u := u) k; omega
theorem evF_C {u : Nat → Int32} (h0 : u 0 < nI 1000) : ∀ k, evF u (k + 1) = (evC u k, u (evC u k))
  | 0 => evF_t h0
  | k + 1 => by
    by_cases c : u (k + 1) < u (evC u k)
    · rw [evF_t (by rw [evF_C h0 k]; exact c), evC_t c]
    · rw [evF_f (by rw [evF_C h0 k]; exact c), evF_C h0 k, evC_f c]
/-- covers: no set beyond those given -/
theorem covF_hi {ok : Nat → Bool} {g : Nat} (h : ∀ s, g < s → ok s = false) : ∀ k, covF ok (g + 1 + k) = covF ok (g + 1)
  | 0 => rfl
  | k + 1 => by
    rw [show g + 1 + (k + 1) = (g + 1 + k) + 1 by omega, covF_n (h _ (by omega))]
    exact covF_hi h k
theorem and_not_le {s g : Nat} (hs : s < 2147483648) (hg : g < 2147483648) (h : nI s &&& (nI g ^^^ (-1)) = 0) : s ≤ g := by
  have e : nI s &&& nI g = nI s := by
    have h1 : nI s &&& (nI g ^^^ (-1)) = nI s ^^^ (nI s &&& nI g) := by
      apply Int32.toBitVec_inj.mp
      have em : (-1 : Int32).toBitVec = BitVec.allOnes 32 := by decide
      simp only [Int32.toBitVec_and, Int32.toBitVec_xor, em]
      ext i hi
      simp only [BitVec.getElem_and, BitVec.getElem_xor, BitVec.getElem_allOnes]
      cases (nI s).toBitVec[i] <;> cases (nI g).toBitVec[i] <;> rfl
    rw [h1] at h
    have h2 : nI s = nI s &&& nI g := by
      apply Int32.toBitVec_inj.mp
      have h3 := congrArg Int32.toBitVec h
      simp only [Int32.toBitVec_xor, Int32.toBitVec_zero] at h3
      exact BitVec.xor_eq_zero_iff.mp h3
    exact h2.symm
  have e1 : (nI s).toBitVec = BitVec.ofNat 32 s := rfl
  have e2 : (nI g).toBitVec = BitVec.ofNat 32 g := rfl
  have h4 := congrArg (fun x => x.toBitVec.toNat) e
  simp only [Int32.toBitVec_and, e1, e2, BitVec.toNat_and, BitVec.toNat_ofNat] at h4
  rw [Nat.mod_eq_of_lt (by omega), Nat.mod_eq_of_lt (by omega)] at h4
  rw [← h4]
  exact Nat.and_le_right
theorem givOr : ∀ k, k < 8 → ∀ g, g < 2 ^ k → (nI g ||| (nI 1 <<< (nI k &&& 31))) = nI (g + 2 ^ k) := by decide +kernel
theorem giv_n (r : Row) : ∀ k, k ≤ 8 → ∃ g, givenSet r k = nI g ∧ g < 2 ^ k
  | 0, _ => ⟨0, rfl, by decide⟩
  | k + 1, h => by
    obtain ⟨g, e, hg⟩ := giv_n r k (by omega)
    have hp : 2 ^ (k + 1) = 2 ^ k + 2 ^ k := by rw [Nat.pow_succ]; omega
    by_cases c : givenB r k = true
    · refine ⟨g + 2 ^ k, ?_, by omega⟩
      rw [givenSet_t c, e]
      exact givOr k (by omega) g hg
    · refine ⟨g, ?_, by omega⟩
      rw [givenSet_f (by simpa using c), e]
      exact Int32.or_zero
theorem cov_c {r : Row} {gv : Nat} (hg : givenSet r (np r) = nI gv) (hl : gv < 2 ^ np r) (h8 : np r ≤ 8) : coX r = covF (coOk r (nI gv) (drkS r (np r)) (np r)) (gv + 1) := by
  have h256 := (shl_n (np r) h8).2
  unfold coX
  rw [hg]
  obtain ⟨k, hk⟩ : ∃ k, 2 ^ np r = gv + 1 + k := ⟨2 ^ np r - (gv + 1), by omega⟩
  rw [hk]
  have key : ∀ j, gv + 1 + j ≤ 256 → covF (coOk r (nI gv) (drkS r (np r)) (np r)) (gv + 1 + j) = covF (coOk r (nI gv) (drkS r (np r)) (np r)) (gv + 1) := by
    intro j
    induction j with
    | zero => exact fun _ => rfl
    | succ j ih =>
      intro h
      rw [show gv + 1 + (j + 1) = (gv + 1 + j) + 1 by omega, covF_n (coOk_f1 (fun q => ?_))]
      · exact ih (by omega)
      · have := and_not_le (s := gv + 1 + j) (g := gv) (by omega) (by omega) q
        omega
  exact key k (by omega)
theorem r_ldcw {d mc ms : Nat} {M : gM} {pc : Nat} {ls : gLs} {st : List Value} {h : Hp} {Q : gQ} {index : Nat} {v : Int32} (dc : decode (mC M) pc = .ok (.ldc_w index, 3)) (q : Cond.constant (mOwn M) index v ∈ lw_all) (kk : gG d mc ms M (pc + 3) ls (.int v :: st) h Q) : gG d mc ms M pc ls (st) h Q := by
  intro E p l e R s m args below meth c H locs cells slots MC MS la X hr hl r1 r2 r3 r4 r5 r6
  exact lv_ldcw X.1.1 X.1.2.1 X.1.2.2.2.1 (X.1.2.2.2.2 _ q) dc (kk E p l e R s m args below meth c H locs cells slots MC MS la X hr hl r1 r2 r3 r4 r5 r6)
