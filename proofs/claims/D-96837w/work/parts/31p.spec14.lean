/-! a land's days: what holds of waters, thirsts, debts -/
def RowW (r : Row) : Prop := ∀ p, p < 8 → ∃ k, pv r p 3 = nI k ∧ k ≤ 999
def RowH (r : Row) : Prop := ∀ p, p < 8 → ∃ k, pv r p 4 = nI k ∧ k ≤ 99
def RowV (r : Row) : Prop := RowW r ∧ RowH r ∧ RowD r
theorem WF.V {r : Row} (w : WF r) : RowV r := ⟨w.W, w.H, w.D⟩
theorem held_n {k m : Nat} (hk : k < 2147483648) (hm : m < 2147483648) : heldV (nI k) 0 (nI m) = nI (min k m) := by
  unfold heldV
  rw [if_neg (nI_pos hk)]
  by_cases c : m < k
  · rw [if_pos ((nI_ltI hm hk).mpr c), Nat.min_eq_right (by omega)]
  · rw [if_neg (fun q => c ((nI_ltI hm hk).mp q)), Nat.min_eq_left (by omega)]
/-- the least of a bound and a number, as Math.min has it -/
theorem mmin_n {k m : Nat} (hk : k < 2147483648) (hm : m < 2147483648) : (if nI k < nI m then nI k else nI m) = heldV (nI k) 0 (nI m) := by
  rw [held_n hk hm]
  exact minI_n hk hm
theorem mmax0 {a b : Nat} (ha : a < 2147483648) (hb : b < 2147483648) (h : b ≤ a) : (if nI 0 < nI a - nI b then nI a - nI b else nI 0) = nI (a - b) := by
  rw [nI_sub h]
  by_cases c : 0 < a - b
  · rw [if_pos ((nI_ltI (by omega) (by omega)).mpr c)]
  · rw [if_neg (fun q => c ((nI_ltI (by omega) (by omega)).mp q)), show a - b = 0 by omega]
theorem neg_sub {a b : Nat} (ha : a < 1000000) (hb : b < 1000000) (h : a < b) : nI a - nI b < 0 := by
  rw [Int32.lt_iff_toInt_lt, Int32.toInt_sub, nI_toInt (by omega), nI_toInt (by omega), Int.bmod_eq_of_le (by omega) (by omega), i_t0]
  omega
theorem mmaxN {a b : Nat} (ha : a < 1000000) (hb : b < 1000000) (h : a ≤ b) : (if nI 0 < nI a - nI b then nI a - nI b else nI 0) = nI 0 := by
  rw [if_neg]
  intro q
  by_cases c : a = b
  · subst c
    rw [nI_sub (Nat.le_refl a), Nat.sub_self] at q
    exact absurd q (by decide)
  · have h1 := neg_sub ha hb (by omega)
    exact absurd q (Int32.not_lt.mpr (Int32.le_of_lt (by rw [nI_0]; exact h1)))
theorem sub_sub_n {a b c : Nat} (h : a < b) : nI c - (nI a - nI b) = nI (c + (b - a)) := by
  have e : nI a - nI b = - nI (b - a) := by rw [← nI_sub (by omega : a ≤ b), Int32.neg_sub]
  rw [e, Int32.sub_neg, nI_add]
theorem fill_n : ∀ k, k < 7 → ∀ m, m < 10 → ∃ f, f < 13 ∧ fillV k (nI m) = nI f := by decide +kernel
theorem drink_n : ∀ k, k < 7 → ∃ f, f < 4 ∧ drinkV k = nI f := by decide +kernel
theorem pv_spv {r : Row} {p w q x : Nat} {v : Int32} (hw : w < 5) (hx : x < 5) (h : ¬ (q = p ∧ x = w)) : pv (spv r p w v) q x = pv r q x := ru_n (by omega)
theorem pv_spvs {r : Row} {p w : Nat} {v : Int32} : pv (spv r p w v) p w = v := ru_s _ _ _
theorem RowV.w3 {r : Row} (V : RowV r) {p k : Nat} (hp : p < 8) (hk : k ≤ 999) : RowV (spv r p 3 (nI k)) := by
  refine ⟨fun q hq => ?_, fun q hq => ?_, fun j hj => ?_⟩
  · by_cases e : q = p
    · subst e; exact ⟨k, pv_spvs, hk⟩
    · rw [pv_spv (by omega) (by omega) (by omega)]; exact V.1 q hq
  · rw [pv_spv (by omega) (by omega) (by omega)]; exact V.2.1 q hq
  · rw [show spv r p 3 (nI k) (47 + j) = r (47 + j) from ru_n (by omega)]; exact V.2.2 j hj
theorem RowV.w4 {r : Row} (V : RowV r) {p k : Nat} (hp : p < 8) (hk : k ≤ 99) : RowV (spv r p 4 (nI k)) := by
  refine ⟨fun q hq => ?_, fun q hq => ?_, fun j hj => ?_⟩
  · rw [pv_spv (by omega) (by omega) (by omega)]; exact V.1 q hq
  · by_cases e : q = p
    · subst e; exact ⟨k, pv_spvs, hk⟩
    · rw [pv_spv (by omega) (by omega) (by omega)]; exact V.2.1 q hq
  · rw [show spv r p 4 (nI k) (47 + j) = r (47 + j) from ru_n (by omega)]; exact V.2.2 j hj
theorem RowV.wd {r : Row} (V : RowV r) {a b k : Nat} (ha : a < 8) (hb : b < 8) (hk : k ≤ 99) : RowV (sdv r a b (nI k)) := by
  refine ⟨fun q hq => ?_, fun q hq => ?_, fun j hj => ?_⟩
  · rw [show pv (sdv r a b (nI k)) q 3 = pv r q 3 from ru_n (by omega)]; exact V.1 q hq
  · rw [show pv (sdv r a b (nI k)) q 4 = pv r q 4 from ru_n (by omega)]; exact V.2.1 q hq
  · by_cases e : 47 + j = 47 + 8 * a + b
    · rw [show sdv r a b (nI k) (47 + j) = nI k from by rw [e]; exact ru_s _ _ _]; exact ⟨k, rfl, hk⟩
    · rw [show sdv r a b (nI k) (47 + j) = r (47 + j) from ru_n e]; exact V.2.2 j hj
theorem bgo_pos {r : Row} {mn : Int32} {p : Nat} : ∀ {n w : Nat}, bgo r mn p n = some w → 0 < pv r w 3
  | 0, w, h => by cases h
  | n + 1, w, h => by
    rw [bgo_e] at h
    by_cases c : (lendsB r mn n p && betW r (bgo r mn p n) n) = true
    · rw [if_pos c] at h
      cases h
      have h1 := (an_is c).1
      unfold lendsB at h1
      exact of_decide_eq_true (an_is (an_is h1).1).2
    · rw [if_neg c] at h; exact bgo_pos h
theorem begR_V {r : Row} {mn : Int32} {p : Nat} (V : RowV r) (hp : p < 8) (hn : np r ≤ 8) : RowV (begR r mn p) := by
  unfold begR
  cases hb : bgo r mn p (np r) with
  | none => exact V
  | some w =>
    have hw := bgo_lt hb
    have hpos : 0 < pv r w 3 := bgo_pos hb
    obtain ⟨k, hk, hk9⟩ := V.1 w (by omega)
    have hk0 : 0 < k := nI_p (by omega) (by rw [← hk]; exact hpos)
    have e1 : pv r w 3 - 1 = nI (k - 1) := by rw [hk, show (1 : Int32) = nI 1 from rfl, nI_sub (by omega)]
    show RowV (sdv (spv (spv r w 3 (pv r w 3 - 1)) p 3 (heldV (pv (spv r w 3 (pv r w 3 - 1)) p 3 + 1) 0 999)) p w (heldV (dv (spv (spv r w 3 (pv r w 3 - 1)) p 3 (heldV (pv (spv r w 3 (pv r w 3 - 1)) p 3 + 1) 0 999)) p w + 1) 0 99))
    rw [e1]
    have V1 := V.w3 (p := w) (k := k - 1) (by omega) (by omega)
    obtain ⟨k2, hk2, hk29⟩ := V1.1 p hp
    rw [hk2, show (1 : Int32) = nI 1 from rfl, nI_add, show (999 : Int32) = nI 999 from rfl, held_n (by omega) (by omega)]
    have V2 := V1.w3 (p := p) (k := min (k2 + 1) 999) hp (by omega)
    obtain ⟨k3, hk3, hk39⟩ := pos_nI V2.2.2 hp (show w < 8 by omega)
    rw [hk3, show (0 : Int32) = nI 0 from rfl, nI_add, show (99 : Int32) = nI 99 from rfl, show nI 0 = (0 : Int32) from rfl, held_n (by omega) (by omega)]
    exact V2.wd hp (by omega) (by omega)
theorem goR_V {r : Row} {mn : Int32} {p : Nat} (V : RowV r) (K : RowK r) (hp : p < 8) (hn : np r ≤ 8) : RowV (goR r mn p) := by
  by_cases c : givenB r p = true
  · obtain ⟨k, m, hk, h7, hm, hm9⟩ := K p hp
    rw [goR_t c hk h7, hm]
    obtain ⟨f, hf, ef⟩ := fill_n k h7 m hm9
    obtain ⟨w, hw, hw9⟩ := V.1 p hp
    rw [ef, hw, nI_add, show (999 : Int32) = nI 999 from rfl, held_n (by omega) (by omega)]
    exact V.w3 hp (by omega)
  · rw [goR_f (by simpa using c)]
    exact begR_V V hp hn
theorem goAll_V {r : Row} {mn : Int32} (V : RowV r) (K : RowK r) (hn : np r ≤ 8) : ∀ k, k ≤ 8 → RowV (goAll r mn k)
  | 0, _ => V
  | k + 1, hk => by
    have h1 := goAll_RS (mn := mn) hn k (by omega)
    exact goR_V (goAll_V V K hn k (by omega)) (h1.K K) (by omega) (by rw [h1.npe]; exact hn)
theorem drR_V {r : Row} {p : Nat} (V : RowV r) (K : RowK r) (hp : p < 8) : RowV (drR r p) := by
  obtain ⟨k, m, hk, h7, hm, hm9⟩ := K p hp
  obtain ⟨D, hD, eD⟩ := drink_n k h7
  obtain ⟨w, hw, hw9⟩ := V.1 p hp
  by_cases c : w < D
  · have hc : pv r p 3 - drinkV k < 0 := by rw [hw, eD]; exact neg_sub (by omega) (by omega) c
    rw [drR_1 hk h7 hc, hw, eD, pv_spv (by omega) (by omega) (by omega)]
    obtain ⟨x, hx, hx9⟩ := V.2.1 p hp
    rw [hx, sub_sub_n c, show (99 : Int32) = nI 99 from rfl, held_n (by omega) (by omega)]
    exact (V.w3 (k := 0) hp (by omega)).w4 hp (by omega)
  · have e : pv r p 3 - drinkV k = nI (w - D) := by rw [hw, eD, nI_sub (by omega)]
    have hc : ¬ pv r p 3 - drinkV k < 0 := by rw [e]; exact nI_pos (by omega)
    rw [drR_2 hk h7 hc, e]
    exact (V.w3 hp (by omega)).w4 (k := 0) hp (by omega)
theorem drAll_V {r : Row} (V : RowV r) (K : RowK r) : ∀ k, k ≤ 8 → RowV (drAll r k)
  | 0, _ => V
  | k + 1, hk => drR_V (drAll_V V K k (by omega)) ((drAll_RS k (by omega)).K K) (by omega)
theorem RowV.lo {r : Row} (V : RowV r) {v : Int32} {k : Nat} (hk : k < 7 ∨ 111 ≤ k) : RowV (ru r k v) := by
  refine ⟨fun q hq => ?_, fun q hq => ?_, fun j hj => ?_⟩
  · rw [show pv (ru r k v) q 3 = pv r q 3 from ru_n (by omega)]; exact V.1 q hq
  · rw [show pv (ru r k v) q 4 = pv r q 4 from ru_n (by omega)]; exact V.2.1 q hq
  · rw [show ru r k v (47 + j) = r (47 + j) from ru_n (by omega)]; exact V.2.2 j hj
theorem dayR_V {r : Row} {mn : Int32} (V : RowV r) (K : RowK r) (hn : np r ≤ 8) : RowV (dayR r mn) := by
  have h1 := goAll_RS (mn := mn) hn (np r) hn
  have V1 := goAll_V (mn := mn) V K hn (np r) hn
  have V2 := drAll_V V1 (h1.K K) (np r) hn
  exact V2.lo (Or.inl (by omega))
theorem passR_V {r : Row} {mn : Int32} (V : RowV r) (K : RowK r) (hn : np r ≤ 8) : ∀ k, RowV (passR r mn k)
  | 0 => V
  | k + 1 => by
    have h1 := passR_RS (mn := mn) hn k
    exact dayR_V (passR_V V K hn k) (h1.K K) (by rw [h1.npe]; exact hn)
def sumG (f : Nat → Int32) : Nat → Int32
  | 0 => 0
  | k + 1 => sumG f k + f k
theorem sumW_G {r : Row} {w : Nat} : ∀ n, sumG (fun k => pv r k w) n = sumW r w n
  | 0 => rfl
  | n + 1 => by
    show sumG _ n + _ = sumW r w n + _
    rw [sumW_G n]
theorem sumD_G {r : Row} : ∀ n, sumG (fun k => r (47 + k)) n = sumD r n
  | 0 => rfl
  | n + 1 => by
    show sumG _ n + _ = sumD r n + _
    rw [sumD_G n]
theorem lend01 (t : Int32) : heldV (if nI 3 < t then nI 1 else nI 0) 0 1 = if 3 < t then 1 else 0 := by
  by_cases c : nI 3 < t
  · rw [if_pos c, if_pos (show (3 : Int32) < t from c)]; rfl
  · rw [if_neg c, if_neg (show ¬ (3 : Int32) < t from c)]; rfl
theorem nI_ne1 {k : Nat} (h : k < 2147483648) : ¬ nI k = -1 := fun e => nI_pos h (by rw [e]; decide)
