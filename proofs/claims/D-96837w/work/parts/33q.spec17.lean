/-! copies from the start of arrays; a land's layout behind a change of refs -/
theorem ix_none {o k n : Nat} (h : (o = 2 ∨ o = 3 ∨ o = 4) ∧ n = 8 ∨ o = 5 ∧ n = 64 ∨ o = 7 ∧ n = 50 ∨ o = 8 ∧ n = 20) (hk : n ≤ k) : ix o k = none := by
  cases hx : ix o k with
  | none => rfl
  | some i =>
    have := ix_is hx
    omega
theorem fits_b (x : Int32) : fits .byte (.int x.toInt8.toInt32) = true := by
  show (decide (-128 ≤ x.toInt8.toInt32) && decide (x.toInt8.toInt32 ≤ 127)) = true
  have h1 : (x.toInt8.toInt32).toInt = x.toInt8.toInt := Int8.toInt_toInt32 _
  have h2 := Int8.le_toInt x.toInt8
  have h3 := Int8.toInt_lt x.toInt8
  have e1 : (-128 : Int32).toInt = -128 := rfl
  have e2 : (127 : Int32).toInt = 127 := rfl
  rw [decide_eq_true (Int32.le_iff_toInt_le.mpr (by rw [h1, e1]; omega)), decide_eq_true (Int32.le_iff_toInt_le.mpr (by rw [h1, e2]; omega))]
  rfl
theorem r_copyI0 {d mc ms : Nat} {M : gM} {pc : Nat} {ls : gLs} {st : List Value} {h : Hp} {Q : gQ} {a b n0 n1 t n index : Nat} (dc : decode (mC M) pc = .ok (.invokestatic index, 3)) (q : gAcp (mOwn M) index) (hsa : hS h a = .inr (t, n0)) (hsb : hS h b = .inr (t, n1)) (ht : t < 4) (hn : n < 2147483648) (h4 : n ≤ n0) (h5 : n ≤ n1) (hfit : ∀ i : Nat, i < n → fits (gtk t) (.int (hI h a i)) = true) (hcat : (st.map fun v => v.category).sum ≤ 8) (kk : gG (d + 1) mc ms M (pc + 3) ls st (cI h a 0 b 0 n) Q) : gG (d + 1) mc ms M pc ls (.int (nI n) :: .int (nI 0) :: .ref b :: .int (nI 0) :: .ref a :: st) h Q := by
  have e0 : (nI 0).toNatClampNeg = 0 := nI_clamp (by decide)
  have en : (nI n).toNatClampNeg = n := nI_clamp hn
  refine r_copyI dc q hsa hsb ht (nI_pos (by decide)) (nI_pos (by decide)) (nI_pos hn) (by rw [e0, en]; omega) (by rw [e0, en]; omega) (fun i hi => ?_) hcat ?_
  · rw [en] at hi
    rw [e0, Nat.zero_add]
    exact hfit i hi
  · rw [e0, en]
    exact kk
theorem r_copyR0 {d mc ms : Nat} {M : gM} {pc : Nat} {ls : gLs} {st : List Value} {h : Hp} {Q : gQ} {a b n0 n1 t n index : Nat} {EC : String} (dc : decode (mC M) pc = .ok (.invokestatic index, 3)) (q : gAcp (mOwn M) index) (hsa : hS h a = .inr (t, n0)) (hsb : hS h b = .inr (t, n1)) (ht : (t = 4 ∧ EC = RX7) ∨ (t = 5 ∧ EC = RX14) ∨ (t = 6 ∧ EC = RX5)) (hn : n < 2147483648) (h4 : n ≤ n0) (h5 : n ≤ n1) (hel : ∀ i : Nat, i < n → ∀ y : Nat, hR h a i = some y → ∃ (cy : Nat) (Cy : String) (Ty : u_T) (Ny : Nat), hS h y = .inl cy ∧ gcl[cy]? = some (Cy, Ty, Ny) ∧ (Cy = EC ∨ Cond.castable Cy EC ∈ lw_tbl)) (hcat : (st.map fun v => v.category).sum ≤ 8) (kk : gG (d + 1) mc ms M (pc + 3) ls st (cR h a 0 b 0 n) Q) : gG (d + 1) mc ms M pc ls (.int (nI n) :: .int (nI 0) :: .ref b :: .int (nI 0) :: .ref a :: st) h Q := by
  have e0 : (nI 0).toNatClampNeg = 0 := nI_clamp (by decide)
  have en : (nI n).toNatClampNeg = n := nI_clamp hn
  refine r_copyR dc q hsa hsb ht (nI_pos (by decide)) (nI_pos (by decide)) (nI_pos hn) (by rw [e0, en]; omega) (by rw [e0, en]; omega) (fun i hi => ?_) hcat ?_
  · rw [en] at hi
    rw [e0, Nat.zero_add]
    exact hel i hi
  · rw [e0, en]
    exact kk
theorem LayL.rr {S : gSh} {R R' : gRf} {b : Nat} (h : LayL S R b) (e1 : R' b = R b) (e2 : R' (b + 9) = R (b + 9)) : LayL S R' b := by
  unfold LayL at h ⊢
  rw [e1, e2]
  exact h
theorem cR_n {h : Hp} {a i b j n x : Nat} (q : x ≠ b) : hR (cR h a i b j n) x = hR h x := funext fun k => if_neg fun z => q z.1
theorem cR_at {h : Hp} {a b n k : Nat} (hk : k < n) : hR (cR h a 0 b 0 n) b k = hR h a k := by
  show (if b = b ∧ 0 ≤ k ∧ k < 0 + n then hR h a (0 + (k - 0)) else hR h b k) = _
  rw [if_pos ⟨rfl, by omega, by omega⟩, show 0 + (k - 0) = k by omega]
/-- b's refs are c's -/
def LC (h : Hp) (b c : Nat) : Hp := cR (cR h (c + 1) 0 (b + 1) 0 8) (c + 6) 0 (b + 6) 0 2
theorem LZ_src {h : Hp} {b c k i : Nat} {r : Row} {t : Int32} {L : List (Nat × Nat)} (hL : L.all (fun q => decide (q.1 ≤ 8)) = true) (hc : c < b ∨ b + 8 < c) (hi : hI h c k = r i) : hI (LZ h b r t L) c k = r i := by
  show lhs _ _ _ _ _ _ _ = _
  rw [lhs_far hL hc]
  exact hi
def HoldL (h : Hp) (c : Nat) (r : Row) : Prop := ∀ o k i, ix o k = some i → hI h (c + o) k = cvt o (r i)
theorem LP_cls {h : Hp} {c : Nat} {r : Row} (w : LWp h c r) : ∀ i, i < 8 → ∀ y, hR h (c + 1) i = some y → ∃ (cy : Nat) (Cy : String) (Ty : u_T) (Ny : Nat), hS h y = .inl cy ∧ gcl[cy]? = some (Cy, Ty, Ny) ∧ (Cy = RX7 ∨ Cond.castable Cy RX7 ∈ lw_tbl) := by
  intro i hi y hy
  rcases w i hi with k | ⟨a, k, k1, k2, k3⟩
  · rw [k.1] at hy; cases hy
  · rw [k1] at hy
    cases hy
    have h4 := k3.2.2.2.1
    have h3 := k3.2.2.1
    rcases (show k = 0 ∨ k = 1 ∨ k = 2 ∨ k = 3 ∨ k = 4 ∨ k = 5 ∨ k = 6 by omega) with rfl | rfl | rfl | rfl | rfl | rfl | rfl
    · exact ⟨7, _, _, _, h3, rfl, Or.inl rfl⟩
    · exact ⟨8, _, _, _, h3, rfl, Or.inr q1909⟩
    · exact ⟨9, _, _, _, h3, rfl, Or.inr q1910⟩
    · exact ⟨10, _, _, _, h3, rfl, Or.inr q1911⟩
    · exact ⟨11, _, _, _, h3, rfl, Or.inr q1912⟩
    · exact ⟨12, _, _, _, h3, rfl, Or.inr q1913⟩
    · exact ⟨13, _, _, _, h3, rfl, Or.inr q1914⟩
theorem LT_cls {h : Hp} {c : Nat} {r : Row} (w : LWt h c r) : ∀ i, i < 2 → ∀ y, hR h (c + 6) i = some y → ∃ (cy : Nat) (Cy : String) (Ty : u_T) (Ny : Nat), hS h y = .inl cy ∧ gcl[cy]? = some (Cy, Ty, Ny) ∧ (Cy = RX14 ∨ Cond.castable Cy RX14 ∈ lw_tbl) := by
  intro i hi y hy
  rcases w i hi with k | ⟨e, a, v, k1, k2, k3, k4, k5⟩
  · rw [k.2] at hy; cases hy
  · rw [k3] at hy
    cases hy
    rcases k4.cls with q | q | q | q
    · exact ⟨20, _, _, _, q, rfl, Or.inr q1917⟩
    · exact ⟨17, _, _, _, q, rfl, Or.inr q1915⟩
    · exact ⟨19, _, _, _, q, rfl, Or.inr q1916⟩
    · exact ⟨15, _, _, _, q, rfl, Or.inr q1918⟩

