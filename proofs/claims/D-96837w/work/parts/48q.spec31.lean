/-! rows of person, become -/
theorem km_div {c : Nat} (hc : c ≤ 69) : nI c / nI 10 = nI (c / 10) := nI_div (by omega) (by decide)
theorem ix_kd {o j i p : Nat} (h : ix o j = some i) (hp : p < 8) : i ≠ 7 + 5 * p ∧ i ≠ 7 + 5 * p + 1 := by
  have := ix_is h
  omega
theorem nw_ix {r : Row} {p : Nat} {v w : Int32} (hp : p < 8) : ∀ o j i, ix o j = some i → spv (spv r p 0 v) p 1 w i = r i := fun o j i h => by
  have q := ix_kd h hp
  show ru (ru r (7 + 5 * p) v) (7 + 5 * p + 1) w i = r i
  rw [ru_n q.2, ru_n q.1]
theorem bc_ix {r : Row} {p : Nat} {v w : Int32} (hp : p < 8) : ∀ o j i, ix o j = some i → ru (spv r p 1 v) (7 + 5 * p) w i = r i := fun o j i h => by
  have q := ix_kd h hp
  show ru (ru r (7 + 5 * p + 1) v) (7 + 5 * p) w i = r i
  rw [ru_n q.1, ru_n q.2]
theorem zeroD_o {r : Row} {p i : Nat} (hp : p < 8) (hi : i < 47 ∨ 111 ≤ i) : ∀ k, k ≤ 8 → zeroD r p k i = r i
  | 0, _ => rfl
  | k + 1, h => by
    show ru (ru (zeroD r p k) (47 + 8 * p + k) (nI 0)) (47 + 8 * k + p) (nI 0) i = r i
    rw [ru_n (by omega), ru_n (by omega)]
    exact zeroD_o hp hi k (by omega)
theorem newP_o {r : Row} {km tr : Int32} {i : Nat} (hn : np r < 8) (h2 : i ≠ 2) (h7 : i < 47 ∨ 111 ≤ i) (hp : i < 7 + 5 * np r ∨ 7 + 5 * np r + 5 ≤ i) : newP r km tr i = r i := by
  unfold newP
  rw [ru_n h2, zeroD_o hn h7 8 (by omega)]
  show ru (ru (ru (ru (ru r (7 + 5 * np r + 0) _) (7 + 5 * np r + 1) _) (7 + 5 * np r + 2) _) (7 + 5 * np r + 3) _) (7 + 5 * np r + 4) _ i = r i
  rw [ru_n (by omega), ru_n (by omega), ru_n (by omega), ru_n (by omega), ru_n (by omega)]
theorem newP_0 {r : Row} {km tr : Int32} (hn : np r < 8) : pv (newP r km tr) (np r) 0 = km / nI 10 := by
  show newP r km tr (7 + 5 * np r + 0) = _
  unfold newP
  rw [ru_n (by omega), zeroD_o hn (by omega) 8 (by omega)]
  show ru (ru (ru (ru (ru r (7 + 5 * np r + 0) _) (7 + 5 * np r + 1) _) (7 + 5 * np r + 2) _) (7 + 5 * np r + 3) _) (7 + 5 * np r + 4) _ (7 + 5 * np r + 0) = _
  rw [ru_n (by omega), ru_n (by omega), ru_n (by omega), ru_n (by omega), ru_s]
theorem newP_1 {r : Row} {km tr : Int32} (hn : np r < 8) : pv (newP r km tr) (np r) 1 = irem km (nI 10) := by
  show newP r km tr (7 + 5 * np r + 1) = _
  unfold newP
  rw [ru_n (by omega), zeroD_o hn (by omega) 8 (by omega)]
  show ru (ru (ru (ru (ru r (7 + 5 * np r + 0) _) (7 + 5 * np r + 1) _) (7 + 5 * np r + 2) _) (7 + 5 * np r + 3) _) (7 + 5 * np r + 4) _ (7 + 5 * np r + 1) = _
  rw [ru_n (by omega), ru_n (by omega), ru_n (by omega), ru_s]
theorem newP_n {r : Row} {km tr : Int32} (hn : np r < 8) : np (newP r km tr) = np r + 1 := by
  show (newP r km tr 2).toNatClampNeg = _
  unfold newP
  rw [ru_s]
  exact toN_nI (by omega)
theorem cx_newp {h : Hp} {S : MSt} (x : CX h S) {c : Nat} {tr : Int32} {g : Row} (hn : np S.r < 8) (hc : c ≤ 69) : CX (LG (pH h (c / 10) (np S.r) (irem (nI c) (nI 10))) 23 (newP S.r (nI c) tr) (-1) g) (S.s_r (newP S.r (nI c) tr)) := by
  refine cx_person x (by omega) hn (fun j hj => newP_o hn (by omega) (by omega) (by omega)) ((newP_0 hn).trans (km_div hc)) (newP_1 hn) (fun p' h8 ne => ⟨?_, ?_, fun q => ?_⟩)
  · exact newP_o (i := 7 + 5 * p' + 0) hn (by omega) (by omega) (by omega)
  · exact newP_o (i := 7 + 5 * p' + 1) hn (by omega) (by omega) (by omega)
  · rw [newP_n hn]; omega
theorem cx_become {h : Hp} {S : MSt} (x : CX h S) {c p : Nat} {g : Row} (hp : p < 8) (hc : c ≤ 69) : CX (LG (pH h (c / 10) p (irem (nI c) (nI 10))) 23 (ru (spv S.r p 1 (irem (nI c) (nI 10))) (7 + 5 * p) (nI c / nI 10)) (-1) g) (S.s_r (ru (spv S.r p 1 (irem (nI c) (nI 10))) (7 + 5 * p) (nI c / nI 10))) := by
  have e : ∀ j, j ≠ 7 + 5 * p → j ≠ 7 + 5 * p + 1 → ru (ru S.r (7 + 5 * p + 1) (irem (nI c) (nI 10))) (7 + 5 * p) (nI c / nI 10) j = S.r j := fun j h1 h2 => by rw [ru_n h1, ru_n h2]
  refine cx_person x (by omega) hp (fun j hj => e j (by omega) (by omega)) ?_ ?_ (fun p' h8 ne => ⟨e (7 + 5 * p' + 0) (by omega) (by omega), e (7 + 5 * p' + 1) (by omega) (by omega), fun q => ?_⟩)
  · rw [← km_div hc]
    exact ru_s _ _ _
  · show ru (ru S.r (7 + 5 * p + 1) (irem (nI c) (nI 10))) (7 + 5 * p) (nI c / nI 10) (7 + 5 * p + 1) = _
    rw [ru_n (by omega), ru_s]
  · show (ru (ru S.r (7 + 5 * p + 1) (irem (nI c) (nI 10))) (7 + 5 * p) (nI c / nI 10) 2).toNatClampNeg ≤ p'
    rw [e 2 (by omega) (by omega)]
    exact q
theorem zn2 {r : Row} {a b t c e : Int32} (hn : np r < 8) : zeroD (spv (spv (spv (spv (spv r (np r) 0 a) (np r) 1 b) (np r) 2 t) (np r) 3 c) (np r) 4 e) (np r) 8 2 = r 2 := by
  rw [zeroD_o hn (by omega) 8 (by omega)]
  show ru (ru (ru (ru (ru r (7 + 5 * np r + 0) _) (7 + 5 * np r + 1) _) (7 + 5 * np r + 2) _) (7 + 5 * np r + 3) _) (7 + 5 * np r + 4) _ 2 = r 2
  rw [ru_n (by omega), ru_n (by omega), ru_n (by omega), ru_n (by omega), ru_n (by omega)]
theorem pa_pH {h : Hp} {a p k p' k' : Nat} {m m' : Int32} {r g : Row} (pa : PAt h a p k m) : PAt (LG (pH h k' p' m') 23 r (-1) g) a p k m := by
  obtain ⟨h1, h2, h3, h4, h5, h6, h7⟩ := pa
  have eI : hI (LG (pH h k' p' m') 23 r (-1) g) a = hI h a := (LG_far (by omega)).trans (nP_I (by omega))
  have eR : hR (LG (pH h k' p' m') 23 r (-1) g) a = hR h a := (pH_R (by omega)).trans (nP_R (by omega))
  exact ⟨h1, Nat.lt_succ_of_lt h2, (nP_S (k := k') (p := nI p') (m := m') (by omega)).trans h3, h4, by rw [eR]; exact h5, by rw [eI]; exact h6, by rw [eI]; exact h7⟩
