/-! people and terms: rows over them -/
theorem i_t0 : (0 : Int32).toInt = 0 := rfl
theorem i_t1 : (1 : Int32).toInt = 1 := rfl
theorem held01 (v : Int32) : (if nI 0 < (if v < nI 1 then v else nI 1) then (if v < nI 1 then v else nI 1) else nI 0) = heldV v 0 1 := by
  show (if (0 : Int32) < (if v < (1 : Int32) then v else (1 : Int32)) then (if v < (1 : Int32) then v else (1 : Int32)) else (0 : Int32)) = heldV v 0 1
  unfold heldV
  by_cases h1 : v < 1
  · rw [if_pos h1]
    by_cases h2 : (0 : Int32) < v
    · rw [Int32.lt_iff_toInt_lt, i_t1] at h1
      rw [Int32.lt_iff_toInt_lt, i_t0] at h2
      omega
    · rw [if_neg h2]
      by_cases h3 : v < 0
      · rw [if_pos h3]
      · rw [if_neg h3, if_neg (fun q => by rw [Int32.lt_iff_toInt_lt, i_t1] at q h1; omega)]
        rw [Int32.lt_iff_toInt_lt, i_t0] at h2 h3
        exact Int32.toInt_inj.mp (by rw [i_t0]; omega)
  · rw [if_neg h1, if_pos (by decide)]
    rw [Int32.lt_iff_toInt_lt, i_t1] at h1
    rw [if_neg (fun q => by rw [Int32.lt_iff_toInt_lt, i_t0] at q; omega)]
    by_cases h3 : (1 : Int32) < v
    · rw [if_pos h3]
    · rw [if_neg h3]
      rw [Int32.lt_iff_toInt_lt, i_t1] at h3
      exact Int32.toInt_inj.mp (by rw [i_t1]; omega)
theorem e_add35 (x : Int32) : nI 3 + x + nI 5 = 8 + x := by
  rw [Int32.add_comm (nI 3) x, Int32.add_assoc, Int32.add_comm]
  rfl
theorem LG_ext {h : Hp} {b : Nat} {r g : Row} {t : Int32} (hb : 21 ≤ b ∧ b + 10 < 78) : ExtH h (LG h b r t g) := ⟨Nat.le_refl _, fun a _ h1 _ h3 _ => ⟨h3, LG_far (by omega), rfl⟩⟩
theorem gRecv.pa {h : Hp} {a p k : Nat} {m : Int32} {C : String} {T : u_T} {N : Nat} (pa : PAt h a p k m) (hc : gcl[7 + k]? = some (C, T, N)) : gRecv h a C := gRecv.of pa.2.2.1 hc
/-- a person's number m, trace and number n, read -/
theorem r_One_m {d mc ms : Nat} {M : gM} {pc : Nat} {ls : gLs} {st : List Value} {h : Hp} {Q : gQ} {a p k index : Nat} {m : Int32} (dc : decode (mC M) pc = .ok (.getfield index, 3)) (hf : gFl (mOwn M) index RX7 "m" "I") (pa : PAt h a p k m) (kk : gG d mc ms M (pc + 3) ls (.int m :: st) h Q) : gG d mc ms M pc ls (.ref a :: st) h Q := by
  obtain ⟨h1, h2, h3, h4, h5, h6, h7⟩ := pa
  rw [← h7] at kk
  rcases (show k = 0 ∨ k = 1 ∨ k = 2 ∨ k = 3 ∨ k = 4 ∨ k = 5 ∨ k = 6 by omega) with rfl | rfl | rfl | rfl | rfl | rfl | rfl
  · exact r_geti (ci := 7) (k := 2) dc h3 rfl (by decide) hf (Or.inl rfl) rfl kk
  · exact r_geti (ci := 8) (k := 2) dc h3 rfl (by decide) hf (Or.inl rfl) rfl kk
  · exact r_geti (ci := 9) (k := 2) dc h3 rfl (by decide) hf (Or.inl rfl) rfl kk
  · exact r_geti (ci := 10) (k := 2) dc h3 rfl (by decide) hf (Or.inl rfl) rfl kk
  · exact r_geti (ci := 11) (k := 2) dc h3 rfl (by decide) hf (Or.inl rfl) rfl kk
  · exact r_geti (ci := 12) (k := 2) dc h3 rfl (by decide) hf (Or.inl rfl) rfl kk
  · exact r_geti (ci := 13) (k := 2) dc h3 rfl (by decide) hf (Or.inl rfl) rfl kk
/-- what terms answer: to depth n -/
def ValOK (d n : Nat) (h : Hp) (F N : Nat) : Prop := ∀ a v, TV n h a v → (hS h a = .inl 20 → gC d 0 0 m_X20_value [.ref a, .ref F] h (Ret (some (.int (v (hI h N)))) h)) ∧ (hS h a = .inl 17 → gC d 0 0 m_X17_value [.ref a, .ref F] h (Ret (some (.int (v (hI h N)))) h)) ∧ (hS h a = .inl 19 → gC d 0 0 m_X19_value [.ref a, .ref F] h (Ret (some (.int (v (hI h N)))) h)) ∧ (hS h a = .inl 15 → gC d 0 0 m_X15_value [.ref a, .ref F] h (Ret (some (.int (v (hI h N)))) h))
theorem tw47n {x y : Int32} (c : y = 0) : twoV 47 x y = 0 := if_pos c
theorem tw47 {x y : Int32} (c : ¬ y = 0) : twoV 47 x y = x / y := if_neg c
theorem tw37n {x y : Int32} (c : y = 0) : twoV 37 x y = 0 := if_pos c
theorem tw37 {x y : Int32} (c : ¬ y = 0) : twoV 37 x y = irem x y := if_neg c
theorem tw60t {x y : Int32} (c : x < y) : twoV 60 x y = 1 := by show b2 (decide (x < y)) = 1; rw [decide_eq_true c]; rfl
theorem tw60f {x y : Int32} (c : ¬ x < y) : twoV 60 x y = 0 := by show b2 (decide (x < y)) = 0; rw [decide_eq_false c]; rfl
theorem tw61t {x y : Int32} (c : x = y) : twoV 61 x y = 1 := by show b2 (decide (x = y)) = 1; rw [decide_eq_true c]; rfl
theorem tw61f {x y : Int32} (c : ¬ x = y) : twoV 61 x y = 0 := by show b2 (decide (x = y)) = 0; rw [decide_eq_false c]; rfl
theorem tw62t {x y : Int32} (c : y < x) : twoV 62 x y = 1 := by show b2 (decide (y < x)) = 1; rw [decide_eq_true c]; rfl
theorem tw62f {x y : Int32} (c : ¬ y < x) : twoV 62 x y = 0 := by show b2 (decide (y < x)) = 0; rw [decide_eq_false c]; rfl
theorem tw38t {x y : Int32} (c : ¬ x = 0) (c2 : ¬ y = 0) : twoV 38 x y = 1 := by show b2 (decide (¬ x = 0) && decide (¬ y = 0)) = 1; rw [decide_eq_true c, decide_eq_true c2]; rfl
theorem tw38f {x y : Int32} (c : x = 0) : twoV 38 x y = 0 := by show b2 (decide (¬ x = 0) && decide (¬ y = 0)) = 0; rw [decide_eq_false (fun q => q c)]; rfl
theorem tw38g {x y : Int32} (c : y = 0) : twoV 38 x y = 0 := by show b2 (decide (¬ x = 0) && decide (¬ y = 0)) = 0; rw [decide_eq_false (p := ¬ y = 0) (fun q => q c), Bool.and_false]; rfl
theorem tw124t {x y : Int32} (c : ¬ x = 0) : twoV 124 x y = 1 := by show b2 (decide (¬ x = 0) || decide (¬ y = 0)) = 1; rw [decide_eq_true c]; rfl
theorem tw124u {x y : Int32} (c : ¬ y = 0) : twoV 124 x y = 1 := by show b2 (decide (¬ x = 0) || decide (¬ y = 0)) = 1; rw [decide_eq_true c, Bool.or_true]; rfl
theorem tw124f {x y : Int32} (c : x = 0) (c2 : y = 0) : twoV 124 x y = 0 := by show b2 (decide (¬ x = 0) || decide (¬ y = 0)) = 0; rw [decide_eq_false (p := ¬ x = 0) (fun q => q c), decide_eq_false (p := ¬ y = 0) (fun q => q c2)]; rfl
