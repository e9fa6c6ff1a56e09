/-! what the acts keep: loose days -/
theorem dwV_n (z : Int32) : ∃ m, m < 16777216 ∧ dwV z = nI m := by
  unfold dwV
  have e : ((nI 8).toUInt32 &&& Int32.toUInt32 31) = 8 := by decide
  rw [e]
  refine ⟨(z.toUInt32 >>> 8).toNat, ?_, ?_⟩
  · rw [UInt32.toNat_shiftRight]
    have := z.toUInt32.toNat_lt
    show z.toUInt32.toNat >>> 8 < _
    rw [Nat.shiftRight_eq_div_pow]
    omega
  · apply Int32.toBitVec_inj.mp
    apply BitVec.eq_of_toNat_eq
    show (z.toUInt32 >>> 8).toNat = (BitVec.ofNat 32 (z.toUInt32 >>> 8).toNat).toNat
    rw [BitVec.toNat_ofNat, Nat.mod_eq_of_lt (UInt32.toNat_lt _)]
set_option maxRecDepth 100000 in
theorem xor_16 : ∀ q, q < 4 → ∀ j, j < 16 → ∃ i, i < 16 ∧ nI j ^^^ (nI 1 <<< (nI q &&& 31)) = nI i := by
  intro q hq j hj
  have : ∀ q, q < 4 → ∀ j, j < 16 → nI j ^^^ (nI 1 <<< (nI q &&& 31)) = nI (j ^^^ (1 <<< q)) ∧ j ^^^ (1 <<< q) < 16 := by decide +kernel
  exact ⟨_, (this q hq j hj).2, (this q hq j hj).1⟩
theorem rem_4 {m : Nat} (h : m < 2147483648) : ∃ q, q < 4 ∧ irem (nI m) (nI 4) = nI q := ⟨m % 4, by omega, nI_rem h (by decide)⟩
theorem looV_15 {z t : Int32} (h : ∃ j, t = nI j ∧ j ≤ 15) : ∃ j, looV z t = nI j ∧ j ≤ 15 := by
  obtain ⟨j, rfl, hj⟩ := h
  by_cases c : irem (dwV z) (nI 8) = 0
  · rw [looV_t c]
    obtain ⟨m, hm, e⟩ := dwV_n z
    rw [e, nI_div (by omega) (by decide)]
    obtain ⟨q, hq, e2⟩ := rem_4 (m := m / 8) (by omega)
    rw [e2]
    obtain ⟨i, hi, e3⟩ := xor_16 q hq j (by omega)
    exact ⟨i, e3, by omega⟩
  · rw [looV_f c]; exact ⟨j, rfl, hj⟩
theorem wf_looR {r : Row} (w : WF r) : ∀ k, k ≤ 8 → WF (looR r k)
  | 0, _ => w
  | k + 1, h => by
    have w1 : WF (ru (looR r k) 1 (zN (looR r k 1))) := wf_ru (wf_looR w k (by omega)) (okI_no rfl)
    obtain ⟨j, e, hj⟩ := looV_15 (z := zN (looR r k 1)) (w1.G k (by omega))
    exact wf_spv w1 (by omega) (by decide) e hj
theorem wf_looseR {r : Row} (w : WF r) : ∀ k, WF (looseR r k)
  | 0 => w
  | k + 1 => by
    have w1 := wf_looR (wf_looseR w k) (np r) w.n8
    exact wf_rs w1 (dayR_RS w1.n8) (dayR_V w1.V w1.K w1.n8)
theorem sw_loose {S : MSt} (s : SW S) {c : Int32} : SW (aLoose S c).2 := by
  unfold aLoose
  by_cases c1 : inB c (nI 1) (nI 40) = true
  · rw [if_pos c1]
    by_cases c2 : nI 9999 < S.r 0 + c
    · rw [if_pos c2]; exact sw_err s
    · rw [if_neg c2]; exact sw_r s (wf_looseR s.1 _)
  · rw [if_neg c1]; exact sw_err s
