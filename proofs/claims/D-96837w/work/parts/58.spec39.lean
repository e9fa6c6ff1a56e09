/-! what the acts keep: text, feed -/
theorem wf_cpT {r : Row} {u : Nat} (w : WF r) (hu : u < 2) : ∀ k, k ≤ 50 → WF (cpT r u k)
  | 0, _ => w
  | k + 1, h => by
    obtain ⟨j, e, hj⟩ := w.B k (by omega)
    refine wf_ru (wf_cpT w hu k (by omega)) ?_
    rw [show 181 + 50 * u + k = 181 + (50 * u + k) by omega, e]
    exact okI_of (limI_c (by omega)) hj
theorem sw_text {S : MSt} (s : SW S) {u : Int32} : SW (aText S u).2 := by
  unfold aText
  by_cases c : inB u (nI 0) (nI 1) = true
  · rw [if_pos c]
    obtain ⟨x, hx, rfl⟩ := inB_k (by decide) c
    rw [toN_nI (by omega)]
    have z : WF (ru S.r 3 (nI 0)) := wf_ru s.1 (okI_of (b := 50) rfl (by decide))
    by_cases c1 : okT S.r x (toN (S.r 3)) = true
    · rw [if_pos c1]
      refine sw_r s (wf_ru ?_ (okI_of (b := 50) rfl (by decide)))
      unfold textR
      obtain ⟨j, e, hj⟩ := s.1.A
      refine wf_ru (wf_cpT s.1 (by omega) 50 (by omega)) ?_
      rw [e]
      rcases (show x = 0 ∨ x = 1 by omega) with rfl | rfl
      · exact okI_of (b := 50) rfl hj
      · exact okI_of (b := 50) rfl hj
    · rw [if_neg c1]; exact sw_r s z
  · rw [if_neg c]; exact sw_err s
theorem wbV_le (wd : Int64) (k : Nat) : ∃ j, wbV wd k = nI j ∧ j ≤ 255 := by
  unfold wbV
  generalize wd >>> ((nI (8 * k)).toInt64 &&& 63) = a
  refine ⟨(a.toBitVec &&& 255#64).toNat, ?_, ?_⟩
  · apply Int32.toBitVec_inj.mp
    apply BitVec.eq_of_toNat_eq
    have h : (a.toBitVec &&& 255#64).toNat ≤ 255 := by rw [BitVec.toNat_and]; exact Nat.and_le_right
    show ((a &&& 255).toBitVec.signExtend 32).toNat = (BitVec.ofNat 32 (a.toBitVec &&& 255#64).toNat).toNat
    rw [BitVec.signExtend_eq_setWidth_of_le _ (by decide), BitVec.toNat_setWidth, BitVec.toNat_ofNat]
    rfl
  · rw [BitVec.toNat_and]; exact Nat.and_le_right
theorem wf_feed {r : Row} {wd : Int64} {t n : Nat} (w : WF r) (h : t + n ≤ 50) : ∀ k, k ≤ n → WF (feedR r wd t k)
  | 0, _ => w
  | k + 1, q => by
    obtain ⟨j, e, hj⟩ := wbV_le wd k
    refine wf_ru (wf_ru (wf_feed w h k (by omega)) ?_) (okI_of (b := 50) rfl (by omega))
    rw [e]
    exact okI_of (limI_b (by omega)) hj
theorem sw_feed {S : MSt} (s : SW S) {wd : Int64} {c : Int32} : SW (aFeed S wd c).2 := by
  unfold aFeed
  by_cases c1 : inB c (nI 1) (nI 8) = true
  · rw [if_pos c1]
    by_cases c2 : 50 < toN (S.r 3) + toN c
    · rw [if_pos c2]; exact sw_err s
    · rw [if_neg c2]; exact sw_r s (wf_feed s.1 (by omega) _ (Nat.le_refl _))
  · rw [if_neg c1]; exact sw_err s
