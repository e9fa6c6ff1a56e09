/-! a land: loose days, sums -/
theorem RowV.w2 {r : Row} (V : RowV r) {p : Nat} {v : Int32} (hp : p < 8) : RowV (spv r p 2 v) := by
  refine ⟨fun q hq => ?_, fun q hq => ?_, fun j hj => ?_⟩
  · rw [pv_spv (by omega) (by omega) (by omega)]; exact V.1 q hq
  · rw [pv_spv (by omega) (by omega) (by omega)]; exact V.2.1 q hq
  · rw [show spv r p 2 v (47 + j) = r (47 + j) from ru_n (by omega)]; exact V.2.2 j hj
theorem looR_V {r : Row} (V : RowV r) : ∀ k, k ≤ 8 → RowV (looR r k)
  | 0, _ => V
  | k + 1, hk => by
    rw [looR_s]
    exact ((looR_V V k (by omega)).lo (Or.inl (by omega))).w2 (by omega)
theorem looseR_V {r : Row} (V : RowV r) (K : RowK r) (hn : np r ≤ 8) : ∀ k, RowV (looseR r k)
  | 0 => V
  | k + 1 => by
    have h1 := looseR_T hn k
    have h2 := looR_T (r := looseR r k) (np r) hn
    exact dayR_V (looR_V (looseR_V V K hn k) (np r) hn) (h2.K (h1.K K)) (by rw [h2.npe, h1.npe]; exact hn)
