theorem RT.dv {r : Row} {a b : Nat} {v : Int32} (ha : a < 8) (hb : b < 8) : RT r (sdv r a b v) := RT.of (RS.sdv ha hb)
theorem RT.tr {r : Row} {p : Nat} {v : Int32} (hp : p < 8) : RT r (spv r p 2 v) := fun k hk => ru_n (by rcases hk with q | q | ⟨x, y, h1, h2, h3⟩ <;> omega)
theorem RT.z {r : Row} {v : Int32} : RT r (ru r 1 v) := fun k hk => ru_n (by rcases hk with q | q | ⟨x, y, h1, h2, h3⟩ <;> omega)
theorem RT.stk {r : Row} (hn : np r ≤ 8) (D : RowD r) : RT r (stR r).1 := fun k hk => by
  by_cases q : k < 47 ∨ 111 ≤ k
  · exact (stF_ok hn STK r 0 D).2 k q
  · rcases hk with q | q | ⟨x, y, h1, h2, h3⟩ <;> omega
/-- people, texts, how many: what a land's refs rest on -/
def RU (r r' : Row) : Prop := ∀ k, k = 2 ∨ k = 5 ∨ k = 6 ∨ 181 ≤ k ∨ (∃ p w, p < 8 ∧ w < 2 ∧ k = 7 + 5 * p + w) → r' k = r k
theorem LW.ru {h : Hp} {b : Nat} {r r' : Row} (x : RU r r') (w : LW h b r) : LW h b r' := by
  have pe : ∀ p x, p < 8 → x < 2 → pv r' p x = pv r p x := fun p y h1 h2 => x _ (Or.inr (Or.inr (Or.inr (Or.inr ⟨p, y, h1, h2, rfl⟩))))
  have ne : np r' = np r := by unfold np; rw [x 2 (Or.inl rfl)]
  refine ⟨fun p hp => ?_, fun u hu => ?_⟩
  · rw [pe p 0 hp (by decide), pe p 1 hp (by decide), ne]
    exact w.1 p hp
  · have e5 : r' (5 + u) = r (5 + u) := x _ (by omega)
    rw [e5]
    rcases w.2 u hu with k | ⟨e, a, v, k1, k2, k3, k4, k5⟩
    · exact Or.inl k
    · refine Or.inr ⟨e, a, v, k1, k2, k3, k4, fun f => ?_⟩
      have eb : byV r' u e = byV r u e := by
        funext k
        unfold byV
        rw [x (181 + 50 * u + k) (by omega)]
      unfold walkP
      rw [eb]
      exact k5 f
theorem chgB_no {q v : Int32} (h : inB q (nI 0) (nI 2) = false) : chgB q v = false := by
  unfold chgB
  rw [iN (fun e => by rw [e] at h; exact absurd h (by decide)), iN (fun e => by rw [e] at h; exact absurd h (by decide)), iN (fun e => by rw [e] at h; exact absurd h (by decide))]
theorem RU.tell {r : Row} {z : Nat} {v x : Int32} (h : z < 20) : RU r (ru (ru r (161 + z) v) 4 x) := fun k hk => (ru_n (by rcases hk with q | q | q | q | ⟨x, y, h1, h2, h3⟩ <;> omega)).trans (ru_n (by rcases hk with q | q | q | q | ⟨x, y, h1, h2, h3⟩ <;> omega))
