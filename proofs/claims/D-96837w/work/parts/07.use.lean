/-! rows as the walks use them -/
def b2 (b : Bool) : Int32 := if b = true then 1 else 0
theorem b2_f {b : Bool} (h : b2 b = 0) : b = false := by
  cases b with
  | false => rfl
  | true => exact absurd h (by decide)
theorem b2_t {b : Bool} (h : ¬ b2 b = 0) : b = true := by
  cases b with
  | true => rfl
  | false => exact absurd rfl h
theorem nar_b2 (b : Bool) : narrow .boolean (.int (b2 b)) = .int (b2 b) := by cases b <;> decide
theorem n_eq0 {a : Nat} (h : a < 2147483648) (c : nI a = 0) : a = 0 := (nI_eq h (by decide)).mp (c.trans nI_0.symm)
theorem n_ne0 {a : Nat} (h : a < 2147483648) (c : ¬ nI a = 0) : ¬ a = 0 := fun e => c (by rw [e]; exact nI_0)
theorem n_lt0 {a : Nat} (h : a < 2147483648) (c : nI a < 0) : False := nI_pos h c
theorem n_lt0n {a : Nat} (h : a < 2147483648) (c : ¬ nI a < 0) : True := trivial
theorem n_ge0 {a : Nat} (h : a < 2147483648) (c : 0 ≤ nI a) : True := trivial
theorem n_ge0n {a : Nat} (h : a < 2147483648) (c : ¬ 0 ≤ nI a) : False := c (nI_pos' h)
theorem n_gt0 {a : Nat} (h : a < 2147483648) (c : 0 < nI a) : 0 < a := (nI_ltI (by decide) h).mp (by rw [nI_0]; exact c)
theorem n_gt0n {a : Nat} (h : a < 2147483648) (c : ¬ 0 < nI a) : a = 0 := by
  rcases Nat.eq_zero_or_pos a with e | e
  · exact e
  · exact absurd (by have := (nI_ltI (a := 0) (b := a) (by decide) h).mpr e; rwa [nI_0] at this) c
theorem n_le0 {a : Nat} (h : a < 2147483648) (c : nI a ≤ 0) : a = 0 := by
  have := (nI_leI (a := a) (b := 0) h (by decide)).mp (by rw [nI_0]; exact c)
  omega
theorem n_le0n {a : Nat} (h : a < 2147483648) (c : ¬ nI a ≤ 0) : 0 < a := by
  rcases Nat.eq_zero_or_pos a with e | e
  · exact absurd (by rw [e, nI_0]; exact Int32.le_refl 0) c
  · exact e
theorem n_eq {a b : Nat} (ha : a < 2147483648) (hb : b < 2147483648) (c : nI a = nI b) : a = b := (nI_eq ha hb).mp c
theorem n_eqn {a b : Nat} (ha : a < 2147483648) (hb : b < 2147483648) (c : ¬ nI a = nI b) : ¬ a = b := fun e => c (by rw [e])
theorem n_ne {a b : Nat} (ha : a < 2147483648) (hb : b < 2147483648) (c : ¬ nI a = nI b) : ¬ a = b := fun e => c (by rw [e])
theorem n_nen {a b : Nat} (ha : a < 2147483648) (hb : b < 2147483648) (c : nI a = nI b) : a = b := (nI_eq ha hb).mp c
theorem n_lt {a b : Nat} (ha : a < 2147483648) (hb : b < 2147483648) (c : nI a < nI b) : a < b := (nI_ltI ha hb).mp c
theorem n_ltn {a b : Nat} (ha : a < 2147483648) (hb : b < 2147483648) (c : ¬ nI a < nI b) : b ≤ a := Nat.not_lt.mp fun q => c ((nI_ltI ha hb).mpr q)
theorem n_le {a b : Nat} (ha : a < 2147483648) (hb : b < 2147483648) (c : nI a ≤ nI b) : a ≤ b := (nI_leI ha hb).mp c
theorem n_len {a b : Nat} (ha : a < 2147483648) (hb : b < 2147483648) (c : ¬ nI a ≤ nI b) : b < a := Nat.not_le.mp fun q => c ((nI_leI ha hb).mpr q)
theorem n_ge {a b : Nat} (ha : a < 2147483648) (hb : b < 2147483648) (c : nI b ≤ nI a) : b ≤ a := (nI_leI hb ha).mp c
theorem n_gen {a b : Nat} (ha : a < 2147483648) (hb : b < 2147483648) (c : ¬ nI b ≤ nI a) : a < b := Nat.not_le.mp fun q => c ((nI_leI hb ha).mpr q)
theorem n_gt {a b : Nat} (ha : a < 2147483648) (hb : b < 2147483648) (c : nI b < nI a) : b < a := (nI_ltI hb ha).mp c
theorem n_gtn {a b : Nat} (ha : a < 2147483648) (hb : b < 2147483648) (c : ¬ nI b < nI a) : a ≤ b := Nat.not_lt.mp fun q => c ((nI_ltI hb ha).mpr q)
def Ret (v : Option Value) (h : Hp) : gQ := fun o h' => o = .inl v ∧ h' = h
theorem r_eqi {d mc ms : Nat} {M : gM} {pc : Nat} {ls : gLs} {st : List Value} {h : Hp} {Q : gQ} {x y : Int32} (e : x = y) (kk : gG d mc ms M pc ls (.int y :: st) h Q) : gG d mc ms M pc ls (.int x :: st) h Q := by
  rw [e]
  exact kk
theorem gG_ls {d mc ms : Nat} {M : gM} {pc : Nat} {ls ls' : gLs} {st : List Value} {h : Hp} {Q : gQ} (e : ls = ls') (kk : gG d mc ms M pc ls' st h Q) : gG d mc ms M pc ls st h Q := by
  rw [e]
  exact kk
theorem gG_h {d mc ms : Nat} {M : gM} {pc : Nat} {ls : gLs} {st : List Value} {h h' : Hp} {Q : gQ} (e : h = h') (kk : gG d mc ms M pc ls st h' Q) : gG d mc ms M pc ls st h Q := by
  rw [e]
  exact kk
/-- less is asked, more is given -/
theorem gG_mono {d mc ms : Nat} {M : gM} {pc : Nat} {ls : gLs} {st : List Value} {h : Hp} {Q Q' : gQ} (hq : ∀ o h', Q o h' → Q' o h') (kk : gG d mc ms M pc ls st h Q) : gG d mc ms M pc ls st h Q' := by
  intro E p l e R s m args below meth c H locs cells slots MC MS la X hr hl r1 r2 r3 r4 r5 r6 T hT Y
  obtain ⟨t, a1, o, b1, b2, b3⟩ := kk E p l e R s m args below meth c H locs cells slots MC MS la X hr hl r1 r2 r3 r4 r5 r6 T hT Y
  refine ⟨t, a1, o, b1, b2, ?_⟩
  rcases b3 with ⟨⟨⟨v, h', e1, e2, e3⟩, e4⟩, L, e5⟩ | ⟨q, e0, En, ce, L, ⟨⟨a, ci, C, T0, N, h', e1, e2, e3, e4, e5, e6⟩, e7⟩, e8⟩
  · exact Or.inl ⟨⟨⟨v, h', e1, hq _ _ e2, e3⟩, e4⟩, L, e5⟩
  · exact Or.inr ⟨q, e0, En, ce, L, ⟨⟨a, ci, C, T0, N, h', e1, e2, e3, e4, hq _ _ e5, e6⟩, e7⟩, e8⟩
theorem r_geti {d mc ms : Nat} {M : gM} {pc : Nat} {ls : gLs} {st : List Value} {h : Hp} {Q : gQ} {a ci k index : Nat} {C ref : String} {T : u_T} {N : Nat} (dc : decode (mC M) pc = .ok (.getfield index, 3)) (hs : hS h a = .inl ci) (hc : gcl[ci]? = some (C, T, N)) (hk : k < N) (hf : gFl (mOwn M) index ref (T k).2.1 (T k).2.2.1) (hsm : gSm ref (T k)) (ht : gisr (gty ci k) = false) (kk : gG d mc ms M (pc + 3) ls (.int (hI h a k) :: st) h Q) : gG d mc ms M pc ls (.ref a :: st) h Q := r_get dc hs hc hk hf hsm (gfv_i ht) kk
theorem r_getr {d mc ms : Nat} {M : gM} {pc : Nat} {ls : gLs} {st : List Value} {h : Hp} {Q : gQ} {a ci k index b : Nat} {C ref : String} {T : u_T} {N : Nat} (dc : decode (mC M) pc = .ok (.getfield index, 3)) (hs : hS h a = .inl ci) (hc : gcl[ci]? = some (C, T, N)) (hk : k < N) (hf : gFl (mOwn M) index ref (T k).2.1 (T k).2.2.1) (hsm : gSm ref (T k)) (ht : gisr (gty ci k) = true) (ho : hR h a k = some b) (kk : gG d mc ms M (pc + 3) ls (.ref b :: st) h Q) : gG d mc ms M pc ls (.ref a :: st) h Q := r_get (v := .ref b) dc hs hc hk hf hsm (gfv_r ht ho) kk
theorem r_getn {d mc ms : Nat} {M : gM} {pc : Nat} {ls : gLs} {st : List Value} {h : Hp} {Q : gQ} {a ci k index : Nat} {C ref : String} {T : u_T} {N : Nat} (dc : decode (mC M) pc = .ok (.getfield index, 3)) (hs : hS h a = .inl ci) (hc : gcl[ci]? = some (C, T, N)) (hk : k < N) (hf : gFl (mOwn M) index ref (T k).2.1 (T k).2.2.1) (hsm : gSm ref (T k)) (ht : gisr (gty ci k) = true) (ho : hR h a k = none) (kk : gG d mc ms M (pc + 3) ls (.null :: st) h Q) : gG d mc ms M pc ls (.ref a :: st) h Q := r_get (v := .null) dc hs hc hk hf hsm (gfv_r ht ho) kk

theorem r_ialdN {d mc ms : Nat} {M : gM} {pc : Nat} {ls : gLs} {st : List Value} {h : Hp} {Q : gQ} {a N : Nat} {i : Int32} (j : Nat) (dc : decode (mC M) pc = .ok (.iaload, 1)) (hs : hS h a = .inr (0, N)) (e : i = nI j) (hj : j < N) (hN : N < 2147483648) (kk : gG d mc ms M (pc + 1) ls (.int (hI h a j) :: st) h Q) : gG d mc ms M pc ls (.int i :: .ref a :: st) h Q := by
  subst e
  refine r_iald dc hs (vp_in_nI hj hN) ?_
  rw [nI_clamp (Nat.lt_trans hj hN)]
  exact kk
theorem r_baldN {d mc ms : Nat} {M : gM} {pc : Nat} {ls : gLs} {st : List Value} {h : Hp} {Q : gQ} {a N : Nat} {i : Int32} (j : Nat) (dc : decode (mC M) pc = .ok (.baload, 1)) (hs : hS h a = .inr (1, N)) (e : i = nI j) (hj : j < N) (hN : N < 2147483648) (kk : gG d mc ms M (pc + 1) ls (.int (hI h a j) :: st) h Q) : gG d mc ms M pc ls (.int i :: .ref a :: st) h Q := by
  subst e
  refine r_bald dc hs (vp_in_nI hj hN) ?_
  rw [nI_clamp (Nat.lt_trans hj hN)]
  exact kk
theorem r_saldN {d mc ms : Nat} {M : gM} {pc : Nat} {ls : gLs} {st : List Value} {h : Hp} {Q : gQ} {a N : Nat} {i : Int32} (j : Nat) (dc : decode (mC M) pc = .ok (.saload, 1)) (hs : hS h a = .inr (2, N)) (e : i = nI j) (hj : j < N) (hN : N < 2147483648) (kk : gG d mc ms M (pc + 1) ls (.int (hI h a j) :: st) h Q) : gG d mc ms M pc ls (.int i :: .ref a :: st) h Q := by
  subst e
  refine r_sald dc hs (vp_in_nI hj hN) ?_
  rw [nI_clamp (Nat.lt_trans hj hN)]
  exact kk
theorem r_zaldN {d mc ms : Nat} {M : gM} {pc : Nat} {ls : gLs} {st : List Value} {h : Hp} {Q : gQ} {a N : Nat} {i : Int32} (j : Nat) (dc : decode (mC M) pc = .ok (.baload, 1)) (hs : hS h a = .inr (3, N)) (e : i = nI j) (hj : j < N) (hN : N < 2147483648) (kk : gG d mc ms M (pc + 1) ls (.int (hI h a j) :: st) h Q) : gG d mc ms M pc ls (.int i :: .ref a :: st) h Q := by
  subst e
  refine r_zald dc hs (vp_in_nI hj hN) ?_
  rw [nI_clamp (Nat.lt_trans hj hN)]
  exact kk
theorem r_iastN {d mc ms : Nat} {M : gM} {pc : Nat} {ls : gLs} {st : List Value} {h : Hp} {Q : gQ} {a N : Nat} {i x : Int32} (j : Nat) (dc : decode (mC M) pc = .ok (.iastore, 1)) (hs : hS h a = .inr (0, N)) (e : i = nI j) (hj : j < N) (hN : N < 2147483648) (kk : gG d mc ms M (pc + 1) ls st (wI h a j x) Q) : gG d mc ms M pc ls (.int x :: .int i :: .ref a :: st) h Q := by
  subst e
  refine r_iast dc hs (vp_in_nI hj hN) ?_
  rw [nI_clamp (Nat.lt_trans hj hN)]
  exact kk
theorem r_bastN {d mc ms : Nat} {M : gM} {pc : Nat} {ls : gLs} {st : List Value} {h : Hp} {Q : gQ} {a N : Nat} {i x : Int32} (j : Nat) (dc : decode (mC M) pc = .ok (.bastore, 1)) (hs : hS h a = .inr (1, N)) (e : i = nI j) (hj : j < N) (hN : N < 2147483648) (kk : gG d mc ms M (pc + 1) ls st (wI h a j (vp_nar .byte x)) Q) : gG d mc ms M pc ls (.int x :: .int i :: .ref a :: st) h Q := by
  subst e
  refine r_bast dc hs (vp_in_nI hj hN) ?_
  rw [nI_clamp (Nat.lt_trans hj hN)]
  exact kk
theorem r_sastN {d mc ms : Nat} {M : gM} {pc : Nat} {ls : gLs} {st : List Value} {h : Hp} {Q : gQ} {a N : Nat} {i x : Int32} (j : Nat) (dc : decode (mC M) pc = .ok (.sastore, 1)) (hs : hS h a = .inr (2, N)) (e : i = nI j) (hj : j < N) (hN : N < 2147483648) (kk : gG d mc ms M (pc + 1) ls st (wI h a j (vp_nar .short x)) Q) : gG d mc ms M pc ls (.int x :: .int i :: .ref a :: st) h Q := by
  subst e
  refine r_sast dc hs (vp_in_nI hj hN) ?_
  rw [nI_clamp (Nat.lt_trans hj hN)]
  exact kk
theorem r_zastN {d mc ms : Nat} {M : gM} {pc : Nat} {ls : gLs} {st : List Value} {h : Hp} {Q : gQ} {a N : Nat} {i x : Int32} (j : Nat) (dc : decode (mC M) pc = .ok (.bastore, 1)) (hs : hS h a = .inr (3, N)) (e : i = nI j) (hj : j < N) (hN : N < 2147483648) (kk : gG d mc ms M (pc + 1) ls st (wI h a j (vp_nar .boolean x)) Q) : gG d mc ms M pc ls (.int x :: .int i :: .ref a :: st) h Q := by
  subst e
  refine r_zast dc hs (vp_in_nI hj hN) ?_
  rw [nI_clamp (Nat.lt_trans hj hN)]
  exact kk
theorem r_aaldN {d mc ms : Nat} {M : gM} {pc : Nat} {ls : gLs} {st : List Value} {h : Hp} {Q : gQ} {a N t b : Nat} {i : Int32} (j : Nat) (dc : decode (mC M) pc = .ok (.aaload, 1)) (hs : hS h a = .inr (t, N)) (ht : t = 4 ∨ t = 5 ∨ t = 6) (e : i = nI j) (hj : j < N) (hN : N < 2147483648) (ho : hR h a j = some b) (hb : 21 ≤ b) (kk : gG d mc ms M (pc + 1) ls (.ref b :: st) h Q) : gG d mc ms M pc ls (.int i :: .ref a :: st) h Q := by
  subst e
  refine r_aald (o := some b) dc hs ht (vp_in_nI hj hN) ?_ (fun b9 h9 => by cases h9; exact hb) kk
  rw [nI_clamp (Nat.lt_trans hj hN)]
  exact ho
theorem r_aaldNn {d mc ms : Nat} {M : gM} {pc : Nat} {ls : gLs} {st : List Value} {h : Hp} {Q : gQ} {a N t : Nat} {i : Int32} (j : Nat) (dc : decode (mC M) pc = .ok (.aaload, 1)) (hs : hS h a = .inr (t, N)) (ht : t = 4 ∨ t = 5 ∨ t = 6) (e : i = nI j) (hj : j < N) (hN : N < 2147483648) (ho : hR h a j = none) (kk : gG d mc ms M (pc + 1) ls (.null :: st) h Q) : gG d mc ms M pc ls (.int i :: .ref a :: st) h Q := by
  subst e
  refine r_aald (o := none) dc hs ht (vp_in_nI hj hN) ?_ (fun b9 h9 => by cases h9) kk
  rw [nI_clamp (Nat.lt_trans hj hN)]
  exact ho
theorem r_aastN {d mc ms : Nat} {M : gM} {pc : Nat} {ls : gLs} {st : List Value} {h : Hp} {Q : gQ} {a n t b cb : Nat} {i : Int32} {EC Cb : String} {Tb : u_T} {Nb : Nat} (j : Nat) (dc : decode (mC M) pc = .ok (.aastore, 1)) (hs : hS h a = .inr (t, n)) (ht : (t = 4 ∧ EC = RX7) ∨ (t = 5 ∧ EC = RX14) ∨ (t = 6 ∧ EC = RX5)) (e : i = nI j) (hj : j < n) (hN : n < 2147483648) (hsb : hS h b = .inl cb) (hcb : gcl[cb]? = some (Cb, Tb, Nb)) (hcast : Cb = EC ∨ Cond.castable Cb EC ∈ lw_tbl) (kk : gG d mc ms M (pc + 1) ls st (wR h a j (some b)) Q) : gG d mc ms M pc ls (.ref b :: .int i :: .ref a :: st) h Q := by
  subst e
  refine r_aast dc hs ht (vp_in_nI hj hN) hsb hcb hcast ?_
  rw [nI_clamp (Nat.lt_trans hj hN)]
  exact kk
theorem r_callV_1 {d mc ms : Nat} {M M1 : gM} {pc : Nat} {ls : gLs} {st stk : List Value} {h h1 : Hp} {Q : gQ} {w : Value} {b : Nat} {As : List Value} {C : String} {n index : Nat} (dc : decode (mC M) pc = .ok (.invokevirtual index, 3)) (hv : gV (mOwn M) index C M1 n) (hC : gC d 0 0 M1 (.ref b :: As) h (Ret (some w) h1)) (hb : gRecv h b C) (hn : As.length = n) (hst : stk = As.reverse ++ .ref b :: st) (hcat : (st.map fun v => v.category).sum ≤ 8) (kk : gG (d + 1) mc ms M (pc + 3) ls (w :: st) h1 Q) : gG (d + 1) mc ms M pc ls stk h Q :=
  r_callV (mc1 := 0) (ms1 := 0) dc hv hC hb hn hst hcat (fun v h' e => by obtain ⟨e1, e2⟩ := e; cases e1; subst e2; exact kk) (fun a h' e => by cases e.1)
theorem r_callV_0 {d mc ms : Nat} {M M1 : gM} {pc : Nat} {ls : gLs} {st stk : List Value} {h h1 : Hp} {Q : gQ} {b : Nat} {As : List Value} {C : String} {n index : Nat} (dc : decode (mC M) pc = .ok (.invokevirtual index, 3)) (hv : gV (mOwn M) index C M1 n) (hC : gC d 0 0 M1 (.ref b :: As) h (Ret none h1)) (hb : gRecv h b C) (hn : As.length = n) (hst : stk = As.reverse ++ .ref b :: st) (hcat : (st.map fun v => v.category).sum ≤ 8) (kk : gG (d + 1) mc ms M (pc + 3) ls (st) h1 Q) : gG (d + 1) mc ms M pc ls stk h Q :=
  r_callV (mc1 := 0) (ms1 := 0) dc hv hC hb hn hst hcat (fun v h' e => by obtain ⟨e1, e2⟩ := e; cases e1; subst e2; exact kk) (fun a h' e => by cases e.1)
theorem r_callV_1c {d mc ms mc1 ms1 : Nat} {M M1 : gM} {pc : Nat} {ls : gLs} {st stk : List Value} {h h1 : Hp} {Q : gQ} {w : Value} {b : Nat} {As : List Value} {C : String} {n index : Nat} (dc : decode (mC M) pc = .ok (.invokevirtual index, 3)) (hv : gV (mOwn M) index C M1 n) (hC : gC d mc1 ms1 M1 (.ref b :: As) h (Ret (some w) h1)) (hb : gRecv h b C) (hn : As.length = n) (hst : stk = As.reverse ++ .ref b :: st) (hcat : (st.map fun v => v.category).sum ≤ 8) (kk : gG (d + 1) mc ms M (pc + 3) ls (w :: st) h1 Q) : gG (d + 1) (mc + mc1) (ms + ms1) M pc ls stk h Q :=
  r_callV dc hv hC hb hn hst hcat (fun v h' e => by obtain ⟨e1, e2⟩ := e; cases e1; subst e2; exact kk) (fun a h' e => by cases e.1)
theorem r_callV_0c {d mc ms mc1 ms1 : Nat} {M M1 : gM} {pc : Nat} {ls : gLs} {st stk : List Value} {h h1 : Hp} {Q : gQ} {b : Nat} {As : List Value} {C : String} {n index : Nat} (dc : decode (mC M) pc = .ok (.invokevirtual index, 3)) (hv : gV (mOwn M) index C M1 n) (hC : gC d mc1 ms1 M1 (.ref b :: As) h (Ret none h1)) (hb : gRecv h b C) (hn : As.length = n) (hst : stk = As.reverse ++ .ref b :: st) (hcat : (st.map fun v => v.category).sum ≤ 8) (kk : gG (d + 1) mc ms M (pc + 3) ls (st) h1 Q) : gG (d + 1) (mc + mc1) (ms + ms1) M pc ls stk h Q :=
  r_callV dc hv hC hb hn hst hcat (fun v h' e => by obtain ⟨e1, e2⟩ := e; cases e1; subst e2; exact kk) (fun a h' e => by cases e.1)
theorem r_callVH_1 {d mc ms : Nat} {M M1 : gM} {pc : Nat} {ls : gLs} {st stk : List Value} {h h1 : Hp} {Q : gQ} {w : Value} {b : Nat} {As : List Value} {C : String} {n index : Nat} (dc : decode (mC M) pc = .ok (.invokevirtual index, 3)) (hv : gVH (mOwn M) index C M1 n) (hC : gC d 0 0 M1 (.ref b :: As) h (Ret (some w) h1)) (hb : gRecv h b C) (hn : As.length = n) (hst : stk = As.reverse ++ .ref b :: st) (hcat : (st.map fun v => v.category).sum ≤ 8) (kk : gG (d + 1) mc ms M (pc + 3) ls (w :: st) h1 Q) : gG (d + 1) mc ms M pc ls stk h Q :=
  r_callVH (mc1 := 0) (ms1 := 0) dc hv hC hb hn hst hcat (fun v h' e => by obtain ⟨e1, e2⟩ := e; cases e1; subst e2; exact kk) (fun a h' e => by cases e.1)
theorem r_callVH_0 {d mc ms : Nat} {M M1 : gM} {pc : Nat} {ls : gLs} {st stk : List Value} {h h1 : Hp} {Q : gQ} {b : Nat} {As : List Value} {C : String} {n index : Nat} (dc : decode (mC M) pc = .ok (.invokevirtual index, 3)) (hv : gVH (mOwn M) index C M1 n) (hC : gC d 0 0 M1 (.ref b :: As) h (Ret none h1)) (hb : gRecv h b C) (hn : As.length = n) (hst : stk = As.reverse ++ .ref b :: st) (hcat : (st.map fun v => v.category).sum ≤ 8) (kk : gG (d + 1) mc ms M (pc + 3) ls (st) h1 Q) : gG (d + 1) mc ms M pc ls stk h Q :=
  r_callVH (mc1 := 0) (ms1 := 0) dc hv hC hb hn hst hcat (fun v h' e => by obtain ⟨e1, e2⟩ := e; cases e1; subst e2; exact kk) (fun a h' e => by cases e.1)
theorem r_callVH_1c {d mc ms mc1 ms1 : Nat} {M M1 : gM} {pc : Nat} {ls : gLs} {st stk : List Value} {h h1 : Hp} {Q : gQ} {w : Value} {b : Nat} {As : List Value} {C : String} {n index : Nat} (dc : decode (mC M) pc = .ok (.invokevirtual index, 3)) (hv : gVH (mOwn M) index C M1 n) (hC : gC d mc1 ms1 M1 (.ref b :: As) h (Ret (some w) h1)) (hb : gRecv h b C) (hn : As.length = n) (hst : stk = As.reverse ++ .ref b :: st) (hcat : (st.map fun v => v.category).sum ≤ 8) (kk : gG (d + 1) mc ms M (pc + 3) ls (w :: st) h1 Q) : gG (d + 1) (mc + mc1) (ms + ms1) M pc ls stk h Q :=
  r_callVH dc hv hC hb hn hst hcat (fun v h' e => by obtain ⟨e1, e2⟩ := e; cases e1; subst e2; exact kk) (fun a h' e => by cases e.1)
theorem r_callVH_0c {d mc ms mc1 ms1 : Nat} {M M1 : gM} {pc : Nat} {ls : gLs} {st stk : List Value} {h h1 : Hp} {Q : gQ} {b : Nat} {As : List Value} {C : String} {n index : Nat} (dc : decode (mC M) pc = .ok (.invokevirtual index, 3)) (hv : gVH (mOwn M) index C M1 n) (hC : gC d mc1 ms1 M1 (.ref b :: As) h (Ret none h1)) (hb : gRecv h b C) (hn : As.length = n) (hst : stk = As.reverse ++ .ref b :: st) (hcat : (st.map fun v => v.category).sum ≤ 8) (kk : gG (d + 1) mc ms M (pc + 3) ls (st) h1 Q) : gG (d + 1) (mc + mc1) (ms + ms1) M pc ls stk h Q :=
  r_callVH dc hv hC hb hn hst hcat (fun v h' e => by obtain ⟨e1, e2⟩ := e; cases e1; subst e2; exact kk) (fun a h' e => by cases e.1)
theorem r_callU_1 {d mc ms : Nat} {M M1 : gM} {pc : Nat} {ls : gLs} {st stk : List Value} {h h1 : Hp} {Q : gQ} {w : Value} {b : Nat} {As : List Value} {C owner : String} {x : MethodName} {n index : Nat} (dc : decode (mC M) pc = .ok (.invokevirtual index, 3)) (hv : gU (mOwn M) index C owner x M1 n) (hC : gC d 0 0 M1 (.ref b :: As) h (Ret (some w) h1)) (hb : gRecv h b C) (hn : As.length = n) (hst : stk = As.reverse ++ .ref b :: st) (hcat : (st.map fun v => v.category).sum ≤ 8) (kk : gG (d + 1) mc ms M (pc + 3) ls (w :: st) h1 Q) : gG (d + 1) mc ms M pc ls stk h Q :=
  r_callU (mc1 := 0) (ms1 := 0) dc hv hC hb hn hst hcat (fun v h' e => by obtain ⟨e1, e2⟩ := e; cases e1; subst e2; exact kk) (fun a h' e => by cases e.1)
theorem r_callU_0 {d mc ms : Nat} {M M1 : gM} {pc : Nat} {ls : gLs} {st stk : List Value} {h h1 : Hp} {Q : gQ} {b : Nat} {As : List Value} {C owner : String} {x : MethodName} {n index : Nat} (dc : decode (mC M) pc = .ok (.invokevirtual index, 3)) (hv : gU (mOwn M) index C owner x M1 n) (hC : gC d 0 0 M1 (.ref b :: As) h (Ret none h1)) (hb : gRecv h b C) (hn : As.length = n) (hst : stk = As.reverse ++ .ref b :: st) (hcat : (st.map fun v => v.category).sum ≤ 8) (kk : gG (d + 1) mc ms M (pc + 3) ls (st) h1 Q) : gG (d + 1) mc ms M pc ls stk h Q :=
  r_callU (mc1 := 0) (ms1 := 0) dc hv hC hb hn hst hcat (fun v h' e => by obtain ⟨e1, e2⟩ := e; cases e1; subst e2; exact kk) (fun a h' e => by cases e.1)
theorem r_callU_1c {d mc ms mc1 ms1 : Nat} {M M1 : gM} {pc : Nat} {ls : gLs} {st stk : List Value} {h h1 : Hp} {Q : gQ} {w : Value} {b : Nat} {As : List Value} {C owner : String} {x : MethodName} {n index : Nat} (dc : decode (mC M) pc = .ok (.invokevirtual index, 3)) (hv : gU (mOwn M) index C owner x M1 n) (hC : gC d mc1 ms1 M1 (.ref b :: As) h (Ret (some w) h1)) (hb : gRecv h b C) (hn : As.length = n) (hst : stk = As.reverse ++ .ref b :: st) (hcat : (st.map fun v => v.category).sum ≤ 8) (kk : gG (d + 1) mc ms M (pc + 3) ls (w :: st) h1 Q) : gG (d + 1) (mc + mc1) (ms + ms1) M pc ls stk h Q :=
  r_callU dc hv hC hb hn hst hcat (fun v h' e => by obtain ⟨e1, e2⟩ := e; cases e1; subst e2; exact kk) (fun a h' e => by cases e.1)
theorem r_callU_0c {d mc ms mc1 ms1 : Nat} {M M1 : gM} {pc : Nat} {ls : gLs} {st stk : List Value} {h h1 : Hp} {Q : gQ} {b : Nat} {As : List Value} {C owner : String} {x : MethodName} {n index : Nat} (dc : decode (mC M) pc = .ok (.invokevirtual index, 3)) (hv : gU (mOwn M) index C owner x M1 n) (hC : gC d mc1 ms1 M1 (.ref b :: As) h (Ret none h1)) (hb : gRecv h b C) (hn : As.length = n) (hst : stk = As.reverse ++ .ref b :: st) (hcat : (st.map fun v => v.category).sum ≤ 8) (kk : gG (d + 1) mc ms M (pc + 3) ls (st) h1 Q) : gG (d + 1) (mc + mc1) (ms + ms1) M pc ls stk h Q :=
  r_callU dc hv hC hb hn hst hcat (fun v h' e => by obtain ⟨e1, e2⟩ := e; cases e1; subst e2; exact kk) (fun a h' e => by cases e.1)
theorem r_callSU_1 {d mc ms : Nat} {M M1 : gM} {pc : Nat} {ls : gLs} {st stk : List Value} {h h1 : Hp} {Q : gQ} {w : Value} {b : Nat} {As : List Value} {C : String} {ci : Nat} {T9 : u_T} {N9 : Nat} {n index : Nat} (dc : decode (mC M) pc = .ok (.invokespecial index, 3)) (hv : gSU (mOwn M) index M1 n) (hcl : gcl[ci]? = some (C, T9, N9)) (hC : gC d 0 0 M1 (.ref b :: As) h (Ret (some w) h1)) (hb : gRecv h b C) (hn : As.length = n) (hst : stk = As.reverse ++ .ref b :: st) (hcat : (st.map fun v => v.category).sum ≤ 8) (kk : gG (d + 1) mc ms M (pc + 3) ls (w :: st) h1 Q) : gG (d + 1) mc ms M pc ls stk h Q :=
  r_callSU (mc1 := 0) (ms1 := 0) dc hv hcl hC hb hn hst hcat (fun v h' e => by obtain ⟨e1, e2⟩ := e; cases e1; subst e2; exact kk) (fun a h' e => by cases e.1)
theorem r_callSU_0 {d mc ms : Nat} {M M1 : gM} {pc : Nat} {ls : gLs} {st stk : List Value} {h h1 : Hp} {Q : gQ} {b : Nat} {As : List Value} {C : String} {ci : Nat} {T9 : u_T} {N9 : Nat} {n index : Nat} (dc : decode (mC M) pc = .ok (.invokespecial index, 3)) (hv : gSU (mOwn M) index M1 n) (hcl : gcl[ci]? = some (C, T9, N9)) (hC : gC d 0 0 M1 (.ref b :: As) h (Ret none h1)) (hb : gRecv h b C) (hn : As.length = n) (hst : stk = As.reverse ++ .ref b :: st) (hcat : (st.map fun v => v.category).sum ≤ 8) (kk : gG (d + 1) mc ms M (pc + 3) ls (st) h1 Q) : gG (d + 1) mc ms M pc ls stk h Q :=
  r_callSU (mc1 := 0) (ms1 := 0) dc hv hcl hC hb hn hst hcat (fun v h' e => by obtain ⟨e1, e2⟩ := e; cases e1; subst e2; exact kk) (fun a h' e => by cases e.1)
theorem r_callSU_1c {d mc ms mc1 ms1 : Nat} {M M1 : gM} {pc : Nat} {ls : gLs} {st stk : List Value} {h h1 : Hp} {Q : gQ} {w : Value} {b : Nat} {As : List Value} {C : String} {ci : Nat} {T9 : u_T} {N9 : Nat} {n index : Nat} (dc : decode (mC M) pc = .ok (.invokespecial index, 3)) (hv : gSU (mOwn M) index M1 n) (hcl : gcl[ci]? = some (C, T9, N9)) (hC : gC d mc1 ms1 M1 (.ref b :: As) h (Ret (some w) h1)) (hb : gRecv h b C) (hn : As.length = n) (hst : stk = As.reverse ++ .ref b :: st) (hcat : (st.map fun v => v.category).sum ≤ 8) (kk : gG (d + 1) mc ms M (pc + 3) ls (w :: st) h1 Q) : gG (d + 1) (mc + mc1) (ms + ms1) M pc ls stk h Q :=
  r_callSU dc hv hcl hC hb hn hst hcat (fun v h' e => by obtain ⟨e1, e2⟩ := e; cases e1; subst e2; exact kk) (fun a h' e => by cases e.1)
theorem r_callSU_0c {d mc ms mc1 ms1 : Nat} {M M1 : gM} {pc : Nat} {ls : gLs} {st stk : List Value} {h h1 : Hp} {Q : gQ} {b : Nat} {As : List Value} {C : String} {ci : Nat} {T9 : u_T} {N9 : Nat} {n index : Nat} (dc : decode (mC M) pc = .ok (.invokespecial index, 3)) (hv : gSU (mOwn M) index M1 n) (hcl : gcl[ci]? = some (C, T9, N9)) (hC : gC d mc1 ms1 M1 (.ref b :: As) h (Ret none h1)) (hb : gRecv h b C) (hn : As.length = n) (hst : stk = As.reverse ++ .ref b :: st) (hcat : (st.map fun v => v.category).sum ≤ 8) (kk : gG (d + 1) mc ms M (pc + 3) ls (st) h1 Q) : gG (d + 1) (mc + mc1) (ms + ms1) M pc ls stk h Q :=
  r_callSU dc hv hcl hC hb hn hst hcat (fun v h' e => by obtain ⟨e1, e2⟩ := e; cases e1; subst e2; exact kk) (fun a h' e => by cases e.1)
theorem r_callF_1 {d mc ms : Nat} {M M1 : gM} {pc : Nat} {ls : gLs} {st stk : List Value} {h h1 : Hp} {Q : gQ} {w : Value} {count b : Nat} {As : List Value} {C : String} {x : MethodName} {ci : Nat} {T9 : u_T} {N9 : Nat} {n index : Nat} (dc : decode (mC M) pc = .ok (.invokeinterface index count, 5)) (hv : gIf (mOwn M) index C x M1 n) (hcl : gcl[ci]? = some (C, T9, N9)) (hC : gC d 0 0 M1 (.ref b :: As) h (Ret (some w) h1)) (hb : gRecv h b C) (hn : As.length = n) (hst : stk = As.reverse ++ .ref b :: st) (hcat : (st.map fun v => v.category).sum ≤ 8) (kk : gG (d + 1) mc ms M (pc + 5) ls (w :: st) h1 Q) : gG (d + 1) mc ms M pc ls stk h Q :=
  r_callF (mc1 := 0) (ms1 := 0) dc hv hcl hC hb hn hst hcat (fun v h' e => by obtain ⟨e1, e2⟩ := e; cases e1; subst e2; exact kk) (fun a h' e => by cases e.1)
theorem r_callF_0 {d mc ms : Nat} {M M1 : gM} {pc : Nat} {ls : gLs} {st stk : List Value} {h h1 : Hp} {Q : gQ} {count b : Nat} {As : List Value} {C : String} {x : MethodName} {ci : Nat} {T9 : u_T} {N9 : Nat} {n index : Nat} (dc : decode (mC M) pc = .ok (.invokeinterface index count, 5)) (hv : gIf (mOwn M) index C x M1 n) (hcl : gcl[ci]? = some (C, T9, N9)) (hC : gC d 0 0 M1 (.ref b :: As) h (Ret none h1)) (hb : gRecv h b C) (hn : As.length = n) (hst : stk = As.reverse ++ .ref b :: st) (hcat : (st.map fun v => v.category).sum ≤ 8) (kk : gG (d + 1) mc ms M (pc + 5) ls (st) h1 Q) : gG (d + 1) mc ms M pc ls stk h Q :=
  r_callF (mc1 := 0) (ms1 := 0) dc hv hcl hC hb hn hst hcat (fun v h' e => by obtain ⟨e1, e2⟩ := e; cases e1; subst e2; exact kk) (fun a h' e => by cases e.1)
theorem r_callF_1c {d mc ms mc1 ms1 : Nat} {M M1 : gM} {pc : Nat} {ls : gLs} {st stk : List Value} {h h1 : Hp} {Q : gQ} {w : Value} {count b : Nat} {As : List Value} {C : String} {x : MethodName} {ci : Nat} {T9 : u_T} {N9 : Nat} {n index : Nat} (dc : decode (mC M) pc = .ok (.invokeinterface index count, 5)) (hv : gIf (mOwn M) index C x M1 n) (hcl : gcl[ci]? = some (C, T9, N9)) (hC : gC d mc1 ms1 M1 (.ref b :: As) h (Ret (some w) h1)) (hb : gRecv h b C) (hn : As.length = n) (hst : stk = As.reverse ++ .ref b :: st) (hcat : (st.map fun v => v.category).sum ≤ 8) (kk : gG (d + 1) mc ms M (pc + 5) ls (w :: st) h1 Q) : gG (d + 1) (mc + mc1) (ms + ms1) M pc ls stk h Q :=
  r_callF dc hv hcl hC hb hn hst hcat (fun v h' e => by obtain ⟨e1, e2⟩ := e; cases e1; subst e2; exact kk) (fun a h' e => by cases e.1)
theorem r_callF_0c {d mc ms mc1 ms1 : Nat} {M M1 : gM} {pc : Nat} {ls : gLs} {st stk : List Value} {h h1 : Hp} {Q : gQ} {count b : Nat} {As : List Value} {C : String} {x : MethodName} {ci : Nat} {T9 : u_T} {N9 : Nat} {n index : Nat} (dc : decode (mC M) pc = .ok (.invokeinterface index count, 5)) (hv : gIf (mOwn M) index C x M1 n) (hcl : gcl[ci]? = some (C, T9, N9)) (hC : gC d mc1 ms1 M1 (.ref b :: As) h (Ret none h1)) (hb : gRecv h b C) (hn : As.length = n) (hst : stk = As.reverse ++ .ref b :: st) (hcat : (st.map fun v => v.category).sum ≤ 8) (kk : gG (d + 1) mc ms M (pc + 5) ls (st) h1 Q) : gG (d + 1) (mc + mc1) (ms + ms1) M pc ls stk h Q :=
  r_callF dc hv hcl hC hb hn hst hcat (fun v h' e => by obtain ⟨e1, e2⟩ := e; cases e1; subst e2; exact kk) (fun a h' e => by cases e.1)
theorem r_callS_1 {d mc ms : Nat} {M M1 : gM} {pc : Nat} {ls : gLs} {st stk : List Value} {h h1 : Hp} {Q : gQ} {w : Value} {As : List Value} {n index : Nat} (dc : decode (mC M) pc = .ok (.invokestatic index, 3)) (hv : gSt (mOwn M) index M1 n) (hC : gC d 0 0 M1 (As) h (Ret (some w) h1)) (hn : As.length = n) (hst : stk = As.reverse ++ st) (hcat : (st.map fun v => v.category).sum ≤ 8) (kk : gG (d + 1) mc ms M (pc + 3) ls (w :: st) h1 Q) : gG (d + 1) mc ms M pc ls stk h Q :=
  r_callS (mc1 := 0) (ms1 := 0) dc hv hC hn hst hcat (fun v h' e => by obtain ⟨e1, e2⟩ := e; cases e1; subst e2; exact kk) (fun a h' e => by cases e.1)
theorem r_callS_0 {d mc ms : Nat} {M M1 : gM} {pc : Nat} {ls : gLs} {st stk : List Value} {h h1 : Hp} {Q : gQ} {As : List Value} {n index : Nat} (dc : decode (mC M) pc = .ok (.invokestatic index, 3)) (hv : gSt (mOwn M) index M1 n) (hC : gC d 0 0 M1 (As) h (Ret none h1)) (hn : As.length = n) (hst : stk = As.reverse ++ st) (hcat : (st.map fun v => v.category).sum ≤ 8) (kk : gG (d + 1) mc ms M (pc + 3) ls (st) h1 Q) : gG (d + 1) mc ms M pc ls stk h Q :=
  r_callS (mc1 := 0) (ms1 := 0) dc hv hC hn hst hcat (fun v h' e => by obtain ⟨e1, e2⟩ := e; cases e1; subst e2; exact kk) (fun a h' e => by cases e.1)
theorem r_callS_1c {d mc ms mc1 ms1 : Nat} {M M1 : gM} {pc : Nat} {ls : gLs} {st stk : List Value} {h h1 : Hp} {Q : gQ} {w : Value} {As : List Value} {n index : Nat} (dc : decode (mC M) pc = .ok (.invokestatic index, 3)) (hv : gSt (mOwn M) index M1 n) (hC : gC d mc1 ms1 M1 (As) h (Ret (some w) h1)) (hn : As.length = n) (hst : stk = As.reverse ++ st) (hcat : (st.map fun v => v.category).sum ≤ 8) (kk : gG (d + 1) mc ms M (pc + 3) ls (w :: st) h1 Q) : gG (d + 1) (mc + mc1) (ms + ms1) M pc ls stk h Q :=
  r_callS dc hv hC hn hst hcat (fun v h' e => by obtain ⟨e1, e2⟩ := e; cases e1; subst e2; exact kk) (fun a h' e => by cases e.1)
theorem r_callS_0c {d mc ms mc1 ms1 : Nat} {M M1 : gM} {pc : Nat} {ls : gLs} {st stk : List Value} {h h1 : Hp} {Q : gQ} {As : List Value} {n index : Nat} (dc : decode (mC M) pc = .ok (.invokestatic index, 3)) (hv : gSt (mOwn M) index M1 n) (hC : gC d mc1 ms1 M1 (As) h (Ret none h1)) (hn : As.length = n) (hst : stk = As.reverse ++ st) (hcat : (st.map fun v => v.category).sum ≤ 8) (kk : gG (d + 1) mc ms M (pc + 3) ls (st) h1 Q) : gG (d + 1) (mc + mc1) (ms + ms1) M pc ls stk h Q :=
  r_callS dc hv hC hn hst hcat (fun v h' e => by obtain ⟨e1, e2⟩ := e; cases e1; subst e2; exact kk) (fun a h' e => by cases e.1)
theorem r_callSN_1 {d mc ms : Nat} {M M1 : gM} {pc : Nat} {ls : gLs} {st stk : List Value} {h h1 : Hp} {Q : gQ} {w : Value} {As : List Value} {n index : Nat} (dc : decode (mC M) pc = .ok (.invokestatic index, 3)) (hv : gSN (mOwn M) index M1 n) (hC : gC d 0 0 M1 (As) h (Ret (some w) h1)) (hn : As.length = n) (hst : stk = As.reverse ++ st) (hcat : (st.map fun v => v.category).sum ≤ 8) (kk : gG (d + 1) mc ms M (pc + 3) ls (w :: st) h1 Q) : gG (d + 1) mc ms M pc ls stk h Q :=
  r_callSN (mc1 := 0) (ms1 := 0) dc hv hC hn hst hcat (fun v h' e => by obtain ⟨e1, e2⟩ := e; cases e1; subst e2; exact kk) (fun a h' e => by cases e.1)
theorem r_callSN_0 {d mc ms : Nat} {M M1 : gM} {pc : Nat} {ls : gLs} {st stk : List Value} {h h1 : Hp} {Q : gQ} {As : List Value} {n index : Nat} (dc : decode (mC M) pc = .ok (.invokestatic index, 3)) (hv : gSN (mOwn M) index M1 n) (hC : gC d 0 0 M1 (As) h (Ret none h1)) (hn : As.length = n) (hst : stk = As.reverse ++ st) (hcat : (st.map fun v => v.category).sum ≤ 8) (kk : gG (d + 1) mc ms M (pc + 3) ls (st) h1 Q) : gG (d + 1) mc ms M pc ls stk h Q :=
  r_callSN (mc1 := 0) (ms1 := 0) dc hv hC hn hst hcat (fun v h' e => by obtain ⟨e1, e2⟩ := e; cases e1; subst e2; exact kk) (fun a h' e => by cases e.1)
theorem r_callSN_1c {d mc ms mc1 ms1 : Nat} {M M1 : gM} {pc : Nat} {ls : gLs} {st stk : List Value} {h h1 : Hp} {Q : gQ} {w : Value} {As : List Value} {n index : Nat} (dc : decode (mC M) pc = .ok (.invokestatic index, 3)) (hv : gSN (mOwn M) index M1 n) (hC : gC d mc1 ms1 M1 (As) h (Ret (some w) h1)) (hn : As.length = n) (hst : stk = As.reverse ++ st) (hcat : (st.map fun v => v.category).sum ≤ 8) (kk : gG (d + 1) mc ms M (pc + 3) ls (w :: st) h1 Q) : gG (d + 1) (mc + mc1) (ms + ms1) M pc ls stk h Q :=
  r_callSN dc hv hC hn hst hcat (fun v h' e => by obtain ⟨e1, e2⟩ := e; cases e1; subst e2; exact kk) (fun a h' e => by cases e.1)
theorem r_callSN_0c {d mc ms mc1 ms1 : Nat} {M M1 : gM} {pc : Nat} {ls : gLs} {st stk : List Value} {h h1 : Hp} {Q : gQ} {As : List Value} {n index : Nat} (dc : decode (mC M) pc = .ok (.invokestatic index, 3)) (hv : gSN (mOwn M) index M1 n) (hC : gC d mc1 ms1 M1 (As) h (Ret none h1)) (hn : As.length = n) (hst : stk = As.reverse ++ st) (hcat : (st.map fun v => v.category).sum ≤ 8) (kk : gG (d + 1) mc ms M (pc + 3) ls (st) h1 Q) : gG (d + 1) (mc + mc1) (ms + ms1) M pc ls stk h Q :=
  r_callSN dc hv hC hn hst hcat (fun v h' e => by obtain ⟨e1, e2⟩ := e; cases e1; subst e2; exact kk) (fun a h' e => by cases e.1)
theorem r_callI_1 {d mc ms : Nat} {M M1 : gM} {pc : Nat} {ls : gLs} {st stk : List Value} {h h1 : Hp} {Q : gQ} {w : Value} {b : Nat} {As : List Value} {n index : Nat} (dc : decode (mC M) pc = .ok (.invokespecial index, 3)) (hv : gIn (mOwn M) index M1 n) (hC : gC d 0 0 M1 (.ref b :: As) h (Ret (some w) h1)) (h21 : 21 ≤ b) (hn : As.length = n) (hst : stk = As.reverse ++ .ref b :: st) (hcat : (st.map fun v => v.category).sum ≤ 8) (kk : gG (d + 1) mc ms M (pc + 3) ls (w :: st) h1 Q) : gG (d + 1) mc ms M pc ls stk h Q :=
  r_callI (mc1 := 0) (ms1 := 0) dc hv hC h21 hn hst hcat (fun v h' e => by obtain ⟨e1, e2⟩ := e; cases e1; subst e2; exact kk) (fun a h' e => by cases e.1)
theorem r_callI_0 {d mc ms : Nat} {M M1 : gM} {pc : Nat} {ls : gLs} {st stk : List Value} {h h1 : Hp} {Q : gQ} {b : Nat} {As : List Value} {n index : Nat} (dc : decode (mC M) pc = .ok (.invokespecial index, 3)) (hv : gIn (mOwn M) index M1 n) (hC : gC d 0 0 M1 (.ref b :: As) h (Ret none h1)) (h21 : 21 ≤ b) (hn : As.length = n) (hst : stk = As.reverse ++ .ref b :: st) (hcat : (st.map fun v => v.category).sum ≤ 8) (kk : gG (d + 1) mc ms M (pc + 3) ls (st) h1 Q) : gG (d + 1) mc ms M pc ls stk h Q :=
  r_callI (mc1 := 0) (ms1 := 0) dc hv hC h21 hn hst hcat (fun v h' e => by obtain ⟨e1, e2⟩ := e; cases e1; subst e2; exact kk) (fun a h' e => by cases e.1)
theorem r_callI_1c {d mc ms mc1 ms1 : Nat} {M M1 : gM} {pc : Nat} {ls : gLs} {st stk : List Value} {h h1 : Hp} {Q : gQ} {w : Value} {b : Nat} {As : List Value} {n index : Nat} (dc : decode (mC M) pc = .ok (.invokespecial index, 3)) (hv : gIn (mOwn M) index M1 n) (hC : gC d mc1 ms1 M1 (.ref b :: As) h (Ret (some w) h1)) (h21 : 21 ≤ b) (hn : As.length = n) (hst : stk = As.reverse ++ .ref b :: st) (hcat : (st.map fun v => v.category).sum ≤ 8) (kk : gG (d + 1) mc ms M (pc + 3) ls (w :: st) h1 Q) : gG (d + 1) (mc + mc1) (ms + ms1) M pc ls stk h Q :=
  r_callI dc hv hC h21 hn hst hcat (fun v h' e => by obtain ⟨e1, e2⟩ := e; cases e1; subst e2; exact kk) (fun a h' e => by cases e.1)
theorem r_callI_0c {d mc ms mc1 ms1 : Nat} {M M1 : gM} {pc : Nat} {ls : gLs} {st stk : List Value} {h h1 : Hp} {Q : gQ} {b : Nat} {As : List Value} {n index : Nat} (dc : decode (mC M) pc = .ok (.invokespecial index, 3)) (hv : gIn (mOwn M) index M1 n) (hC : gC d mc1 ms1 M1 (.ref b :: As) h (Ret none h1)) (h21 : 21 ≤ b) (hn : As.length = n) (hst : stk = As.reverse ++ .ref b :: st) (hcat : (st.map fun v => v.category).sum ≤ 8) (kk : gG (d + 1) mc ms M (pc + 3) ls (st) h1 Q) : gG (d + 1) (mc + mc1) (ms + ms1) M pc ls stk h Q :=
  r_callI dc hv hC h21 hn hst hcat (fun v h' e => by obtain ⟨e1, e2⟩ := e; cases e1; subst e2; exact kk) (fun a h' e => by cases e.1)
theorem r_callIN_1 {d mc ms : Nat} {M M1 : gM} {pc : Nat} {ls : gLs} {st stk : List Value} {h h1 : Hp} {Q : gQ} {w : Value} {b : Nat} {As : List Value} {n index : Nat} (dc : decode (mC M) pc = .ok (.invokespecial index, 3)) (hv : gIN (mOwn M) index M1 n) (hC : gC d 0 0 M1 (.ref b :: As) h (Ret (some w) h1)) (h21 : 21 ≤ b) (hn : As.length = n) (hst : stk = As.reverse ++ .ref b :: st) (hcat : (st.map fun v => v.category).sum ≤ 8) (kk : gG (d + 1) mc ms M (pc + 3) ls (w :: st) h1 Q) : gG (d + 1) mc ms M pc ls stk h Q :=
  r_callIN (mc1 := 0) (ms1 := 0) dc hv hC h21 hn hst hcat (fun v h' e => by obtain ⟨e1, e2⟩ := e; cases e1; subst e2; exact kk) (fun a h' e => by cases e.1)
theorem r_callIN_0 {d mc ms : Nat} {M M1 : gM} {pc : Nat} {ls : gLs} {st stk : List Value} {h h1 : Hp} {Q : gQ} {b : Nat} {As : List Value} {n index : Nat} (dc : decode (mC M) pc = .ok (.invokespecial index, 3)) (hv : gIN (mOwn M) index M1 n) (hC : gC d 0 0 M1 (.ref b :: As) h (Ret none h1)) (h21 : 21 ≤ b) (hn : As.length = n) (hst : stk = As.reverse ++ .ref b :: st) (hcat : (st.map fun v => v.category).sum ≤ 8) (kk : gG (d + 1) mc ms M (pc + 3) ls (st) h1 Q) : gG (d + 1) mc ms M pc ls stk h Q :=
  r_callIN (mc1 := 0) (ms1 := 0) dc hv hC h21 hn hst hcat (fun v h' e => by obtain ⟨e1, e2⟩ := e; cases e1; subst e2; exact kk) (fun a h' e => by cases e.1)
theorem r_callIN_1c {d mc ms mc1 ms1 : Nat} {M M1 : gM} {pc : Nat} {ls : gLs} {st stk : List Value} {h h1 : Hp} {Q : gQ} {w : Value} {b : Nat} {As : List Value} {n index : Nat} (dc : decode (mC M) pc = .ok (.invokespecial index, 3)) (hv : gIN (mOwn M) index M1 n) (hC : gC d mc1 ms1 M1 (.ref b :: As) h (Ret (some w) h1)) (h21 : 21 ≤ b) (hn : As.length = n) (hst : stk = As.reverse ++ .ref b :: st) (hcat : (st.map fun v => v.category).sum ≤ 8) (kk : gG (d + 1) mc ms M (pc + 3) ls (w :: st) h1 Q) : gG (d + 1) (mc + mc1) (ms + ms1) M pc ls stk h Q :=
  r_callIN dc hv hC h21 hn hst hcat (fun v h' e => by obtain ⟨e1, e2⟩ := e; cases e1; subst e2; exact kk) (fun a h' e => by cases e.1)
theorem r_callIN_0c {d mc ms mc1 ms1 : Nat} {M M1 : gM} {pc : Nat} {ls : gLs} {st stk : List Value} {h h1 : Hp} {Q : gQ} {b : Nat} {As : List Value} {n index : Nat} (dc : decode (mC M) pc = .ok (.invokespecial index, 3)) (hv : gIN (mOwn M) index M1 n) (hC : gC d mc1 ms1 M1 (.ref b :: As) h (Ret none h1)) (h21 : 21 ≤ b) (hn : As.length = n) (hst : stk = As.reverse ++ .ref b :: st) (hcat : (st.map fun v => v.category).sum ≤ 8) (kk : gG (d + 1) mc ms M (pc + 3) ls (st) h1 Q) : gG (d + 1) (mc + mc1) (ms + ms1) M pc ls stk h Q :=
  r_callIN dc hv hC h21 hn hst hcat (fun v h' e => by obtain ⟨e1, e2⟩ := e; cases e1; subst e2; exact kk) (fun a h' e => by cases e.1)
/-! where the law's things lie: the reference at 66, the component at 21, its lands at 23, 34, 45 -/
set_option maxRecDepth 100000
abbrev gSh : Type := Nat → Nat ⊕ (Nat × Nat)
abbrev gRf : Type := Nat → Nat → Option Nat
def LayM (S : gSh) (R : gRf) : Prop := S 66 = .inl 6 ∧ S 67 = .inr (0, 281) ∧ S 68 = .inr (0, 281) ∧ S 69 = .inr (0, 281) ∧ S 70 = .inr (0, 281) ∧ S 71 = .inr (0, 6) ∧ S 72 = .inr (0, 4) ∧ S 73 = .inr (0, 4) ∧ S 74 = .inr (0, 160) ∧ S 75 = .inr (0, 40) ∧ S 76 = .inr (0, 8) ∧ S 77 = .inr (0, 40) ∧ R 66 0 = some 67 ∧ R 66 1 = some 68 ∧ R 66 2 = some 69 ∧ R 66 3 = some 70 ∧ R 66 6 = some 71 ∧ R 66 19 = some 72 ∧ R 66 20 = some 73 ∧ R 66 21 = some 74 ∧ R 66 22 = some 75 ∧ R 66 23 = some 76 ∧ R 66 24 = some 77
theorem LayM.s66 {S : gSh} {R : gRf} (h : LayM S R) : S 66 = .inl 6 := h.1
theorem LayM.s67 {S : gSh} {R : gRf} (h : LayM S R) : S 67 = .inr (0, 281) := h.2.1
theorem LayM.s68 {S : gSh} {R : gRf} (h : LayM S R) : S 68 = .inr (0, 281) := h.2.2.1
theorem LayM.s69 {S : gSh} {R : gRf} (h : LayM S R) : S 69 = .inr (0, 281) := h.2.2.2.1
theorem LayM.s70 {S : gSh} {R : gRf} (h : LayM S R) : S 70 = .inr (0, 281) := h.2.2.2.2.1
theorem LayM.s71 {S : gSh} {R : gRf} (h : LayM S R) : S 71 = .inr (0, 6) := h.2.2.2.2.2.1
theorem LayM.s72 {S : gSh} {R : gRf} (h : LayM S R) : S 72 = .inr (0, 4) := h.2.2.2.2.2.2.1
theorem LayM.s73 {S : gSh} {R : gRf} (h : LayM S R) : S 73 = .inr (0, 4) := h.2.2.2.2.2.2.2.1
theorem LayM.s74 {S : gSh} {R : gRf} (h : LayM S R) : S 74 = .inr (0, 160) := h.2.2.2.2.2.2.2.2.1
theorem LayM.s75 {S : gSh} {R : gRf} (h : LayM S R) : S 75 = .inr (0, 40) := h.2.2.2.2.2.2.2.2.2.1
theorem LayM.s76 {S : gSh} {R : gRf} (h : LayM S R) : S 76 = .inr (0, 8) := h.2.2.2.2.2.2.2.2.2.2.1
theorem LayM.s77 {S : gSh} {R : gRf} (h : LayM S R) : S 77 = .inr (0, 40) := h.2.2.2.2.2.2.2.2.2.2.2.1
theorem LayM.r_row {S : gSh} {R : gRf} (h : LayM S R) : R 66 0 = some 67 := h.2.2.2.2.2.2.2.2.2.2.2.2.1
theorem LayM.r_kept {S : gSh} {R : gRf} (h : LayM S R) : R 66 1 = some 68 := h.2.2.2.2.2.2.2.2.2.2.2.2.2.1
theorem LayM.r_tried {S : gSh} {R : gRf} (h : LayM S R) : R 66 2 = some 69 := h.2.2.2.2.2.2.2.2.2.2.2.2.2.2.1
theorem LayM.r_before {S : gSh} {R : gRf} (h : LayM S R) : R 66 3 = some 70 := h.2.2.2.2.2.2.2.2.2.2.2.2.2.2.2.1
theorem LayM.r_found {S : gSh} {R : gRf} (h : LayM S R) : R 66 6 = some 71 := h.2.2.2.2.2.2.2.2.2.2.2.2.2.2.2.2.1
theorem LayM.r_bitsOf {S : gSh} {R : gRf} (h : LayM S R) : R 66 19 = some 72 := h.2.2.2.2.2.2.2.2.2.2.2.2.2.2.2.2.2.1
theorem LayM.r_sizeOf {S : gSh} {R : gRf} (h : LayM S R) : R 66 20 = some 73 := h.2.2.2.2.2.2.2.2.2.2.2.2.2.2.2.2.2.2.1
theorem LayM.r_sheets {S : gSh} {R : gRf} (h : LayM S R) : R 66 21 = some 74 := h.2.2.2.2.2.2.2.2.2.2.2.2.2.2.2.2.2.2.2.1
theorem LayM.r_moved {S : gSh} {R : gRf} (h : LayM S R) : R 66 22 = some 75 := h.2.2.2.2.2.2.2.2.2.2.2.2.2.2.2.2.2.2.2.2.1
theorem LayM.r_thirsts {S : gSh} {R : gRf} (h : LayM S R) : R 66 23 = some 76 := h.2.2.2.2.2.2.2.2.2.2.2.2.2.2.2.2.2.2.2.2.2.1
theorem LayM.r_traced {S : gSh} {R : gRf} (h : LayM S R) : R 66 24 = some 77 := h.2.2.2.2.2.2.2.2.2.2.2.2.2.2.2.2.2.2.2.2.2.2
def LayL (S : gSh) (R : gRf) (b : Nat) : Prop := S b = .inl 2 ∧ S (b + 1) = .inr (4, 8) ∧ S (b + 2) = .inr (0, 8) ∧ S (b + 3) = .inr (0, 8) ∧ S (b + 4) = .inr (0, 8) ∧ S (b + 5) = .inr (0, 64) ∧ S (b + 6) = .inr (5, 2) ∧ S (b + 7) = .inr (1, 50) ∧ S (b + 8) = .inr (0, 20) ∧ S (b + 9) = .inl 3 ∧ S (b + 10) = .inr (0, 128) ∧ R b 1 = some (b + 1) ∧ R b 2 = some (b + 2) ∧ R b 3 = some (b + 3) ∧ R b 4 = some (b + 4) ∧ R b 5 = some (b + 5) ∧ R b 8 = some (b + 6) ∧ R b 10 = some (b + 7) ∧ R b 12 = some (b + 8) ∧ R b 14 = some (b + 9) ∧ R (b + 9) 0 = some (b + 10)
theorem LayL.s0 {S : gSh} {R : gRf} {b : Nat} (h : LayL S R b) : S b = .inl 2 := h.1
theorem LayL.s1 {S : gSh} {R : gRf} {b : Nat} (h : LayL S R b) : S (b + 1) = .inr (4, 8) := h.2.1
theorem LayL.s2 {S : gSh} {R : gRf} {b : Nat} (h : LayL S R b) : S (b + 2) = .inr (0, 8) := h.2.2.1
theorem LayL.s3 {S : gSh} {R : gRf} {b : Nat} (h : LayL S R b) : S (b + 3) = .inr (0, 8) := h.2.2.2.1
theorem LayL.s4 {S : gSh} {R : gRf} {b : Nat} (h : LayL S R b) : S (b + 4) = .inr (0, 8) := h.2.2.2.2.1
theorem LayL.s5 {S : gSh} {R : gRf} {b : Nat} (h : LayL S R b) : S (b + 5) = .inr (0, 64) := h.2.2.2.2.2.1
theorem LayL.s6 {S : gSh} {R : gRf} {b : Nat} (h : LayL S R b) : S (b + 6) = .inr (5, 2) := h.2.2.2.2.2.2.1
theorem LayL.s7 {S : gSh} {R : gRf} {b : Nat} (h : LayL S R b) : S (b + 7) = .inr (1, 50) := h.2.2.2.2.2.2.2.1
theorem LayL.s8 {S : gSh} {R : gRf} {b : Nat} (h : LayL S R b) : S (b + 8) = .inr (0, 20) := h.2.2.2.2.2.2.2.2.1
theorem LayL.s9 {S : gSh} {R : gRf} {b : Nat} (h : LayL S R b) : S (b + 9) = .inl 3 := h.2.2.2.2.2.2.2.2.2.1
theorem LayL.s10 {S : gSh} {R : gRf} {b : Nat} (h : LayL S R b) : S (b + 10) = .inr (0, 128) := h.2.2.2.2.2.2.2.2.2.2.1
theorem LayL.r_person {S : gSh} {R : gRf} {b : Nat} (h : LayL S R b) : R b 1 = some (b + 1) := h.2.2.2.2.2.2.2.2.2.2.2.1
theorem LayL.r_traits {S : gSh} {R : gRf} {b : Nat} (h : LayL S R b) : R b 2 = some (b + 2) := h.2.2.2.2.2.2.2.2.2.2.2.2.1
theorem LayL.r_water {S : gSh} {R : gRf} {b : Nat} (h : LayL S R b) : R b 3 = some (b + 3) := h.2.2.2.2.2.2.2.2.2.2.2.2.2.1
theorem LayL.r_thirst {S : gSh} {R : gRf} {b : Nat} (h : LayL S R b) : R b 4 = some (b + 4) := h.2.2.2.2.2.2.2.2.2.2.2.2.2.2.1
theorem LayL.r_owed {S : gSh} {R : gRf} {b : Nat} (h : LayL S R b) : R b 5 = some (b + 5) := h.2.2.2.2.2.2.2.2.2.2.2.2.2.2.2.1
theorem LayL.r_text {S : gSh} {R : gRf} {b : Nat} (h : LayL S R b) : R b 8 = some (b + 6) := h.2.2.2.2.2.2.2.2.2.2.2.2.2.2.2.2.1
theorem LayL.r_tape {S : gSh} {R : gRf} {b : Nat} (h : LayL S R b) : R b 10 = some (b + 7) := h.2.2.2.2.2.2.2.2.2.2.2.2.2.2.2.2.2.1
theorem LayL.r_waiting {S : gSh} {R : gRf} {b : Nat} (h : LayL S R b) : R b 12 = some (b + 8) := h.2.2.2.2.2.2.2.2.2.2.2.2.2.2.2.2.2.2.1
theorem LayL.r_facts {S : gSh} {R : gRf} {b : Nat} (h : LayL S R b) : R b 14 = some (b + 9) := h.2.2.2.2.2.2.2.2.2.2.2.2.2.2.2.2.2.2.2.1
theorem LayL.r_named {S : gSh} {R : gRf} {b : Nat} (h : LayL S R b) : R (b + 9) 0 = some (b + 10) := h.2.2.2.2.2.2.2.2.2.2.2.2.2.2.2.2.2.2.2.2
def LayX (S : gSh) (R : gRf) : Prop := S 21 = .inl 0 ∧ S 22 = .inl 1 ∧ S 56 = .inl 4 ∧ S 57 = .inr (0, 40) ∧ S 58 = .inr (0, 6) ∧ S 59 = .inr (6, 4) ∧ S 60 = .inr (3, 256) ∧ S 61 = .inr (0, 8) ∧ S 62 = .inl 5 ∧ S 63 = .inl 5 ∧ S 64 = .inl 5 ∧ S 65 = .inl 5 ∧ R 21 0 = some 22 ∧ R 21 1 = some 23 ∧ R 21 2 = some 34 ∧ R 21 3 = some 45 ∧ R 21 5 = some 56 ∧ R 21 6 = some 58 ∧ R 21 7 = some 59 ∧ R 21 8 = some 60 ∧ R 21 9 = some 61 ∧ R 56 0 = some 57 ∧ R 59 0 = some 62 ∧ R 59 1 = some 63 ∧ R 59 2 = some 64 ∧ R 59 3 = some 65
theorem LayX.s21 {S : gSh} {R : gRf} (h : LayX S R) : S 21 = .inl 0 := h.1
theorem LayX.s22 {S : gSh} {R : gRf} (h : LayX S R) : S 22 = .inl 1 := h.2.1
theorem LayX.s56 {S : gSh} {R : gRf} (h : LayX S R) : S 56 = .inl 4 := h.2.2.1
theorem LayX.s57 {S : gSh} {R : gRf} (h : LayX S R) : S 57 = .inr (0, 40) := h.2.2.2.1
theorem LayX.s58 {S : gSh} {R : gRf} (h : LayX S R) : S 58 = .inr (0, 6) := h.2.2.2.2.1
theorem LayX.s59 {S : gSh} {R : gRf} (h : LayX S R) : S 59 = .inr (6, 4) := h.2.2.2.2.2.1
theorem LayX.s60 {S : gSh} {R : gRf} (h : LayX S R) : S 60 = .inr (3, 256) := h.2.2.2.2.2.2.1
theorem LayX.s61 {S : gSh} {R : gRf} (h : LayX S R) : S 61 = .inr (0, 8) := h.2.2.2.2.2.2.2.1
theorem LayX.s62 {S : gSh} {R : gRf} (h : LayX S R) : S 62 = .inl 5 := h.2.2.2.2.2.2.2.2.1
theorem LayX.s63 {S : gSh} {R : gRf} (h : LayX S R) : S 63 = .inl 5 := h.2.2.2.2.2.2.2.2.2.1
theorem LayX.s64 {S : gSh} {R : gRf} (h : LayX S R) : S 64 = .inl 5 := h.2.2.2.2.2.2.2.2.2.2.1
theorem LayX.s65 {S : gSh} {R : gRf} (h : LayX S R) : S 65 = .inl 5 := h.2.2.2.2.2.2.2.2.2.2.2.1
theorem LayX.r_finding {S : gSh} {R : gRf} (h : LayX S R) : R 21 0 = some 22 := h.2.2.2.2.2.2.2.2.2.2.2.2.1
theorem LayX.r_land {S : gSh} {R : gRf} (h : LayX S R) : R 21 1 = some 23 := h.2.2.2.2.2.2.2.2.2.2.2.2.2.1
theorem LayX.r_image {S : gSh} {R : gRf} (h : LayX S R) : R 21 2 = some 34 := h.2.2.2.2.2.2.2.2.2.2.2.2.2.2.1
theorem LayX.r_tried {S : gSh} {R : gRf} (h : LayX S R) : R 21 3 = some 45 := h.2.2.2.2.2.2.2.2.2.2.2.2.2.2.2.1
theorem LayX.r_trace {S : gSh} {R : gRf} (h : LayX S R) : R 21 5 = some 56 := h.2.2.2.2.2.2.2.2.2.2.2.2.2.2.2.2.1
theorem LayX.r_errors {S : gSh} {R : gRf} (h : LayX S R) : R 21 6 = some 58 := h.2.2.2.2.2.2.2.2.2.2.2.2.2.2.2.2.2.1
theorem LayX.r_sheets {S : gSh} {R : gRf} (h : LayX S R) : R 21 7 = some 59 := h.2.2.2.2.2.2.2.2.2.2.2.2.2.2.2.2.2.2.1
theorem LayX.r_fits {S : gSh} {R : gRf} (h : LayX S R) : R 21 8 = some 60 := h.2.2.2.2.2.2.2.2.2.2.2.2.2.2.2.2.2.2.2.1
theorem LayX.r_thirstThen {S : gSh} {R : gRf} (h : LayX S R) : R 21 9 = some 61 := h.2.2.2.2.2.2.2.2.2.2.2.2.2.2.2.2.2.2.2.2.1
theorem LayX.r_ran {S : gSh} {R : gRf} (h : LayX S R) : R 56 0 = some 57 := h.2.2.2.2.2.2.2.2.2.2.2.2.2.2.2.2.2.2.2.2.2.1
theorem LayX.r_sh0 {S : gSh} {R : gRf} (h : LayX S R) : R 59 0 = some 62 := h.2.2.2.2.2.2.2.2.2.2.2.2.2.2.2.2.2.2.2.2.2.2.1
theorem LayX.r_sh1 {S : gSh} {R : gRf} (h : LayX S R) : R 59 1 = some 63 := h.2.2.2.2.2.2.2.2.2.2.2.2.2.2.2.2.2.2.2.2.2.2.2.1
theorem LayX.r_sh2 {S : gSh} {R : gRf} (h : LayX S R) : R 59 2 = some 64 := h.2.2.2.2.2.2.2.2.2.2.2.2.2.2.2.2.2.2.2.2.2.2.2.2.1
theorem LayX.r_sh3 {S : gSh} {R : gRf} (h : LayX S R) : R 59 3 = some 65 := h.2.2.2.2.2.2.2.2.2.2.2.2.2.2.2.2.2.2.2.2.2.2.2.2.2
/-- the heap with other ints -/
def sI (h : Hp) (f : Nat → Nat → Int32) : Hp := (hN h, hS h, f, hR h, hX h)
theorem sI_self (h : Hp) : sI h (hI h) = h := rfl
theorem wI_sI (h : Hp) (a k : Nat) (v : Int32) : wI h a k v = sI h (u2 (hI h) a k v) := rfl
/-- one row of the ints replaced -/
def uf {α : Type} (f : Nat → α) (a : Nat) (g : α) : Nat → α := fun b => if b = a then g else f b
theorem uf_s {α : Type} (f : Nat → α) (a : Nat) (g : α) : uf f a g a = g := if_pos rfl
theorem uf_n {α : Type} (f : Nat → α) (a b : Nat) (g : α) (h : b ≠ a) : uf f a g b = f b := if_neg h
theorem u2_uf {α : Type} (f : Nat → Nat → α) (a k : Nat) (v : α) : u2 f a k v = uf f a (fun j => if j = k then v else f a j) := by
  funext b j
  unfold u2 uf
  by_cases hb : b = a
  · subst hb
    by_cases hj : j = k <;> simp [hj]
  · simp [hb]
theorem u2_s {α : Type} (f : Nat → Nat → α) (a k : Nat) (v : α) : u2 f a k v a k = v := if_pos ⟨rfl, rfl⟩
theorem u2_n {α : Type} (f : Nat → Nat → α) (a k b j : Nat) (v : α) (h : b ≠ a ∨ j ≠ k) : u2 f a k v b j = f b j := if_neg fun q => h.elim (fun z => z q.1) (fun z => z q.2)
/-! the one mathematical state: a row of 281 ints, as the reference has it; what the acts make of it -/
abbrev Row : Type := Nat → Int32
def ru (r : Row) (k : Nat) (v : Int32) : Row := fun j => if j = k then v else r j
theorem ru_s (r : Row) (k : Nat) (v : Int32) : ru r k v k = v := if_pos rfl
theorem ru_n {r : Row} {k j : Nat} {v : Int32} (h : j ≠ k) : ru r k v j = r j := if_neg h
def inB (v a b : Int32) : Bool := decide (a ≤ v) && decide (v ≤ b)
theorem i_nlt {a b : Int32} (h : ¬ a < b) : b ≤ a := Int32.not_lt.mp h
theorem i_nle {a b : Int32} (h : ¬ a ≤ b) : b < a := Int32.not_le.mp h
theorem i_lt_nle {a b : Int32} (h : a < b) : ¬ b ≤ a := fun q => Int32.not_lt.mpr q h
theorem inB_t {v a b : Int32} (h1 : a ≤ v) (h2 : v ≤ b) : inB v a b = true := by simp [inB, h1, h2]
theorem inB_f1 {v a b : Int32} (h1 : v < a) : inB v a b = false := by simp [inB, i_lt_nle h1]
theorem inB_f2 {v a b : Int32} (h1 : b < v) : inB v a b = false := by simp [inB, i_lt_nle h1]
/-- in 0 .. n: a number -/
theorem inB_n {v : Int32} {n : Nat} (hn : n < 2147483648) (h : inB v 0 (nI n) = true) : ∃ k, k ≤ n ∧ v = nI k := by
  simp only [inB, Bool.and_eq_true, decide_eq_true_eq] at h
  obtain ⟨j, hj, rfl⟩ := nI_of (x := v) (fun q => i_lt_nle q h.1)
  exact ⟨j, (nI_leI hj hn).mp h.2, rfl⟩
theorem inB_n1 {v : Int32} {n : Nat} (hn : n < 2147483648) (h : inB v 0 (nI n - 1) = true) : ∃ k, k < n ∧ v = nI k := by
  match n, hn, h with
  | 0, hn, h =>
    simp only [inB, Bool.and_eq_true, decide_eq_true_eq] at h
    have h3 := Int32.le_trans h.1 h.2
    exact absurd h3 (by decide)
  | n + 1, hn, h =>
    rw [nI_pred] at h
    obtain ⟨k, hk, e⟩ := inB_n (by omega) h
    exact ⟨k, by omega, e⟩
theorem inB_of {k n : Nat} (h : k ≤ n) (hn : n < 2147483648) : inB (nI k) 0 (nI n) = true := inB_t (nI_pos' (by omega)) (nI_le h hn)
theorem inB_of1 {k n : Nat} (h : k < n) (hn : n < 2147483648) : inB (nI k) 0 (nI n - 1) = true := by
  match n, h, hn with
  | n + 1, h, hn =>
    rw [nI_pred]
    exact inB_of (by omega) (by omega)
def irem (x y : Int32) : Int32 := x - x / y * y
def heldV (v a b : Int32) : Int32 := if v < a then a else if b < v then b else v
theorem heldV_1 {v a b : Int32} (h : v < a) : heldV v a b = a := if_pos h
theorem heldV_2 {v a b : Int32} (h : ¬ v < a) (h2 : b < v) : heldV v a b = b := by rw [heldV, if_neg h, if_pos h2]
theorem heldV_3 {v a b : Int32} (h : ¬ v < a) (h2 : ¬ b < v) : heldV v a b = v := by rw [heldV, if_neg h, if_neg h2]
/-- of a person: 0 kind, 1 m, 2 traits, 3 water, 4 thirst -/
def pv (r : Row) (p w : Nat) : Int32 := r (7 + 5 * p + w)
def dv (r : Row) (a b : Nat) : Int32 := r (47 + 8 * a + b)
def spv (r : Row) (p w : Nat) (v : Int32) : Row := ru r (7 + 5 * p + w) v
def sdv (r : Row) (a b : Nat) (v : Int32) : Row := ru r (47 + 8 * a + b) v
/-- how many people -/
def np (r : Row) : Nat := (r 2).toNatClampNeg
def fillV (k : Nat) (m : Int32) : Int32 := if k = 1 then 3 + irem m 3 else if k = 4 then 8 + irem m 3 else if k = 2 then 6 else if k = 3 then 9 else if k = 6 then 9 - m else 3
def drinkV (k : Nat) : Int32 := if k = 1 ∨ k = 4 then 1 else if k = 2 then 3 else 2
def kindN (r : Row) (p : Nat) : Nat := (pv r p 0).toNatClampNeg
/-! texts: gone through by the reference -/
abbrev PS : Type := Nat × Nat × Bool
def isDg (c : Int32) : Bool := inB c 48 57
def numV (by_ : Nat → Int32) : Nat → Nat → Int32 → Int32 × Nat
  | 0, a, v => (v, a)
  | k + 1, a, v => if isDg (by_ a) = true then numV by_ k (a + 1) (10 * v + by_ a - 48) else (v, a)
/-- level 0 factor, 1 product, 2 sum, 3 compared, 4 both, 5 whole; 11, 12, 14, 15 their loops -/
def P (by_ : Nat → Int32) (nam : Int32 → Option Int32) : Nat → Nat → Int32 → PS → Int32 × PS
  | 0, _, _, s => (0, s)
  | n + 1, 0, _, s =>
    if isDg (by_ s.1) = true then ((numV by_ 4 s.1 0).1, (numV by_ 4 s.1 0).2, s.2.1, s.2.2)
    else if ¬ by_ s.1 = 33 ∧ ¬ by_ s.1 = 40 then
      (match nam (by_ s.1) with
      | none => (0, s.1, s.2.1, false)
      | some w => (w, s.1 + 1, s.2.1, s.2.2))
    else if s.2.1 = 5 then (0, s.1, s.2.1, false)
    else if by_ s.1 = 33 then
      let q := P by_ nam n 0 0 (s.1 + 1, s.2.1 + 1, s.2.2)
      (if q.1 = 0 then 1 else 0, q.2.1, q.2.2.1 - 1, q.2.2.2)
    else
      let q := P by_ nam n 5 0 (s.1 + 1, s.2.1 + 1, s.2.2)
      if q.2.2.2 = true ∧ by_ q.2.1 = 41 then (q.1, q.2.1 + 1, q.2.2.1 - 1, q.2.2.2) else (0, q.2.1, q.2.2.1 - 1, false)
  | n + 1, 1, _, s => let q := P by_ nam n 0 0 s; P by_ nam n 11 q.1 q.2
  | n + 1, 11, v, s =>
    if s.2.2 = true ∧ (by_ s.1 = 42 ∨ by_ s.1 = 47 ∨ by_ s.1 = 37) then
      let q := P by_ nam n 0 0 (s.1 + 1, s.2)
      P by_ nam n 11 (if by_ s.1 = 42 then v * q.1 else if q.1 = 0 then 0 else if by_ s.1 = 47 then v / q.1 else irem v q.1) q.2
    else (v, s)
  | n + 1, 2, _, s => let q := P by_ nam n 1 0 s; P by_ nam n 12 q.1 q.2
  | n + 1, 12, v, s =>
    if s.2.2 = true ∧ (by_ s.1 = 43 ∨ by_ s.1 = 45) then
      let q := P by_ nam n 1 0 (s.1 + 1, s.2)
      P by_ nam n 12 (if by_ s.1 = 43 then v + q.1 else v - q.1) q.2
    else (v, s)
  | n + 1, 3, _, s =>
    let q := P by_ nam n 2 0 s
    if q.2.2.2 = true ∧ (by_ q.2.1 = 60 ∨ by_ q.2.1 = 61 ∨ by_ q.2.1 = 62) then
      let w := P by_ nam n 2 0 (q.2.1 + 1, q.2.2)
      (b2 (if by_ q.2.1 = 60 then decide (q.1 < w.1) else if by_ q.2.1 = 61 then decide (q.1 = w.1) else decide (w.1 < q.1)), w.2)
    else q
  | n + 1, 4, _, s => let q := P by_ nam n 3 0 s; P by_ nam n 14 q.1 q.2
  | n + 1, 14, v, s =>
    if s.2.2 = true ∧ by_ s.1 = 38 then
      let q := P by_ nam n 3 0 (s.1 + 1, s.2)
      P by_ nam n 14 (b2 (decide (¬ v = 0) && decide (¬ q.1 = 0))) q.2
    else (v, s)
  | n + 1, 5, _, s => let q := P by_ nam n 4 0 s; P by_ nam n 15 q.1 q.2
  | n + 1, 15, v, s =>
    if s.2.2 = true ∧ by_ s.1 = 124 then
      let q := P by_ nam n 4 0 (s.1 + 1, s.2)
      P by_ nam n 15 (b2 (decide (¬ v = 0) || decide (¬ q.1 = 0))) q.2
    else (v, s)
  | _ + 1, _, v, s => (v, s)
/-- the names of text u, by the values a, b, c -/
def namV (u : Nat) (a b c : Int32) (x : Int32) : Option Int32 :=
  if x = (if u = 0 then 116 else 119) then some a else if x = (if u = 0 then 100 else 111) then some b else if x = (if u = 0 then 119 else 109) then some c else none
/-- the bytes of text u, of e bytes, in the row -/
def byV (r : Row) (u e : Nat) (k : Nat) : Int32 := if k < e then r (181 + 50 * u + k) else -1
def FUEL : Nat := 400
def walkP (r : Row) (u e : Nat) (a b c : Int32) : Int32 × PS := P (byV r u e) (namV u a b c) FUEL 5 0 (0, 0, true)
/-- lawOf: what text u says, or what goes without one -/
def lawV (r : Row) (u : Nat) (a b c : Int32) : Int32 :=
  if 0 ≤ r (5 + u) then heldV (walkP r u (r (5 + u)).toNatClampNeg a b c).1 0 1
  else if u = 0 then heldV (irem a 2) 0 1 else if 3 < a then 1 else 0
def givenOnB (r : Row) (p : Nat) (t day : Int32) : Bool := !decide (lawV r 0 t (irem day 7) (pv r p 3) = 0)
def givenB (r : Row) (p : Nat) : Bool := givenOnB r p (pv r p 2) (r 0)
def lendsB (r : Row) (mean : Int32) (p to : Nat) : Bool := !decide (p = to) && !decide (nI p = mean) && decide (0 < pv r p 3) && !decide (lawV r 1 (pv r p 3) (dv r to p) (pv r p 1) = 0)
def bgo (r : Row) (mean : Int32) (p : Nat) : Nat → Option Nat
  | 0 => none
  | o + 1 => if (lendsB r mean o p && (match bgo r mean p o with
      | none => true
      | some w => decide (pv r w 3 < pv r o 3))) = true then some o else bgo r mean p o
def begR (r : Row) (mean : Int32) (p : Nat) : Row := match bgo r mean p (np r) with
  | none => r
  | some w =>
    let r1 := spv r w 3 (pv r w 3 - 1)
    let r2 := spv r1 p 3 (heldV (pv r1 p 3 + 1) 0 999)
    sdv r2 p w (heldV (dv r2 p w + 1) 0 99)
def goR (r : Row) (mean : Int32) (p : Nat) : Row := if givenB r p = true then spv r p 3 (heldV (pv r p 3 + fillV (kindN r p) (pv r p 1)) 0 999) else begR r mean p
def goAll (r : Row) (mean : Int32) : Nat → Row
  | 0 => r
  | k + 1 => goR (goAll r mean k) mean k
def drR (r : Row) (p : Nat) : Row :=
  let l := pv r p 3 - drinkV (kindN r p)
  let r1 := spv r p 3 (if l < 0 then 0 else l)
  spv r1 p 4 (if l < 0 then heldV (pv r1 p 4 - l) 0 99 else 0)
def drAll (r : Row) : Nat → Row
  | 0 => r
  | k + 1 => drR (drAll r k) k
def dayR (r : Row) (mean : Int32) : Row :=
  let r1 := goAll r mean (np r)
  let r2 := drAll r1 (np r)
  ru r2 0 (r2 0 + 1)
def passR (r : Row) (mean : Int32) : Nat → Row
  | 0 => r
  | k + 1 => dayR (passR r mean k) mean
def sumW (r : Row) (w : Nat) : Nat → Int32
  | 0 => 0
  | k + 1 => sumW r w k + pv r k w
def sumD (r : Row) : Nat → Int32
  | 0 => 0
  | k + 1 => sumD r k + r (47 + k)
def givenSet (r : Row) : Nat → Int32
  | 0 => 0
  | k + 1 => givenSet r k ||| (if givenB r k = true then 1 <<< (nI k &&& 31) else 0)
/-! the reference's heap: base h, its row r, its own ints o -/
def MH (h : Hp) (r o : Row) : Hp := sI h (uf (uf (hI h) 67 r) 66 o)
theorem MH_self (h : Hp) : MH h (hI h 67) (hI h 66) = h := by
  have e : uf (uf (hI h) 67 (hI h 67)) 66 (hI h 66) = hI h := by
    funext b
    unfold uf
    by_cases h1 : b = 66
    · rw [if_pos h1, h1]
    · rw [if_neg h1]
      by_cases h2 : b = 67
      · rw [if_pos h2, h2]
      · rw [if_neg h2]
  unfold MH
  rw [e]
  rfl
theorem MH_67 (h : Hp) (r o : Row) (k : Nat) (v : Int32) : wI (MH h r o) 67 k v = MH h (ru r k v) o := by
  have e : u2 (uf (uf (hI h) 67 r) 66 o) 67 k v = uf (uf (hI h) 67 (ru r k v)) 66 o := by
    funext b j
    unfold u2 uf ru
    by_cases h1 : b = 66
    · subst h1; simp
    · by_cases h2 : b = 67
      · subst h2; simp
      · simp [h1, h2]
  show sI h (u2 (uf (uf (hI h) 67 r) 66 o) 67 k v) = _
  rw [e]
  rfl
theorem MH_66 (h : Hp) (r o : Row) (k : Nat) (v : Int32) : wI (MH h r o) 66 k v = MH h r (ru o k v) := by
  have e : u2 (uf (uf (hI h) 67 r) 66 o) 66 k v = uf (uf (hI h) 67 r) 66 (ru o k v) := by
    funext b j
    unfold u2 uf ru
    by_cases h1 : b = 66
    · subst h1; simp
    · simp [h1]
  show sI h (u2 (uf (uf (hI h) 67 r) 66 o) 66 k v) = _
  rw [e]
  rfl
theorem MH_b (h : Hp) (r o : Row) (a k : Nat) (v : Int32) (h1 : a ≠ 66) (h2 : a ≠ 67) : wI (MH h r o) a k v = MH (wI h a k v) r o := by
  have e : u2 (uf (uf (hI h) 67 r) 66 o) a k v = uf (uf (u2 (hI h) a k v) 67 r) 66 o := by
    funext b j
    unfold u2 uf
    by_cases h3 : b = 66
    · subst h3; simp [Ne.symm h1]
    · by_cases h4 : b = 67
      · subst h4; simp [Ne.symm h2]
      · simp [h3, h4]
  show sI h (u2 (uf (uf (hI h) 67 r) 66 o) a k v) = _
  rw [e]
  rfl
/-- the reference's own ints that count: 4 kept, 5 images, 15 mean, 25 how many traced -/
def Jo (o o' : Row) : Prop := o' 4 = o 4 ∧ o' 5 = o 5 ∧ o' 15 = o 15 ∧ o' 25 = o 25
theorem Jo.r {o : Row} : Jo o o := ⟨rfl, rfl, rfl, rfl⟩
theorem Jo.t {a b c : Row} (h1 : Jo a b) (h2 : Jo b c) : Jo a c := ⟨h2.1.trans h1.1, h2.2.1.trans h1.2.1, h2.2.2.1.trans h1.2.2.1, h2.2.2.2.trans h1.2.2.2⟩
theorem Jo.u {o : Row} {k : Nat} {v : Int32} (h : k ≠ 4 ∧ k ≠ 5 ∧ k ≠ 15 ∧ k ≠ 25) : Jo o (ru o k v) := ⟨ru_n h.1.symm, ru_n h.2.1.symm, ru_n h.2.2.1.symm, ru_n h.2.2.2.symm⟩
def RM (v : Option Value) (h : Hp) (r o : Row) : gQ := fun out h' => out = .inl v ∧ ∃ o', Jo o o' ∧ h' = MH h r o'
theorem r_callV_1m {d mc ms : Nat} {M M1 : gM} {pc : Nat} {ls : gLs} {st stk : List Value} {h h1 : Hp} {r1 o1 : Row} {Q : gQ} {w : Value} {b : Nat} {As : List Value} {C : String} {n index : Nat} (dc : decode (mC M) pc = .ok (.invokevirtual index, 3)) (hv : gV (mOwn M) index C M1 n) (hC : gC d 0 0 M1 (.ref b :: As) h (RM (some w) h1 r1 o1)) (hb : gRecv h b C) (hn : As.length = n) (hst : stk = As.reverse ++ .ref b :: st) (hcat : (st.map fun v => v.category).sum ≤ 8) (kk : ∀ o', Jo o1 o' → gG (d + 1) mc ms M (pc + 3) ls (w :: st) (MH h1 r1 o') Q) : gG (d + 1) mc ms M pc ls stk h Q :=
  r_callV (mc1 := 0) (ms1 := 0) dc hv hC hb hn hst hcat (fun v h' e => by obtain ⟨e1, o', j, e2⟩ := e; cases e1; subst e2; exact kk o' j) (fun a h' e => by cases e.1)
theorem r_callV_0m {d mc ms : Nat} {M M1 : gM} {pc : Nat} {ls : gLs} {st stk : List Value} {h h1 : Hp} {r1 o1 : Row} {Q : gQ} {b : Nat} {As : List Value} {C : String} {n index : Nat} (dc : decode (mC M) pc = .ok (.invokevirtual index, 3)) (hv : gV (mOwn M) index C M1 n) (hC : gC d 0 0 M1 (.ref b :: As) h (RM none h1 r1 o1)) (hb : gRecv h b C) (hn : As.length = n) (hst : stk = As.reverse ++ .ref b :: st) (hcat : (st.map fun v => v.category).sum ≤ 8) (kk : ∀ o', Jo o1 o' → gG (d + 1) mc ms M (pc + 3) ls (st) (MH h1 r1 o') Q) : gG (d + 1) mc ms M pc ls stk h Q :=
  r_callV (mc1 := 0) (ms1 := 0) dc hv hC hb hn hst hcat (fun v h' e => by obtain ⟨e1, o', j, e2⟩ := e; cases e1; subst e2; exact kk o' j) (fun a h' e => by cases e.1)
