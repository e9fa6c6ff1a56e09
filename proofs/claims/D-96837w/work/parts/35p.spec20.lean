theorem r_personAt {d mc ms : Nat} {M : gM} {pc : Nat} {ls : gLs} {st : List Value} {h : Hp} {Q : gQ} {index : Nat} {r g : Row} {t p : Int32} {c : Bool} (dc : decode (mC M) pc = .ok (.invokevirtual index, 3)) (hv : gV (mOwn M) index RX0 m_X0_personAt 2) (hx : LayX (hS h) (hR h)) (hl : LayL (hS h) (hR h) 23) (lw : LW h 23 r) (w : WF r) (hcat : (st.map fun v => v.category).sum ≤ 8)
    (kt : ∀ k a q, p = nI k → k < np r → inB p 0 (r 2 - 1) = true → c = true → hR h 24 k = some a → pv r k 0 = nI q → PAt h a k q (pv r k 1) → gG (d + 5) mc ms M (pc + 3) ls (.ref a :: st) (LG h 23 r t g) Q)
    (k1 : inB p 0 (r 2 - 1) = false → gTh (d + 5) mc ms M pc ls 22 (wI (LG h 23 r t g) 22 6 (nI 1)) Q) (k2 : inB p 0 (r 2 - 1) = true → c = false → gTh (d + 5) mc ms M pc ls 22 (wI (LG h 23 r t g) 22 6 (nI 1)) Q) : gG (d + 5) mc ms M pc ls (.int (b2 c) :: .int p :: .ref 21 :: st) (LG h 23 r t g) Q :=
  r_callV (mc1 := 0) (ms1 := 0) dc hv (X_personAt hx hl lw w) (gRecv.of hx.s21 rfl) rfl rfl hcat (fun v h' e => by
    obtain ⟨k, a, q, e1, e2, e3, e4, e5, e6, e7, e8, e9⟩ | ⟨e1, -⟩ := e
    · cases e8; subst e9; exact kt k a q e1 e2 e3 e4 e5 e6 e7
    · cases e1) (fun a h' e => by
    obtain ⟨k, a, q, e1, e2, e3, e4, e5, e6, e7, e8, e9⟩ | ⟨e1, e2, e3 | ⟨e3, e4⟩⟩ := e
    · cases e8
    · cases e1; subst e2; exact k1 e3
    · cases e1; subst e2; exact k2 e3 e4)
theorem r_mustGo {d mc ms : Nat} {M : gM} {pc : Nat} {ls : gLs} {st : List Value} {h : Hp} {Q : gQ} {index : Nat} {r g : Row} {t n m : Int32} (dc : decode (mC M) pc = .ok (.invokevirtual index, 3)) (hv : gV (mOwn M) index RX0 m_X0_mustGo 2) (hx : LayX (hS h) (hR h)) (hl : LayL (hS h) (hR h) 23) (hcat : (st.map fun v => v.category).sum ≤ 8)
    (kt : inB n (nI 1) m = true → ¬ nI 9999 < r 0 + n → gG (d + 5) mc ms M (pc + 3) ls st (LG h 23 r t g) Q)
    (k1 : inB n (nI 1) m = false → gTh (d + 5) mc ms M pc ls 22 (wI (LG h 23 r t g) 22 6 (nI 1)) Q) (k2 : inB n (nI 1) m = true → nI 9999 < r 0 + n → gTh (d + 5) mc ms M pc ls 22 (wI (LG h 23 r t g) 22 6 (nI 3)) Q) : gG (d + 5) mc ms M pc ls (.int m :: .int n :: .ref 21 :: st) (LG h 23 r t g) Q :=
  r_callV (mc1 := 0) (ms1 := 0) dc hv (X_mustGo hx hl) (gRecv.of hx.s21 rfl) rfl rfl hcat (fun v h' e => by
    obtain ⟨e1, e2, e3, e4⟩ | ⟨e1, e2, e3⟩ | ⟨e1, e2, e3, e4⟩ := e
    · cases e3; subst e4; exact kt e1 e2
    · cases e2
    · cases e3) (fun a h' e => by
    obtain ⟨e1, e2, e3, e4⟩ | ⟨e1, e2, e3⟩ | ⟨e1, e2, e3, e4⟩ := e
    · cases e3
    · cases e2; subst e3; exact k1 e1
    · cases e3; subst e4; exact k2 e1 e2)
