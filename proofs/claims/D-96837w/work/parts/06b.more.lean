set_option maxRecDepth 100000
theorem r_getsC {d mc ms : Nat} {M : gM} {pc : Nat} {ls : gLs} {st : List Value} {h : Hp} {Q : gQ} {index : Nat} (dc : decode (mC M) pc = .ok (.getstatic index, 3)) (q : Cond.fieldLink (mOwn M) index "java/lang/String" "COMPACT_STRINGS" "Z" ∈ lw_all) (kk : gG d mc ms M (pc + 3) ls (.int 1 :: st) h Q) : gG d mc ms M pc ls st h Q := by
  intro E p l e R s m args below meth c H locs cells slots MC MS la X hr hl r1 r2 r3 r4 r5 r6
  exact va_gets X.1.1 X.1.2.1 hr.2.2.2.2.1 hr.2.1 X.1.2.2.2.1 (X.1.2.2.2.2 _ q) (fun _ h => h) dc (kk E p l e R s m args below meth c H locs cells slots MC MS la X hr hl r1 r2 r3 r4 r5 r6)
theorem r_getsU {d mc ms : Nat} {M : gM} {pc : Nat} {ls : gLs} {st : List Value} {h : Hp} {Q : gQ} {index : Nat} (dc : decode (mC M) pc = .ok (.getstatic index, 3)) (q : Cond.fieldLink (mOwn M) index "java/lang/Throwable" "UNASSIGNED_STACK" "[Ljava/lang/StackTraceElement;" ∈ lw_all) (kk : gG d mc ms M (pc + 3) ls (.ref 19 :: st) h Q) : gG d mc ms M pc ls st h Q := by
  intro E p l e R s m args below meth c H locs cells slots MC MS la X hr hl r1 r2 r3 r4 r5 r6
  exact va_gets X.1.1 X.1.2.1 hr.2.2.2.2.2.1 hr.2.1 X.1.2.2.2.1 (X.1.2.2.2.2 _ q) (fun _ h => h) dc (kk E p l e R s m args below meth c H locs cells slots MC MS la X hr hl r1 r2 r3 r4 r5 r6)
theorem r_getsN {d mc ms : Nat} {M : gM} {pc : Nat} {ls : gLs} {st : List Value} {h : Hp} {Q : gQ} {index : Nat} (dc : decode (mC M) pc = .ok (.getstatic index, 3)) (q : Cond.fieldLink (mOwn M) index "java/lang/Throwable" "SUPPRESSED_SENTINEL" "Ljava/util/List;" ∈ lw_all) (kk : gG d mc ms M (pc + 3) ls (.ref 20 :: st) h Q) : gG d mc ms M pc ls st h Q := by
  intro E p l e R s m args below meth c H locs cells slots MC MS la X hr hl r1 r2 r3 r4 r5 r6
  exact va_gets X.1.1 X.1.2.1 hr.2.2.2.2.2.2.1 hr.2.1 X.1.2.2.2.1 (X.1.2.2.2.2 _ q) (fun _ h => h) dc (kk E p l e R s m args below meth c H locs cells slots MC MS la X hr hl r1 r2 r3 r4 r5 r6)
theorem r_ldcs {d mc ms : Nat} {M : gM} {pc : Nat} {ls : gLs} {st : List Value} {h : Hp} {Q : gQ} {index : Nat} {tx : String} (i : Nat) (dc : decode (mC M) pc = .ok (.ldc index, 2)) (q : gstr[i]? = some (mOwn M, index, tx)) (kk : gG d mc ms M (pc + 2) ls (.ref (1 + i) :: st) h Q) : gG d mc ms M pc ls st h Q := by
  intro E p l e R s m args below meth c H locs cells slots MC MS la X hr hl r1 r2 r3 r4 r5 r6
  have k1 := kk E p l e R s m args below meth c H locs cells slots MC MS la X hr hl r1 r2 r3 r4 r5 r6
  have hi : i < 9 := by
    have h9 := (List.getElem?_eq_some_iff.mp q).1
    have e9 : gstr.length = 9 := by decide +kernel
    omega
  have hv := X.2.2.2.2.2.2.2.2.2.2.2 i _ q
  have e1 : gv E (.ref (1 + i)) = .ref (gphi E (1 + i)) := by
    show (if 1 + i = 19 then _ else if 1 + i = 20 then _ else _ : Value) = _
    rw [if_neg (by omega), if_neg (by omega)]
  rw [List.map_cons, e1] at k1
  exact va_ldcS X.1.1 X.1.2.1 X.1.2.2.2.1 hv dc k1
theorem gv_str {E : gE} {i : Nat} (hi : i < 18) : gv E (.ref (1 + i)) = .ref (gphi E (1 + i)) := by
  show (if 1 + i = 19 then _ else if 1 + i = 20 then _ else _ : Value) = _
  rw [if_neg (by omega), if_neg (by omega)]
theorem r_sval {d mc ms : Nat} {M : gM} {pc : Nat} {ls : gLs} {st : List Value} {h : Hp} {Q : gQ} {index : Nat} (i : Nat) (hi : i < 9) (dc : decode (mC M) pc = .ok (.getfield index, 3)) (q : Cond.fieldLink (mOwn M) index "java/lang/String" "value" "[B" ∈ lw_all) (kk : gG d mc ms M (pc + 3) ls (.ref (1 + (9 + i)) :: st) h Q) : gG d mc ms M pc ls (.ref (1 + i) :: st) h Q := by
  intro E p l e R s m args below meth c H locs cells slots MC MS la X hr hl r1 r2 r3 r4 r5 r6
  have k1 := kk E p l e R s m args below meth c H locs cells slots MC MS la X hr hl r1 r2 r3 r4 r5 r6
  rw [List.map_cons, gv_str (by omega)] at k1
  show W p l e R s m args below meth c H locs cells slots _ (F0 m pc la (gv E (.ref (1 + i)) :: st.map (gv E)))
  rw [gv_str (by omega)]
  have e2 : gphi E (1 + (9 + i)) = gphi E (10 + i) := by rw [show 1 + (9 + i) = 10 + i by omega]
  rw [e2] at k1
  exact vk_getf X.1.1 X.1.2.1 ((hr.2.2.2.1.1 i hi).2.2.1) hr.2.1 X.1.2.2.2.1 (X.1.2.2.2.2 _ q) (fun _ h => h) dc k1
theorem r_scod {d mc ms : Nat} {M : gM} {pc : Nat} {ls : gLs} {st : List Value} {h : Hp} {Q : gQ} {index : Nat} (i : Nat) (hi : i < 9) (dc : decode (mC M) pc = .ok (.getfield index, 3)) (q : Cond.fieldLink (mOwn M) index "java/lang/String" "coder" "B" ∈ lw_all) (kk : gG d mc ms M (pc + 3) ls (.int 0 :: st) h Q) : gG d mc ms M pc ls (.ref (1 + i) :: st) h Q := by
  intro E p l e R s m args below meth c H locs cells slots MC MS la X hr hl r1 r2 r3 r4 r5 r6
  have k1 := kk E p l e R s m args below meth c H locs cells slots MC MS la X hr hl r1 r2 r3 r4 r5 r6
  show W p l e R s m args below meth c H locs cells slots _ (F0 m pc la (gv E (.ref (1 + i)) :: st.map (gv E)))
  rw [gv_str (by omega)]
  exact vk_getf X.1.1 X.1.2.1 ((hr.2.2.2.1.1 i hi).2.1) hr.2.1 X.1.2.2.2.1 (X.1.2.2.2.2 _ q) (fun _ h => h) dc k1
theorem r_slen {d mc ms : Nat} {M : gM} {pc : Nat} {ls : gLs} {st : List Value} {h : Hp} {Q : gQ} (i : Nat) (hi : i < 9) (dc : decode (mC M) pc = .ok (.arraylength, 1)) (kk : gG d mc ms M (pc + 1) ls (.int (Int32.ofNat (glen.getD i 0)) :: st) h Q) : gG d mc ms M pc ls (.ref (1 + (9 + i)) :: st) h Q := by
  intro E p l e R s m args below meth c H locs cells slots MC MS la X hr hl r1 r2 r3 r4 r5 r6
  have k1 := kk E p l e R s m args below meth c H locs cells slots MC MS la X hr hl r1 r2 r3 r4 r5 r6
  show W p l e R s m args below meth c H locs cells slots _ (F0 m pc la (gv E (.ref (1 + (9 + i))) :: st.map (gv E)))
  rw [gv_str (by omega), show 1 + (9 + i) = 10 + i by omega]
  exact va_tlen X.1.1 X.1.2.1 ((hr.2.2.2.1.1 i hi).2.2.2) hr.2.1 rfl dc k1
theorem r_sbald {d mc ms : Nat} {M : gM} {pc : Nat} {ls : gLs} {st : List Value} {h : Hp} {Q : gQ} {j : Int32} (i : Nat) (hi : i < 9) (dc : decode (mC M) pc = .ok (.baload, 1)) (hj : vp_in j (glen.getD i 0)) (kk : gG d mc ms M (pc + 1) ls (.int ((gbyt.getD i []).getD j.toNatClampNeg 0) :: st) h Q) : gG d mc ms M pc ls (.int j :: .ref (1 + (9 + i)) :: st) h Q := by
  intro E p l e R s m args below meth c H locs cells slots MC MS la X hr hl r1 r2 r3 r4 r5 r6
  have k1 := kk E p l e R s m args below meth c H locs cells slots MC MS la X hr hl r1 r2 r3 r4 r5 r6
  show W p l e R s m args below meth c H locs cells slots _ (F0 m pc la (.int j :: gv E (.ref (1 + (9 + i))) :: st.map (gv E)))
  rw [gv_str (by omega), show 1 + (9 + i) = 10 + i by omega]
  exact va_tb X.1.1 X.1.2.1 ((hr.2.2.2.1.1 i hi).2.2.2) hr.2.1 hj rfl dc k1
theorem r_xlen {d mc ms : Nat} {M : gM} {pc : Nat} {ls : gLs} {st : List Value} {h : Hp} {Q : gQ} (dc : decode (mC M) pc = .ok (.arraylength, 1)) (kk : gG d mc ms M (pc + 1) ls (.int (Int32.ofNat (hX h).1) :: st) h Q) : gG d mc ms M pc ls (.ref 0 :: st) h Q := by
  intro E p l e R s m args below meth c H locs cells slots MC MS la X hr hl r1 r2 r3 r4 r5 r6
  exact va_slen X.1.1 X.1.2.1 hr.2.2.1 hr.2.2.2.2.2.2.2.1 hr.2.2.2.2.2.2.2.2 hr.2.1 dc (kk E p l e R s m args below meth c H locs cells slots MC MS la X hr hl r1 r2 r3 r4 r5 r6)
theorem r_xld {d mc ms : Nat} {M : gM} {pc : Nat} {ls : gLs} {st : List Value} {h : Hp} {Q : gQ} {i : Int32} (dc : decode (mC M) pc = .ok (.iaload, 1)) (hi : vp_in i (hX h).1) (kk : gG d mc ms M (pc + 1) ls (.int ((hX h).2 i.toNatClampNeg) :: st) h Q) : gG d mc ms M pc ls (.int i :: .ref 0 :: st) h Q := by
  intro E p l e R s m args below meth c H locs cells slots MC MS la X hr hl r1 r2 r3 r4 r5 r6
  exact va_sld X.1.1 X.1.2.1 hr.2.2.1 hr.2.2.2.2.2.2.2.1 hr.2.2.2.2.2.2.2.2 hr.2.1 hi dc (kk E p l e R s m args below meth c H locs cells slots MC MS la X hr hl r1 r2 r3 r4 r5 r6)
theorem r_objInit {d mc ms : Nat} {M : gM} {pc : Nat} {ls : gLs} {st : List Value} {h : Hp} {Q : gQ} {idx a : Nat} (dc : decode (mC M) pc = .ok (.invokespecial idx, 3)) (q1 : Cond.methodLink (mOwn M) idx Lib.objectInit ∈ lw_all) (q2 : Cond.instanceMethod Lib.objectInit ∈ lw_all) (q3 : Cond.code Lib.objectInit ⟨#[0xb1]⟩ 1 none ∈ lw_all) (h21 : 21 ≤ a) (hcat : (st.map fun v => v.category).sum ≤ 8) (kk : gG (d + 1) mc ms M (pc + 3) ls st h Q) : gG (d + 1) mc ms M pc ls (.ref a :: st) h Q := by
  intro E p l e R s m args below meth c H locs cells slots MC MS la X hr hl r1 r2 r3 r4 r5 r6
  have hts := X.1.2.2.2.2
  have hca := gG_cat X.2.2.2.2.2.2 hcat
  show W p l e R s m args below meth c H locs cells slots _ (F0 m pc la (gv E (.ref a) :: st.map (gv E)))
  rw [gv_ref h21]
  exact W.objInit X.1.1 X.1.2.1 X.1.2.2.2.1 (hts _ q1) (hts _ q2) (hts _ q3) rfl (hl.1.trans X.1.2.2.1.symm) rfl dc (by omega) (by show 2 * 0 + _ + 12 ≤ _; omega) (kk E p l e R s m args below meth c H locs cells slots MC MS la X hr hl r1 r2 r3 r4 r5 r6)
theorem r_mmax {d mc ms : Nat} {M : gM} {pc : Nat} {ls : gLs} {st : List Value} {h : Hp} {Q : gQ} {index : Nat} {x y : Int32} (dc : decode (mC M) pc = .ok (.invokestatic index, 3)) (q1 : Cond.methodLink (mOwn M) index Lib.Math.max.name ∈ lw_all) (q2 : Cond.static Lib.Math.max.name ∈ lw_all) (q3 : Cond.initialized "java/lang/Math" ∈ lw_all) (q4 : Cond.code Lib.Math.max.name Lib.Math.max.code 2 (some .int) ∈ lw_all) (hcat : (st.map fun v => v.category).sum ≤ 8) (kk : gG (d + 1) mc ms M (pc + 3) ls (.int (if x < y then y else x) :: st) h Q) : gG (d + 1) mc ms M pc ls (.int y :: .int x :: st) h Q := by
  intro E p l e R s m args below meth c H locs cells slots MC MS la X hr hl r1 r2 r3 r4 r5 r6
  have hts := X.1.2.2.2.2
  have hca := gG_cat X.2.2.2.2.2.2 hcat
  exact va_mmax X.1.1 X.1.2.1 (X.1.2.2.1.trans hl.1.symm) X.1.2.2.2.1 (hts _ q1) (hts _ q2) (hts _ q3) (hts _ q4) (by omega) (by omega) (by omega) (by omega) dc (kk E p l e R s m args below meth c H locs cells slots MC MS la X hr hl r1 r2 r3 r4 r5 r6)
theorem r_mmin {d mc ms : Nat} {M : gM} {pc : Nat} {ls : gLs} {st : List Value} {h : Hp} {Q : gQ} {index : Nat} {x y : Int32} (dc : decode (mC M) pc = .ok (.invokestatic index, 3)) (q1 : Cond.methodLink (mOwn M) index Lib.Math.min.name ∈ lw_all) (q2 : Cond.static Lib.Math.min.name ∈ lw_all) (q3 : Cond.initialized "java/lang/Math" ∈ lw_all) (q4 : Cond.code Lib.Math.min.name Lib.Math.min.code 2 (some .int) ∈ lw_all) (hcat : (st.map fun v => v.category).sum ≤ 8) (kk : gG (d + 1) mc ms M (pc + 3) ls (.int (if y < x then y else x) :: st) h Q) : gG (d + 1) mc ms M pc ls (.int y :: .int x :: st) h Q := by
  intro E p l e R s m args below meth c H locs cells slots MC MS la X hr hl r1 r2 r3 r4 r5 r6
  have hts := X.1.2.2.2.2
  have hca := gG_cat X.2.2.2.2.2.2 hcat
  exact va_mmin X.1.1 X.1.2.1 (X.1.2.2.1.trans hl.1.symm) X.1.2.2.2.1 (hts _ q1) (hts _ q2) (hts _ q3) (hts _ q4) (by omega) (by omega) (by omega) (by omega) dc (kk E p l e R s m args below meth c H locs cells slots MC MS la X hr hl r1 r2 r3 r4 r5 r6)
theorem r_mabs {d mc ms : Nat} {M : gM} {pc : Nat} {ls : gLs} {st : List Value} {h : Hp} {Q : gQ} {index : Nat} {x : Int32} (dc : decode (mC M) pc = .ok (.invokestatic index, 3)) (q1 : Cond.methodLink (mOwn M) index Lib.Math.abs.name ∈ lw_all) (q2 : Cond.static Lib.Math.abs.name ∈ lw_all) (q3 : Cond.initialized "java/lang/Math" ∈ lw_all) (q4 : Cond.code Lib.Math.abs.name Lib.Math.abs.code 1 (some .int) ∈ lw_all) (hcat : (st.map fun v => v.category).sum ≤ 8) (kk : gG (d + 1) mc ms M (pc + 3) ls (.int (if 0 ≤ x then x else 0 - x) :: st) h Q) : gG (d + 1) mc ms M pc ls (.int x :: st) h Q := by
  intro E p l e R s m args below meth c H locs cells slots MC MS la X hr hl r1 r2 r3 r4 r5 r6
  have hts := X.1.2.2.2.2
  have hca := gG_cat X.2.2.2.2.2.2 hcat
  exact va_mabs X.1.1 X.1.2.1 (X.1.2.2.1.trans hl.1.symm) X.1.2.2.2.1 (hts _ q1) (hts _ q2) (hts _ q3) (hts _ q4) (by omega) (by omega) (by omega) (by omega) dc (kk E p l e R s m args below meth c H locs cells slots MC MS la X hr hl r1 r2 r3 r4 r5 r6)
theorem r_castY {d mc ms : Nat} {M : gM} {pc : Nat} {ls : gLs} {st : List Value} {h : Hp} {Q : gQ} {a ci index : Nat} {C nm : String} {T : u_T} {N : Nat} (dc : decode (mC M) pc = .ok (.checkcast index, 3)) (hs : hS h a = .inl ci) (hc : gcl[ci]? = some (C, T, N)) (q1 : Cond.classLink (mOwn M) index nm ∈ lw_all) (q2 : Cond.castable C nm ∈ lw_tbl) (kk : gG d mc ms M (pc + 3) ls (.ref a :: st) h Q) : gG d mc ms M pc ls (.ref a :: st) h Q := by
  intro E p l e R s m args below meth c H locs cells slots MC MS la X hr hl r1 r2 r3 r4 r5 r6
  have k1 := kk E p l e R s m args below meth c H locs cells slots MC MS la X hr hl r1 r2 r3 r4 r5 r6
  have hg := gv_ref (E := E) (hr.1.rng hs (g_ne hc)).1
  rw [List.map_cons, hg] at k1
  show W p l e R s m args below meth c H locs cells slots _ (F0 m pc la (gv E (.ref a) :: st.map (gv E)))
  rw [hg]
  exact va_castY X.1.1 X.1.2.1 X.1.2.2.2.1 (X.1.2.2.2.2 _ q1) (X.2.2.2.2.2.2.2.1 _ q2 rfl) (va_recv (q0 := 0) X.2.2.2.2.2.1 (g_one (hr.1.o hs hc)) hc rfl) dc k1
