set_option maxRecDepth 100000
/-- behind a call: what it answered, or threw -/
theorem g_run {d mc ms mc1 ms1 : Nat} {M : gM} {pc : Nat} {ls : gLs} {st : List Value} {h : Hp} {Q Q1 : gQ} {E : gE} {p : Program} {l : Launch} {e : Env} {R : Room} {s : State} {m : MethodId} {args av : Array Value} {below : List Frame} {meth : Method} {c : Code} {H : Heap} {locs : List Loc} {cells slots MC MS : Nat} {la : Array Slot} {st0 : List Value}
    (X : gX E p s m args meth c M) (hr : gRel E h s H locs) (hl : gL E la (mL M) ls) (r1 : d ≤ R.frames) (r2 : 64 * d ≤ R.locals) (r3 : cells + (mc + mc1) ≤ R.cells) (r4 : slots + (ms + ms1) ≤ R.slots) (r5 : cells + (mc + mc1) ≤ MC) (r6 : slots + (ms + ms1) ≤ MS)
    (kr : ∀ v h', Q1 (.inl v) h' → gG d mc ms M (pc + 3) ls (v.toList ++ st) h' Q) (kt : ∀ a h', Q1 (.inr a) h' → gTh d mc ms M pc ls a h' Q)
    (hr1 : vx_Run p l e R s m args below meth c H locs cells slots mc1 ms1 (F0 m pc la st0) (st.map (gv E)) (gQc E (hX h) Q1 av) (gXC E (hX h) Q1) (gA E)) :
    W p l e R s m args below meth c H locs cells slots (vx_MQ below (gQc E (hX h) Q) (gXC E (hX h) Q) args s MC MS (gA E)) (F0 m pc la st0) := by
  intro T hT Y
  rcases hr1 T hT Y with ⟨v, st₀, t, T', L, h0, Y', hL, e1, e2, ⟨⟨v', h', hv, hq, hm, hx'⟩, hF⟩, stp⟩ | ⟨q, st₀, t, T', L, En, ce, h0, Y', hL, e1, e2, ⟨⟨a, ci, C, T0, N, h', hqa, hs, hc, hnm, hq, hm, hx'⟩, hF⟩, hce, hcv, hcl, stp⟩
  · have hv2 : v = v'.map (gv E) := by injection hv
    subst hv2
    have k3 := (vx_keep h0 e1 hr.2.1 (fun q _ h => h) (fun q h => h) hL hF).2.2
    have k1 := kr v' h' hq E p l e R s m args below meth c T'.heap (locs ++ L) (cells + mc1) (slots + ms1) MC MS la X ⟨by rw [e1]; exact hm, k3, gSp_of hx' hr.2.2⟩ hl r1 r2 (by omega) (by omega) (by omega) (by omega)
    rw [hx'] at k1
    have e5 : (v'.toList ++ st).map (gv E) = (v'.map (gv E)).toList ++ st.map (gv E) := by cases v' <;> rfl
    rw [e5] at k1
    obtain ⟨t2, a1, b1⟩ := k1 T' rfl Y'
    exact ⟨t2, stp t2 a1, b1⟩
  · have k3 := (vx_keep h0 e1 hr.2.1 (fun q _ h => h) (fun q h => h) hL hF).2.2
    have k1 := kt a h' hq E p l e R s m args below meth c T'.heap (locs ++ L) (cells + mc1) (slots + ms1) MC MS la (st.map (gv E)) X ⟨by rw [e1]; exact hm, k3, gSp_of hx' hr.2.2⟩ hl r1 r2 (by omega) (by omega) (by omega) (by omega)
    rw [hx', ← hqa] at k1
    obtain ⟨t2, a1, b1⟩ := k1 T' rfl Y'
    exact ⟨t2, stp.trans a1, b1⟩
/-- behind a call: what it answered, or threw -/
theorem g_run5 {d mc ms mc1 ms1 : Nat} {M : gM} {pc : Nat} {ls : gLs} {st : List Value} {h : Hp} {Q Q1 : gQ} {E : gE} {p : Program} {l : Launch} {e : Env} {R : Room} {s : State} {m : MethodId} {args av : Array Value} {below : List Frame} {meth : Method} {c : Code} {H : Heap} {locs : List Loc} {cells slots MC MS : Nat} {la : Array Slot} {st0 : List Value}
    (X : gX E p s m args meth c M) (hr : gRel E h s H locs) (hl : gL E la (mL M) ls) (r1 : d ≤ R.frames) (r2 : 64 * d ≤ R.locals) (r3 : cells + (mc + mc1) ≤ R.cells) (r4 : slots + (ms + ms1) ≤ R.slots) (r5 : cells + (mc + mc1) ≤ MC) (r6 : slots + (ms + ms1) ≤ MS)
    (kr : ∀ v h', Q1 (.inl v) h' → gG d mc ms M (pc + 5) ls (v.toList ++ st) h' Q) (kt : ∀ a h', Q1 (.inr a) h' → gTh d mc ms M pc ls a h' Q)
    (hr1 : vx_Run5 p l e R s m args below meth c H locs cells slots mc1 ms1 (F0 m pc la st0) (st.map (gv E)) (gQc E (hX h) Q1 av) (gXC E (hX h) Q1) (gA E)) :
    W p l e R s m args below meth c H locs cells slots (vx_MQ below (gQc E (hX h) Q) (gXC E (hX h) Q) args s MC MS (gA E)) (F0 m pc la st0) := by
  intro T hT Y
  rcases hr1 T hT Y with ⟨v, st₀, t, T', L, h0, Y', hL, e1, e2, ⟨⟨v', h', hv, hq, hm, hx'⟩, hF⟩, stp⟩ | ⟨q, st₀, t, T', L, En, ce, h0, Y', hL, e1, e2, ⟨⟨a, ci, C, T0, N, h', hqa, hs, hc, hnm, hq, hm, hx'⟩, hF⟩, hce, hcv, hcl, stp⟩
  · have hv2 : v = v'.map (gv E) := by injection hv
    subst hv2
    have k3 := (vx_keep h0 e1 hr.2.1 (fun q _ h => h) (fun q h => h) hL hF).2.2
    have k1 := kr v' h' hq E p l e R s m args below meth c T'.heap (locs ++ L) (cells + mc1) (slots + ms1) MC MS la X ⟨by rw [e1]; exact hm, k3, gSp_of hx' hr.2.2⟩ hl r1 r2 (by omega) (by omega) (by omega) (by omega)
    rw [hx'] at k1
    have e5 : (v'.toList ++ st).map (gv E) = (v'.map (gv E)).toList ++ st.map (gv E) := by cases v' <;> rfl
    rw [e5] at k1
    obtain ⟨t2, a1, b1⟩ := k1 T' rfl Y'
    exact ⟨t2, stp t2 a1, b1⟩
  · have k3 := (vx_keep h0 e1 hr.2.1 (fun q _ h => h) (fun q h => h) hL hF).2.2
    have k1 := kt a h' hq E p l e R s m args below meth c T'.heap (locs ++ L) (cells + mc1) (slots + ms1) MC MS la (st.map (gv E)) X ⟨by rw [e1]; exact hm, k3, gSp_of hx' hr.2.2⟩ hl r1 r2 (by omega) (by omega) (by omega) (by omega)
    rw [hx', ← hqa] at k1
    obtain ⟨t2, a1, b1⟩ := k1 T' rfl Y'
    exact ⟨t2, stp.trans a1, b1⟩
/-- a receiver: a thing of a kind, or a text -/
def gRecv (h : Hp) (b : Nat) (C : String) : Prop := (∃ (ci : Nat) (T : u_T) (N : Nat), hS h b = .inl ci ∧ gcl[ci]? = some (C, T, N)) ∨ (C = "java/lang/String" ∧ ∃ i, i < 9 ∧ b = 1 + i)
theorem gRecv.of {h : Hp} {b ci : Nat} {C : String} {T : u_T} {N : Nat} (hs : hS h b = .inl ci) (hc : gcl[ci]? = some (C, T, N)) : gRecv h b C := Or.inl ⟨ci, T, N, hs, hc⟩
theorem gRecv.str {h : Hp} (i : Nat) (hi : i < 9) : gRecv h (1 + i) "java/lang/String" := Or.inr ⟨rfl, i, hi, rfl⟩
theorem gRecv.use {h : Hp} {b : Nat} {C : String} {E : gE} {p : Program} {s : State} {m : MethodId} {args : Array Value} {meth : Method} {c : Code} {M : gM} {H : Heap} {locs : List Loc} (g : gRecv h b C) (X : gX E p s m args meth c M) (hr : gRel E h s H locs) : (∃ cell : Cell, H[gphi E b]? = some cell ∧ cell.vm.isStatics = false ∧ s.vm.findClass C = some cell.cls) ∧ gv E (.ref b) = .ref (gphi E b) := by
  rcases g with ⟨ci, T, N, hs, hc⟩ | ⟨rfl, i, hi, rfl⟩
  · exact ⟨va_recv (q0 := 0) X.2.2.2.2.2.1 (g_one (hr.1.o hs hc)) hc rfl, gv_ref (hr.1.rng hs (g_ne hc)).1⟩
  · refine ⟨vk_recv (i := i) (adK := fun i => gphi E (1 + i)) hr.2.2.2.1 hi hr.2.1, ?_⟩
    show (if 1 + i = 19 then _ else if 1 + i = 20 then _ else _ : Value) = _
    rw [if_neg (by omega), if_neg (by omega)]
abbrev gNoMH (y : MethodName) : Prop := y.cls ≠ "java/lang/invoke/MethodHandle" ∧ y.cls ≠ "java/lang/invoke/VarHandle"
abbrev gDs (y : MethodName) (n : Nat) : Prop := (parseMethodDescriptor y.desc).map (fun d => d.parameters.length) = some n
abbrev gCd (M1 : gM) : Prop := Cond.code (mY M1) (mC M1) (mL M1) (mRt M1) ∈ lw_all
theorem mWs_nil {M1 : gM} (h : mH M1 = []) : mWs M1 = ws_ (mY M1) (mC M1) (mL M1) (mRt M1) := by unfold mWs; rw [h]
theorem gG_cat {E : gE} {s : State} (h : gNw E s) {st : List Value} (hc : (st.map fun v => v.category).sum ≤ 8) : ((st.map (gv E)).map fun v => v.category).sum ≤ 8 := by
  rw [gv_cats h.1]; exact hc
abbrev gV (own : String) (index : Nat) (C : String) (M1 : gM) (n : Nat) : Prop := Cond.methodLink own index (mY M1) ∈ lw_all ∧ Cond.instanceMethod (mY M1) ∈ lw_all ∧ Cond.selects C (mY M1) (mY M1) ∈ lw_all ∧ Cond.initialized C ∈ lw_all ∧ gCd M1 ∧ mH M1 = [] ∧ mL M1 ≤ 45 ∧ (mY M1).cls = C ∧ gNoMH (mY M1) ∧ gDs (mY M1) n
theorem r_callV {d mc ms mc1 ms1 : Nat} {M M1 : gM} {pc : Nat} {ls : gLs} {st stk : List Value} {h : Hp} {Q Q1 : gQ} {b : Nat} {As : List Value} {n index : Nat} {C : String} (dc : decode (mC M) pc = .ok (.invokevirtual index, 3)) (hv : gV (mOwn M) index C M1 n) (hC : gC d mc1 ms1 M1 (.ref b :: As) h Q1) (hb : gRecv h b C) (hn : As.length = n) (hst : stk = As.reverse ++ .ref b :: st) (hcat : (st.map fun v => v.category).sum ≤ 8) (kr : ∀ v h', Q1 (.inl v) h' → gG (d + 1) mc ms M (pc + 3) ls (v.toList ++ st) h' Q) (kt : ∀ a h', Q1 (.inr a) h' → gTh (d + 1) mc ms M pc ls a h' Q) : gG (d + 1) (mc + mc1) (ms + ms1) M pc ls stk h Q := by
  intro E p l e R s m args below meth c H locs cells slots MC MS la X hr hl r1 r2 r3 r4 r5 r6
  have hts := X.1.2.2.2.2
  have hR : (gRoom d mc1 ms1).frames + 1 ≤ R.frames ∧ 8 + (mL M1 + 11) + (gRoom d mc1 ms1).locals ≤ R.locals := ⟨r1, by show 8 + (mL M1 + 11) + 64 * d ≤ R.locals; have := hv.2.2.2.2.2.2.1; omega⟩
  subst hst
  obtain ⟨q1, q2, q3, q4, q5, hh, hL, hC1, hmh, hds⟩ := hv
  obtain ⟨hcell, hgv⟩ := hb.use X hr
  have hM := hC l E
  rw [List.map_cons, hgv] at hM
  have hp : PreV s H C (gphi E b) (va_Pc (.ref (gphi E b) :: As.map (gv E)) (gPre E h)) (As.map (gv E)) := ⟨gPre_blind, hcell, fun U hU hW => ⟨rfl, gPre_moved hW hU X.2.2.2.2.2.1 X.2.2.2.2.2.2 hr⟩⟩
  have hw := mWs_nil hh
  exact g_run X hr hl r1 r2 r3 r4 r5 r6 kr kt (vx_runV (C := C) (As := As.map (gv E)) (rest := st.map (gv E)) X.1 hM (cwV n hts (by rw [hw]; exact lw_V q1 q2 q3 q4 q5) hw rfl rfl ⟨hC1, hmh.1, hmh.2, hds⟩ hR) hp rfl (by rw [List.length_map]; exact hn) hl.1 (by rw [List.map_append, List.map_reverse, List.map_cons, hgv]) (lv_room (gG_cat X.2.2.2.2.2.2 hcat)) dc ⟨by omega, by omega⟩)
abbrev gVH (own : String) (index : Nat) (C : String) (M1 : gM) (n : Nat) : Prop := Cond.methodLink own index (mY M1) ∈ lw_all ∧ Cond.instanceMethod (mY M1) ∈ lw_all ∧ Cond.selects C (mY M1) (mY M1) ∈ lw_all ∧ Cond.initialized C ∈ lw_all ∧ Cond.codeWith (mY M1) (mC M1) (mL M1) (mRt M1) (mH M1) ∈ lw_all ∧ mH M1 ≠ [] ∧ mL M1 ≤ 45 ∧ (mY M1).cls = C ∧ gNoMH (mY M1) ∧ gDs (mY M1) n
theorem r_callVH {d mc ms mc1 ms1 : Nat} {M M1 : gM} {pc : Nat} {ls : gLs} {st stk : List Value} {h : Hp} {Q Q1 : gQ} {b : Nat} {As : List Value} {n index : Nat} {C : String} (dc : decode (mC M) pc = .ok (.invokevirtual index, 3)) (hv : gVH (mOwn M) index C M1 n) (hC : gC d mc1 ms1 M1 (.ref b :: As) h Q1) (hb : gRecv h b C) (hn : As.length = n) (hst : stk = As.reverse ++ .ref b :: st) (hcat : (st.map fun v => v.category).sum ≤ 8) (kr : ∀ v h', Q1 (.inl v) h' → gG (d + 1) mc ms M (pc + 3) ls (v.toList ++ st) h' Q) (kt : ∀ a h', Q1 (.inr a) h' → gTh (d + 1) mc ms M pc ls a h' Q) : gG (d + 1) (mc + mc1) (ms + ms1) M pc ls stk h Q := by
  intro E p l e R s m args below meth c H locs cells slots MC MS la X hr hl r1 r2 r3 r4 r5 r6
  have hts := X.1.2.2.2.2
  have hR : (gRoom d mc1 ms1).frames + 1 ≤ R.frames ∧ 8 + (mL M1 + 11) + (gRoom d mc1 ms1).locals ≤ R.locals := ⟨r1, by show 8 + (mL M1 + 11) + 64 * d ≤ R.locals; have := hv.2.2.2.2.2.2.1; omega⟩
  subst hst
  obtain ⟨q1, q2, q3, q4, q5, hh, hL, hC1, hmh, hds⟩ := hv
  obtain ⟨hcell, hgv⟩ := hb.use X hr
  have hM := hC l E
  rw [List.map_cons, hgv] at hM
  have hp : PreV s H C (gphi E b) (va_Pc (.ref (gphi E b) :: As.map (gv E)) (gPre E h)) (As.map (gv E)) := ⟨gPre_blind, hcell, fun U hU hW => ⟨rfl, gPre_moved hW hU X.2.2.2.2.2.1 X.2.2.2.2.2.2 hr⟩⟩
  have hw : mWs M1 = wsW_ (mY M1) (mC M1) (mL M1) (mRt M1) (mH M1) := by
    unfold mWs
    cases hq : mH M1 with
    | nil => exact absurd hq hh
    | cons a b => rfl
  exact g_run X hr hl r1 r2 r3 r4 r5 r6 kr kt (vx_runVX (C := C) (hh := mH M1) (As := As.map (gv E)) (rest := st.map (gv E)) X.1 hM (vx_cwVW n hts (by rw [hw]; exact lw_VW q1 q2 q3 q4 q5) hw rfl rfl ⟨hC1, hmh.1, hmh.2, hds⟩ hR) hp rfl (by rw [List.length_map]; exact hn) hl.1 (by rw [List.map_append, List.map_reverse, List.map_cons, hgv]) (lv_room (gG_cat X.2.2.2.2.2.2 hcat)) dc ⟨by omega, by omega⟩)
abbrev gSt (own : String) (index : Nat) (M1 : gM) (n : Nat) : Prop := Cond.methodLink own index (mY M1) ∈ lw_all ∧ Cond.static (mY M1) ∈ lw_all ∧ Cond.initialized (mY M1).cls ∈ lw_all ∧ gCd M1 ∧ mH M1 = [] ∧ mL M1 ≤ 45 ∧ gNoMH (mY M1) ∧ gDs (mY M1) n
theorem r_callS {d mc ms mc1 ms1 : Nat} {M M1 : gM} {pc : Nat} {ls : gLs} {st stk : List Value} {h : Hp} {Q Q1 : gQ} {As : List Value} {n index : Nat}  (dc : decode (mC M) pc = .ok (.invokestatic index, 3)) (hv : gSt (mOwn M) index M1 n) (hC : gC d mc1 ms1 M1 (As) h Q1) (hn : As.length = n) (hst : stk = As.reverse ++ st) (hcat : (st.map fun v => v.category).sum ≤ 8) (kr : ∀ v h', Q1 (.inl v) h' → gG (d + 1) mc ms M (pc + 3) ls (v.toList ++ st) h' Q) (kt : ∀ a h', Q1 (.inr a) h' → gTh (d + 1) mc ms M pc ls a h' Q) : gG (d + 1) (mc + mc1) (ms + ms1) M pc ls stk h Q := by
  intro E p l e R s m args below meth c H locs cells slots MC MS la X hr hl r1 r2 r3 r4 r5 r6
  have hts := X.1.2.2.2.2
  have hR : (gRoom d mc1 ms1).frames + 1 ≤ R.frames ∧ 8 + (mL M1 + 11) + (gRoom d mc1 ms1).locals ≤ R.locals := ⟨r1, by show 8 + (mL M1 + 11) + 64 * d ≤ R.locals; have := hv.2.2.2.2.2.1; omega⟩
  subst hst
  obtain ⟨q1, q2, q3, q4, hh, hL, hmh, hds⟩ := hv
  have hM := hC l E
  have hp : PreS s H (va_Pc (As.map (gv E)) (gPre E h)) (As.map (gv E)) := ⟨gPre_blind, fun U hU hW => ⟨rfl, gPre_moved hW hU X.2.2.2.2.2.1 X.2.2.2.2.2.2 hr⟩⟩
  have hw := mWs_nil hh
  exact g_run X hr hl r1 r2 r3 r4 r5 r6 kr kt (vx_runS (As := As.map (gv E)) (rest := st.map (gv E)) X.1 hM (va_cwS n hts (by rw [hw]; exact lw_S q1 q2 q3 q4) hw rfl rfl ⟨hmh.1, hmh.2, hds⟩ hR) hp rfl (by rw [List.length_map]; exact hn) hl.1 (by rw [List.map_append, List.map_reverse]) (lv_room (gG_cat X.2.2.2.2.2.2 hcat)) dc ⟨by omega, by omega⟩)
abbrev gSN (own : String) (index : Nat) (M1 : gM) (n : Nat) : Prop := (∃ host, Cond.methodLinkNest own index (mY M1) host ∈ lw_tbl) ∧ Cond.static (mY M1) ∈ lw_all ∧ Cond.initialized (mY M1).cls ∈ lw_all ∧ gCd M1 ∧ mH M1 = [] ∧ mL M1 ≤ 45 ∧ gNoMH (mY M1) ∧ gDs (mY M1) n
theorem r_callSN {d mc ms mc1 ms1 : Nat} {M M1 : gM} {pc : Nat} {ls : gLs} {st stk : List Value} {h : Hp} {Q Q1 : gQ} {As : List Value} {n index : Nat}  (dc : decode (mC M) pc = .ok (.invokestatic index, 3)) (hv : gSN (mOwn M) index M1 n) (hC : gC d mc1 ms1 M1 (As) h Q1) (hn : As.length = n) (hst : stk = As.reverse ++ st) (hcat : (st.map fun v => v.category).sum ≤ 8) (kr : ∀ v h', Q1 (.inl v) h' → gG (d + 1) mc ms M (pc + 3) ls (v.toList ++ st) h' Q) (kt : ∀ a h', Q1 (.inr a) h' → gTh (d + 1) mc ms M pc ls a h' Q) : gG (d + 1) (mc + mc1) (ms + ms1) M pc ls stk h Q := by
  intro E p l e R s m args below meth c H locs cells slots MC MS la X hr hl r1 r2 r3 r4 r5 r6
  have hts := X.1.2.2.2.2
  have hR : (gRoom d mc1 ms1).frames + 1 ≤ R.frames ∧ 8 + (mL M1 + 11) + (gRoom d mc1 ms1).locals ≤ R.locals := ⟨r1, by show 8 + (mL M1 + 11) + 64 * d ≤ R.locals; have := hv.2.2.2.2.2.1; omega⟩
  subst hst
  obtain ⟨⟨host, q1⟩, q2, q3, q4, hh, hL, hmh, hds⟩ := hv
  have hM := hC l E
  have hp : PreS s H (va_Pc (As.map (gv E)) (gPre E h)) (As.map (gv E)) := ⟨gPre_blind, fun U hU hW => ⟨rfl, gPre_moved hW hU X.2.2.2.2.2.1 X.2.2.2.2.2.2 hr⟩⟩
  have hw := mWs_nil hh
  exact g_run X hr hl r1 r2 r3 r4 r5 r6 kr kt (vx_runSN (host := host) (As := As.map (gv E)) (rest := st.map (gv E)) X.1 hM ⟨va_cnB n hts (by rw [hw]; exact lw_meth q4) hw rfl rfl (X.2.2.2.2.2.2.2.1 _ q1 rfl) (hts _ q3) ⟨hmh.1, hmh.2, hds⟩ hR, hts _ q2, trivial⟩ hp rfl (by rw [List.length_map]; exact hn) hl.1 (by rw [List.map_append, List.map_reverse]) (lv_room (gG_cat X.2.2.2.2.2.2 hcat)) dc ⟨by omega, by omega⟩)
abbrev gIn (own : String) (index : Nat) (M1 : gM) (n : Nat) : Prop := Cond.methodLink own index (mY M1) ∈ lw_all ∧ Cond.instanceMethod (mY M1) ∈ lw_all ∧ Cond.initialized (mY M1).cls ∈ lw_all ∧ gCd M1 ∧ mH M1 = [] ∧ mL M1 ≤ 45 ∧ (mY M1).name = "<init>" ∧ mRt M1 = none ∧ gNoMH (mY M1) ∧ gDs (mY M1) n
theorem r_callI {d mc ms mc1 ms1 : Nat} {M M1 : gM} {pc : Nat} {ls : gLs} {st stk : List Value} {h : Hp} {Q Q1 : gQ} {b : Nat} {As : List Value} {n index : Nat} (dc : decode (mC M) pc = .ok (.invokespecial index, 3)) (hv : gIn (mOwn M) index M1 n) (hC : gC d mc1 ms1 M1 (.ref b :: As) h Q1) (h21 : 21 ≤ b) (hn : As.length = n) (hst : stk = As.reverse ++ .ref b :: st) (hcat : (st.map fun v => v.category).sum ≤ 8) (kr : ∀ v h', Q1 (.inl v) h' → gG (d + 1) mc ms M (pc + 3) ls (v.toList ++ st) h' Q) (kt : ∀ a h', Q1 (.inr a) h' → gTh (d + 1) mc ms M pc ls a h' Q) : gG (d + 1) (mc + mc1) (ms + ms1) M pc ls stk h Q := by
  intro E p l e R s m args below meth c H locs cells slots MC MS la X hr hl r1 r2 r3 r4 r5 r6
  have hts := X.1.2.2.2.2
  have hgv := gv_ref (E := E) h21
  subst hst
  obtain ⟨q1, q2, q3, q4, hh, hL, hi, hrt, hmh, hds⟩ := hv
  have hR : (gRoom d mc1 ms1).frames + 1 ≤ R.frames ∧ 8 + (mL M1 + 11) + (gRoom d mc1 ms1).locals ≤ R.locals := ⟨r1, by show 8 + (mL M1 + 11) + 64 * d ≤ R.locals; omega⟩
  have hM := hC l E
  rw [List.map_cons, hgv] at hM
  have hp : PreS s H (va_Pc (.ref (gphi E b) :: As.map (gv E)) (gPre E h)) (.ref (gphi E b) :: As.map (gv E)) := ⟨gPre_blind, fun U hU hW => ⟨rfl, gPre_moved hW hU X.2.2.2.2.2.1 X.2.2.2.2.2.2 hr⟩⟩
  have hw := mWs_nil hh
  rw [hrt] at hw
  have hq4 : Cond.code (mY M1) (mC M1) (mL M1) none ∈ lw_all := by rw [← hrt]; exact q4
  exact g_run X hr hl r1 r2 r3 r4 r5 r6 kr kt (vx_runI (As := As.map (gv E)) (rest := st.map (gv E)) X.1 hM (cwI n hts (by rw [hw]; exact lw_meth hq4) hw rfl rfl (hts _ q3) (hts _ q1) (hts _ q2) hi ⟨hmh.1, hmh.2, hds⟩ hR) hp rfl (by rw [List.length_map]; exact hn) hl.1 (by rw [List.map_append, List.map_reverse, List.map_cons, hgv]) (lv_room (gG_cat X.2.2.2.2.2.2 hcat)) dc ⟨by omega, by omega⟩)
abbrev gIN (own : String) (index : Nat) (M1 : gM) (n : Nat) : Prop := (∃ host, Cond.methodLinkNest own index (mY M1) host ∈ lw_tbl) ∧ Cond.instanceMethod (mY M1) ∈ lw_all ∧ Cond.initialized (mY M1).cls ∈ lw_all ∧ gCd M1 ∧ mH M1 = [] ∧ mL M1 ≤ 45 ∧ (mY M1).name = "<init>" ∧ mRt M1 = none ∧ gNoMH (mY M1) ∧ gDs (mY M1) n
theorem r_callIN {d mc ms mc1 ms1 : Nat} {M M1 : gM} {pc : Nat} {ls : gLs} {st stk : List Value} {h : Hp} {Q Q1 : gQ} {b : Nat} {As : List Value} {n index : Nat} (dc : decode (mC M) pc = .ok (.invokespecial index, 3)) (hv : gIN (mOwn M) index M1 n) (hC : gC d mc1 ms1 M1 (.ref b :: As) h Q1) (h21 : 21 ≤ b) (hn : As.length = n) (hst : stk = As.reverse ++ .ref b :: st) (hcat : (st.map fun v => v.category).sum ≤ 8) (kr : ∀ v h', Q1 (.inl v) h' → gG (d + 1) mc ms M (pc + 3) ls (v.toList ++ st) h' Q) (kt : ∀ a h', Q1 (.inr a) h' → gTh (d + 1) mc ms M pc ls a h' Q) : gG (d + 1) (mc + mc1) (ms + ms1) M pc ls stk h Q := by
  intro E p l e R s m args below meth c H locs cells slots MC MS la X hr hl r1 r2 r3 r4 r5 r6
  have hts := X.1.2.2.2.2
  have hgv := gv_ref (E := E) h21
  subst hst
  obtain ⟨q1, q2, q3, q4, hh, hL, hi, hrt, hmh, hds⟩ := hv
  have hR : (gRoom d mc1 ms1).frames + 1 ≤ R.frames ∧ 8 + (mL M1 + 11) + (gRoom d mc1 ms1).locals ≤ R.locals := ⟨r1, by show 8 + (mL M1 + 11) + 64 * d ≤ R.locals; omega⟩
  have hM := hC l E
  rw [List.map_cons, hgv] at hM
  have hp : PreS s H (va_Pc (.ref (gphi E b) :: As.map (gv E)) (gPre E h)) (.ref (gphi E b) :: As.map (gv E)) := ⟨gPre_blind, fun U hU hW => ⟨rfl, gPre_moved hW hU X.2.2.2.2.2.1 X.2.2.2.2.2.2 hr⟩⟩
  have hw := mWs_nil hh
  rw [hrt] at hw
  have hq4 : Cond.code (mY M1) (mC M1) (mL M1) none ∈ lw_all := by rw [← hrt]; exact q4
  exact g_run X hr hl r1 r2 r3 r4 r5 r6 kr kt (vx_runIN (host := q1.choose) (As := As.map (gv E)) (rest := st.map (gv E)) X.1 hM ⟨va_cnB n hts (by rw [hw]; exact lw_meth hq4) hw rfl rfl (X.2.2.2.2.2.2.2.1 _ q1.choose_spec rfl) (hts _ q3) ⟨hmh.1, hmh.2, hds⟩ hR, hi, hts _ q2⟩ hp rfl (by rw [List.length_map]; exact hn) hl.1 (by rw [List.map_append, List.map_reverse, List.map_cons, hgv]) (lv_room (gG_cat X.2.2.2.2.2.2 hcat)) dc ⟨by omega, by omega⟩)
abbrev gSU (own : String) (index : Nat) (M1 : gM) (n : Nat) : Prop := Cond.methodLink own index (mY M1) ∈ lw_all ∧ Cond.sameMethod (mY M1).cls (mY M1).cls (mY M1).name (mY M1).desc ∈ lw_all ∧ Cond.superclass own (mY M1).cls ∈ lw_all ∧ Cond.instanceMethod (mY M1) ∈ lw_all ∧ Cond.initialized (mY M1).cls ∈ lw_all ∧ gCd M1 ∧ mH M1 = [] ∧ mL M1 ≤ 45 ∧ (mY M1).name ≠ "<init>" ∧ gDs (mY M1) n
theorem r_callSU {d mc ms mc1 ms1 : Nat} {M M1 : gM} {pc : Nat} {ls : gLs} {st stk : List Value} {h : Hp} {Q Q1 : gQ} {b : Nat} {As : List Value} {n index : Nat} {C : String} {ci : Nat} {T9 : u_T} {N9 : Nat} (dc : decode (mC M) pc = .ok (.invokespecial index, 3)) (hv : gSU (mOwn M) index M1 n) (hcl : gcl[ci]? = some (C, T9, N9)) (hC : gC d mc1 ms1 M1 (.ref b :: As) h Q1) (hb : gRecv h b C) (hn : As.length = n) (hst : stk = As.reverse ++ .ref b :: st) (hcat : (st.map fun v => v.category).sum ≤ 8) (kr : ∀ v h', Q1 (.inl v) h' → gG (d + 1) mc ms M (pc + 3) ls (v.toList ++ st) h' Q) (kt : ∀ a h', Q1 (.inr a) h' → gTh (d + 1) mc ms M pc ls a h' Q) : gG (d + 1) (mc + mc1) (ms + ms1) M pc ls stk h Q := by
  intro E p l e R s m args below meth c H locs cells slots MC MS la X hr hl r1 r2 r3 r4 r5 r6
  have hts := X.1.2.2.2.2
  have hR : (gRoom d mc1 ms1).frames + 1 ≤ R.frames ∧ 8 + (mL M1 + 11) + (gRoom d mc1 ms1).locals ≤ R.locals := ⟨r1, by show 8 + (mL M1 + 11) + 64 * d ≤ R.locals; have := hv.2.2.2.2.2.2.2.1; omega⟩
  subst hst
  obtain ⟨q1, q2, q3, q4, q5, q6, hh, hL, hi, hds⟩ := hv
  obtain ⟨hcell, hgv⟩ := hb.use X hr
  have hM := hC l E
  rw [List.map_cons, hgv] at hM
  have hp : PreV s H C (gphi E b) (va_Pc (.ref (gphi E b) :: As.map (gv E)) (gPre E h)) (As.map (gv E)) := ⟨gPre_blind, hcell, fun U hU hW => ⟨rfl, gPre_moved hW hU X.2.2.2.2.2.1 X.2.2.2.2.2.2 hr⟩⟩
  have hw := mWs_nil hh
  have hT : GoodIn lw_all (va_wsSU (mOwn M) index (mY M1) (mWs M1)) := by
    rw [hw]
    refine lw_app ?_ (lw_meth q6)
    intro w hw9
    simp only [List.mem_cons, List.not_mem_nil, or_false] at hw9
    rcases hw9 with e1 | e1 | e1 | e1 | e1 <;> rw [e1] <;> assumption
  exact g_run X hr hl r1 r2 r3 r4 r5 r6 kr kt (vx_runSU (C := C) (X.2.2.2.2.2.1.1 ci _ hcl).2 (As := As.map (gv E)) (rest := st.map (gv E)) X.1 hM (va_cwSU n hts hT hw rfl rfl ⟨hi, hds⟩ hR) hp rfl (by rw [List.length_map]; exact hn) hl.1 (by rw [List.map_append, List.map_reverse, List.map_cons, hgv]) (lv_room (gG_cat X.2.2.2.2.2.2 hcat)) dc ⟨by omega, by omega⟩)
abbrev gU (own : String) (index : Nat) (C owner : String) (x : MethodName) (M1 : gM) (n : Nat) : Prop := Cond.methodLink own index x ∈ lw_all ∧ Cond.sameMethod x.cls owner x.name x.desc ∈ lw_all ∧ Cond.selects C x (mY M1) ∈ lw_all ∧ Cond.instanceMethod (mY M1) ∈ lw_all ∧ Cond.initialized (mY M1).cls ∈ lw_all ∧ gCd M1 ∧ mH M1 = [] ∧ mL M1 ≤ 45 ∧ gNoMH ⟨owner, x.name, x.desc⟩ ∧ gDs x n ∧ (mY M1 = ⟨owner, x.name, x.desc⟩ ∨ (Cond.instanceMethod ⟨owner, x.name, x.desc⟩ ∈ lw_all ∧ ∃ b0 m0 r0, Cond.code ⟨owner, x.name, x.desc⟩ b0 m0 r0 ∈ lw_all) ∨ Cond.declares ⟨owner, x.name, x.desc⟩ ∈ lw_tbl)
theorem r_callU {d mc ms mc1 ms1 : Nat} {M M1 : gM} {pc : Nat} {ls : gLs} {st stk : List Value} {h : Hp} {Q Q1 : gQ} {b : Nat} {As : List Value} {n index : Nat} {C owner : String} {x : MethodName} (dc : decode (mC M) pc = .ok (.invokevirtual index, 3)) (hv : gU (mOwn M) index C owner x M1 n) (hC : gC d mc1 ms1 M1 (.ref b :: As) h Q1) (hb : gRecv h b C) (hn : As.length = n) (hst : stk = As.reverse ++ .ref b :: st) (hcat : (st.map fun v => v.category).sum ≤ 8) (kr : ∀ v h', Q1 (.inl v) h' → gG (d + 1) mc ms M (pc + 3) ls (v.toList ++ st) h' Q) (kt : ∀ a h', Q1 (.inr a) h' → gTh (d + 1) mc ms M pc ls a h' Q) : gG (d + 1) (mc + mc1) (ms + ms1) M pc ls stk h Q := by
  intro E p l e R s m args below meth c H locs cells slots MC MS la X hr hl r1 r2 r3 r4 r5 r6
  have hts := X.1.2.2.2.2
  have hR : (gRoom d mc1 ms1).frames + 1 ≤ R.frames ∧ 8 + (mL M1 + 11) + (gRoom d mc1 ms1).locals ≤ R.locals := ⟨r1, by show 8 + (mL M1 + 11) + 64 * d ≤ R.locals; have := hv.2.2.2.2.2.2.2.1; omega⟩
  subst hst
  obtain ⟨q1, q2, q3, q4, q5, q6, hh, hL, hmh, hds, hor⟩ := hv
  obtain ⟨hcell, hgv⟩ := hb.use X hr
  have hM := hC l E
  rw [List.map_cons, hgv] at hM
  have hp : PreV s H C (gphi E b) (va_Pc (.ref (gphi E b) :: As.map (gv E)) (gPre E h)) (As.map (gv E)) := ⟨gPre_blind, hcell, fun U hU hW => ⟨rfl, gPre_moved hW hU X.2.2.2.2.2.1 X.2.2.2.2.2.2 hr⟩⟩
  have hw := mWs_nil hh
  have hT : GoodIn lw_all (va_wsU (mOwn M) index C owner x (mY M1) (mWs M1)) := by
    rw [hw]
    refine lw_app ?_ (lw_meth q6)
    intro w hw9
    simp only [List.mem_cons, List.not_mem_nil, or_false] at hw9
    rcases hw9 with e1 | e1 | e1 | e1 | e1 <;> rw [e1] <;> assumption
  have hcw : va_CU R s args (mOwn M) C owner index x (mY M1) (mC M1) (mL M1) (mRt M1) (mWs M1) (gRoom d mc1 ms1) mc1 ms1 n := by
    rcases hor with hy | ⟨hi0, b0, m0, r0, hy⟩ | hy
    · exact va_cwU n hts hT hw rfl rfl hy ⟨hmh.1, hmh.2, hds⟩ hR
    · refine va_cwO n hts ?_ hw rfl rfl hy ⟨hmh.1, hmh.2, hds⟩ hR
      rw [hw]
      refine lw_app ?_ (lw_meth q6)
      intro w hw9
      simp only [List.mem_cons, List.not_mem_nil, or_false] at hw9
      rcases hw9 with e1 | e1 | e1 | e1 | e1 | e1 <;> rw [e1] <;> assumption
    · exact va_cwA n hts hT hw rfl rfl (X.2.2.2.2.2.2.2.1 _ hy rfl) ⟨hmh.1, hmh.2, hds⟩ hR
  exact g_run X hr hl r1 r2 r3 r4 r5 r6 kr kt (vx_runU (C := C) (As := As.map (gv E)) (rest := st.map (gv E)) X.1 hM hcw hp rfl (by rw [List.length_map]; exact hn) hl.1 (by rw [List.map_append, List.map_reverse, List.map_cons, hgv]) (lv_room (gG_cat X.2.2.2.2.2.2 hcat)) dc ⟨by omega, by omega⟩)
abbrev gIf (own : String) (index : Nat) (C : String) (x : MethodName) (M1 : gM) (n : Nat) : Prop := Cond.methodLink own index x ∈ lw_all ∧ Cond.selects C x (mY M1) ∈ lw_all ∧ Cond.instanceMethod (mY M1) ∈ lw_all ∧ Cond.initialized (mY M1).cls ∈ lw_all ∧ gCd M1 ∧ mH M1 = [] ∧ mL M1 ≤ 45 ∧ gNoMH x ∧ gDs x n ∧ (C, x, mY M1) ∈ gFw
theorem r_callF {d mc ms mc1 ms1 : Nat} {M M1 : gM} {pc : Nat} {ls : gLs} {st stk : List Value} {h : Hp} {Q Q1 : gQ} {b : Nat} {As : List Value} {n count index : Nat} {C : String} {x : MethodName} {ci : Nat} {T9 : u_T} {N9 : Nat} (dc : decode (mC M) pc = .ok (.invokeinterface index count, 5)) (hv : gIf (mOwn M) index C x M1 n) (hcl : gcl[ci]? = some (C, T9, N9)) (hC : gC d mc1 ms1 M1 (.ref b :: As) h Q1) (hb : gRecv h b C) (hn : As.length = n) (hst : stk = As.reverse ++ .ref b :: st) (hcat : (st.map fun v => v.category).sum ≤ 8) (kr : ∀ v h', Q1 (.inl v) h' → gG (d + 1) mc ms M (pc + 5) ls (v.toList ++ st) h' Q) (kt : ∀ a h', Q1 (.inr a) h' → gTh (d + 1) mc ms M pc ls a h' Q) : gG (d + 1) (mc + mc1) (ms + ms1) M pc ls stk h Q := by
  intro E p l e R s m args below meth c H locs cells slots MC MS la X hr hl r1 r2 r3 r4 r5 r6
  have hts := X.1.2.2.2.2
  have hR : (gRoom d mc1 ms1).frames + 1 ≤ R.frames ∧ 8 + (mL M1 + 11) + (gRoom d mc1 ms1).locals ≤ R.locals := ⟨r1, by show 8 + (mL M1 + 11) + 64 * d ≤ R.locals; have := hv.2.2.2.2.2.2.1; omega⟩
  subst hst
  obtain ⟨q1, q2, q3, q4, q5, hh, hL, hmh, hds, hfw⟩ := hv
  obtain ⟨hcell, hgv⟩ := hb.use X hr
  have hM := hC l E
  rw [List.map_cons, hgv] at hM
  have hp : PreV s H C (gphi E b) (va_Pc (.ref (gphi E b) :: As.map (gv E)) (gPre E h)) (As.map (gv E)) := ⟨gPre_blind, hcell, fun U hU hW => ⟨rfl, gPre_moved hW hU X.2.2.2.2.2.1 X.2.2.2.2.2.2 hr⟩⟩
  have hw := mWs_nil hh
  have hT : GoodIn lw_all (va_wsF (mOwn M) index C x (mY M1) (mWs M1)) := by
    rw [hw]
    refine lw_app ?_ (lw_meth q5)
    intro w hw9
    simp only [List.mem_cons, List.not_mem_nil, or_false] at hw9
    rcases hw9 with e1 | e1 | e1 | e1 <;> rw [e1] <;> assumption
  exact g_run5 X hr hl r1 r2 r3 r4 r5 r6 kr kt (vx_runF (C := C) (X.2.2.2.2.2.1.1 ci _ hcl).2 (As := As.map (gv E)) (rest := st.map (gv E)) X.1 hM (va_cwF n hts hT hw rfl rfl (X.2.2.2.2.2.2.2.2.2.1 _ hfw) ⟨hmh.1, hmh.2, hds⟩ hR) hp rfl (by rw [List.length_map]; exact hn) hl.1 (by rw [List.map_append, List.map_reverse, List.map_cons, hgv]) (lv_room (gG_cat X.2.2.2.2.2.2 hcat)) dc ⟨by omega, by omega⟩)
