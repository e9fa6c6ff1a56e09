/-- a field's link: plain, or to a nest mate's -/
abbrev gFl (own : String) (index : Nat) (ref n t : String) : Prop := Cond.fieldLink own index ref n t ∈ lw_all ∨ ∃ host, Cond.fieldLinkNest own index ref n t host ∈ lw_tbl
abbrev gSm (ref : String) (f : String × String × String × Bool) : Prop := ref = f.1 ∨ Cond.sameField ref f.1 f.2.1 f.2.2.1 ∈ lw_all
theorem gSm.use {ref : String} {f : String × String × String × Bool} {s : State} {args : Array Value} (h : gSm ref f) (hts : ∀ w ∈ lw_all, w.before args s = true) : ∀ x, s.fieldFound? f.1 f.2.1 f.2.2.1 = some x → s.fieldFound? ref f.2.1 f.2.2.1 = some x := by
  rcases h with rfl | h
  · exact fun _ h => h
  · exact u_same (hts _ h)
theorem r_get {d mc ms : Nat} {M : gM} {pc : Nat} {ls : gLs} {st : List Value} {h : Hp} {Q : gQ} {a ci k index : Nat} {C ref : String} {T : u_T} {N : Nat} {v : Value} (dc : decode (mC M) pc = .ok (.getfield index, 3)) (hs : hS h a = .inl ci) (hc : gcl[ci]? = some (C, T, N)) (hk : k < N) (hf : gFl (mOwn M) index ref (T k).2.1 (T k).2.2.1) (hsm : gSm ref (T k)) (hv : ∀ E, gfv E h ci a k = gv E v) (kk : gG d mc ms M (pc + 3) ls (v :: st) h Q) : gG d mc ms M pc ls (.ref a :: st) h Q := by
  intro E p l e R s m args below meth c H locs cells slots MC MS la X hr hl r1 r2 r3 r4 r5 r6
  obtain ⟨h21, hlt⟩ := hr.1.rng hs (g_ne hc)
  have k1 := kk E p l e R s m args below meth c H locs cells slots MC MS la X hr hl r1 r2 r3 r4 r5 r6
  show W p l e R s m args below meth c H locs cells slots _ (F0 m pc la (gv E (.ref a) :: st.map (gv E)))
  rw [gv_ref h21]
  have hP := g_one (hr.1.o hs hc)
  have hv2 : ((List.range (gNF ci)).map (gfv E h ci a))[k]? = some (gv E v) := by
    rw [g_nf hc, List.getElem?_map, List.getElem?_range hk, ← hv E]
    rfl
  rcases hf with q | ⟨host, q⟩
  · exact va_get (D := gD E) (ci := ci) (v := gv E v) X.1.1 X.1.2.1 X.1.2.2.2.2 (g_in ci hc) X.1.2.2.2.1 X.2.2.2.2.2.1 hP 0 rfl hc k hk (X.1.2.2.2.2 _ q) (hsm.use X.1.2.2.2.2) hv2 dc k1
  · exact va_getN (D := gD E) (ci := ci) (v := gv E v) X.1.1 X.1.2.1 X.1.2.2.2.2 (g_in ci hc) X.1.2.2.2.1 X.2.2.2.2.2.1 hP 0 rfl hc k hk (va_Nw.use rfl (X.2.2.2.2.2.2.2.1 _ q rfl)) (hsm.use X.1.2.2.2.2) hv2 dc k1
theorem gfv_i {h : Hp} {ci a k : Nat} (ht : gisr (gty ci k) = false) : ∀ E, gfv E h ci a k = gv E (.int (hI h a k)) := by
  intro E
  unfold gfv
  rw [if_neg (by rw [ht]; decide)]
  rfl
theorem gfv_r {h : Hp} {ci a k : Nat} {o : Option Nat} (ht : gisr (gty ci k) = true) (ho : hR h a k = o) : ∀ E, gfv E h ci a k = gv E (grv o) := by
  intro E
  unfold gfv
  rw [if_pos ht, ho]
theorem gputW {p : Program} {l : Launch} {e : Env} {R : Room} {s : State} {m : MethodId} {args : Array Value} {below : List Frame} {meth : Method} {c : Code} {H : Heap} {locs : List Loc} {cells slots : Nat} {Q : State → Prop} {E : gE} {M : gM} {pc : Nat} {la : Array Slot} {rest : List Value} {o ci k index : Nat} {C ref : String} {T : u_T} {N : Nat} {fs : List Value} {v : Value}
    (X : gX E p s m args meth c M) (hat : va_at (gD E) gcl (o, .inr (ci, fs)) H) (hc : gcl[ci]? = some (C, T, N)) (hk : k < N) (hlen : k < fs.length) (hf : gFl (mOwn M) index ref (T k).2.1 (T k).2.2.1) (hsm : gSm ref (T k))
    (hfin : (T k).2.2.2 = false ∨ ((T k).2.2.2 = true ∧ (mY M).name = "<init>" ∧ (T k).1 = mOwn M ∧ Cond.fieldLink (mOwn M) index ref (T k).2.1 (T k).2.2.1 ∈ lw_all)) (hn : narrow (gty ci k) v = v) (hfit : fits (gty ci k) v = true) (dc : decode (mC M) pc = .ok (.putfield index, 3))
    (kk : ∀ (H1 : Heap) (j : Nat), va_at (gD E) gcl (o, .inr (ci, fs.set k v)) H1 → H1.size = H.size → (∀ q : Nat, q ≠ o → H1[q]? = H[q]?) → W p l e R s m args below meth c H1 (locs ++ [⟨o, j⟩]) cells slots Q (F0 m (pc + 3) la rest)) : W p l e R s m args below meth c H locs cells slots Q (F0 m pc la (v :: .ref o :: rest)) := by
  obtain ⟨⟨hx, hb, hml, hown, hts⟩, hrt, hlk, hnm, htab, hK, hnw⟩ := X
  have hap := va_apart (own := mOwn M) hts (g_in ci hc) (gty ci) (g_ty ci hc) (g_nm ci hc) hK hc
  obtain ⟨r, h1, cell, q1, q2, q3, q4⟩ := hat
  have hr : r = (C, T, N) := Option.some.inj (h1.symm.trans hc)
  subst hr
  obtain ⟨hS9, hfc, kC, hkC, hkind⟩ := hK.1 ci _ hc
  obtain ⟨cf, kf, fi, f, hi, hsl⟩ := hS9 k hk
  have hsame := hsm.use hts
  have hlay := hts _ (g_in ci hc _ (u_in_lay hk))
  unfold u_lay at hlay
  have hst := (u_facts hfc hkC (u_lays hts (g_in ci hc) hk) hi).1
  have hd := g_ty ci hc k hk
  have hslot : f.slot < cell.slots.size := by rw [hsl]; exact k2_hasslot (q4 k hk)
  have done : ∀ H' : Heap, H'[o]? = some (cell.setSlot f.slot v) → H'.size = H.size → (∀ q, q ≠ o → H'[q]? = H[q]?) → W p l e R s m args below meth c H' (locs ++ [⟨o, f.slot⟩]) cells slots Q (F0 m (pc + 3) la rest) := fun H' e1 e2 e3 => by
    rw [hsl] at e1 ⊢
    exact kk H' _ ⟨_, hc, t_OB.to (V := updV (vp_V fs) k v) ⟨_, e1, q2, q3, t_set q4 hap hk v⟩ (fun j _ => vp_updV_set hlen v j)⟩ e2 e3
  rcases hfin with hfin | ⟨hfin, hini, hdecl, hlf⟩
  · rw [if_neg (by rw [hfin]; decide)] at hlay
    have h6 := u_store hfc hkC hkind hlay hi hd hn hfit
    rcases hf with q | ⟨host, q⟩
    · exact W.putK hx hb (f := f) ⟨hown, hts _ q, ⟨_, _, _, hsame _ hi⟩, hst⟩ (by rw [q2]; exact h6) q1 q3 hslot rfl rfl dc done
    · exact va_WputK hx hb (f := f) hown (va_Nw.use rfl (hnw.2.1 _ q rfl)) (hsame _ hi) hst (by rw [q2]; exact h6) q1 q3 hslot rfl rfl dc done
  · rw [if_pos hfin] at hlay
    have hcf : m.cls = cf := by
      obtain ⟨_, _, c', _, _, _, -, -, hf', -, -, -, hown2, -⟩ := Cond.laysFinal_spec hlay
      have e1 : c' = cf := by have := hi.symm.trans hf'; simp at this; exact this.1.symm
      rw [hdecl] at hown2
      rw [← e1]; exact Option.some.inj (hown.symm.trans hown2)
    have h6 := u_fits hfc hkC hkind (Or.inr hlay) hi hd hn hfit
    exact W.putFinK hx hb hown (hts _ hlf) (hsame _ hi) hst hcf (hnm.trans hini) (by rw [q2]; exact h6) q1 q3 hslot rfl rfl dc done
theorem gcell_wI {E : gE} {h : Hp} {a b k : Nat} {x : Int32} (hb : b ≠ a) : gcell E (wI h a k x) b = gcell E h b := gcell_c rfl (funext fun j => if_neg fun q => hb q.1) rfl
theorem gcell_wR {E : gE} {h : Hp} {a b k : Nat} {x : Option Nat} (hb : b ≠ a) : gcell E (wR h a k x) b = gcell E h b := gcell_c rfl rfl (funext fun j => if_neg fun q => hb q.1)
abbrev gFin (M : gM) (index : Nat) (ref : String) (f : String × String × String × Bool) : Prop := f.2.2.2 = false ∨ (f.2.2.2 = true ∧ (mY M).name = "<init>" ∧ f.1 = mOwn M ∧ Cond.fieldLink (mOwn M) index ref f.2.1 f.2.2.1 ∈ lw_all)
theorem r_puti {d mc ms : Nat} {M : gM} {pc : Nat} {ls : gLs} {st : List Value} {h : Hp} {Q : gQ} {a ci k index : Nat} {C ref : String} {T : u_T} {N : Nat} {x : Int32} (dc : decode (mC M) pc = .ok (.putfield index, 3)) (hs : hS h a = .inl ci) (hc : gcl[ci]? = some (C, T, N)) (hk : k < N) (hf : gFl (mOwn M) index ref (T k).2.1 (T k).2.2.1) (hsm : gSm ref (T k)) (hfin : gFin M index ref (T k)) (ht : gisr (gty ci k) = false) (hn : narrow (gty ci k) (.int x) = .int x) (hfit : fits (gty ci k) (.int x) = true) (kk : gG d mc ms M (pc + 3) ls st (wI h a k x) Q) : gG d mc ms M pc ls (.int x :: .ref a :: st) h Q := by
  intro E p l e R s m args below meth c H locs cells slots MC MS la X hr hl r1 r2 r3 r4 r5 r6
  obtain ⟨h21, hlt⟩ := hr.1.rng hs (g_ne hc)
  show W p l e R s m args below meth c H locs cells slots _ (F0 m pc la (.int x :: gv E (.ref a) :: st.map (gv E)))
  rw [gv_ref h21]
  refine gputW X (hr.1.o hs hc) hc hk (by rw [List.length_map, List.length_range, g_nf hc]; exact hk) hf hsm hfin hn hfit dc (fun H1 j e1 z o => ?_)
  refine kk E p l e R s m args below meth c H1 _ cells slots MC MS la X (hr.set h21 rfl rfl rfl (fun b hb => gcell_wI hb) ?_ z o) hl r1 r2 r3 r4 r5 r6
  have e2 : gcell E (wI h a k x) a = .inr (ci, (List.range (gNF ci)).map (gfv E (wI h a k x) ci a)) := gcell_o hs
  rw [e2, ← g_mapset (f := gfv E h ci a) (g := gfv E (wI h a k x) ci a) (k := k) (v := .int x) ?_ ?_]
  · exact e1
  · unfold gfv
    rw [if_neg (by rw [ht]; decide)]
    show Value.int (if a = a ∧ k = k then x else _) = _
    rw [if_pos ⟨rfl, rfl⟩]
  · intro j hj
    have e3 : hI (wI h a k x) a j = hI h a j := if_neg fun q => hj q.2
    unfold gfv
    rw [e3]
    rfl
theorem g_nref {ty : FieldType} (ht : gisr ty = true) {v : Value} (hv : v = .null ∨ ∃ x, v = .ref x) : narrow ty v = v ∧ fits ty v = true := by
  cases ty with
  | object n => rcases hv with rfl | ⟨x, rfl⟩ <;> exact ⟨rfl, rfl⟩
  | array t => rcases hv with rfl | ⟨x, rfl⟩ <;> exact ⟨rfl, rfl⟩
  | _ => cases ht
theorem grv_isv (o : Option Nat) : gisv (grv o) = true := by cases o <;> rfl
theorem r_putr {d mc ms : Nat} {M : gM} {pc : Nat} {ls : gLs} {st : List Value} {h : Hp} {Q : gQ} {a ci k index : Nat} {C ref : String} {T : u_T} {N : Nat} {v : Value} (o : Option Nat) (dc : decode (mC M) pc = .ok (.putfield index, 3)) (hs : hS h a = .inl ci) (hc : gcl[ci]? = some (C, T, N)) (hk : k < N) (hf : gFl (mOwn M) index ref (T k).2.1 (T k).2.2.1) (hsm : gSm ref (T k)) (hfin : gFin M index ref (T k)) (ht : gisr (gty ci k) = true) (hv : v = grv o) (kk : gG d mc ms M (pc + 3) ls st (wR h a k o) Q) : gG d mc ms M pc ls (v :: .ref a :: st) h Q := by
  intro E p l e R s m args below meth c H locs cells slots MC MS la X hr hl r1 r2 r3 r4 r5 r6
  obtain ⟨h21, hlt⟩ := hr.1.rng hs (g_ne hc)
  subst hv
  show W p l e R s m args below meth c H locs cells slots _ (F0 m pc la (gv E (grv o) :: gv E (.ref a) :: st.map (gv E)))
  rw [gv_ref h21]
  have hnr := g_nref ht (gv_isv X.2.2.2.2.2.2.1 (grv_isv o))
  refine gputW X (hr.1.o hs hc) hc hk (by rw [List.length_map, List.length_range, g_nf hc]; exact hk) hf hsm hfin hnr.1 hnr.2 dc (fun H1 j e1 z o9 => ?_)
  refine kk E p l e R s m args below meth c H1 _ cells slots MC MS la X (hr.set h21 rfl rfl rfl (fun b hb => gcell_wR hb) ?_ z o9) hl r1 r2 r3 r4 r5 r6
  have e2 : gcell E (wR h a k o) a = .inr (ci, (List.range (gNF ci)).map (gfv E (wR h a k o) ci a)) := gcell_o hs
  rw [e2, ← g_mapset (f := gfv E h ci a) (g := gfv E (wR h a k o) ci a) (k := k) (v := gv E (grv o)) ?_ ?_]
  · exact e1
  · unfold gfv
    rw [if_pos ht]
    show gv E (grv (if a = a ∧ k = k then o else _)) = _
    rw [if_pos ⟨rfl, rfl⟩]
  · intro j hj
    have e3 : hR (wR h a k o) a j = hR h a j := if_neg fun q => hj q.2
    unfold gfv
    rw [e3]
    rfl
theorem r_iald {d mc ms : Nat} {M : gM} {pc : Nat} {ls : gLs} {st : List Value} {h : Hp} {Q : gQ} {a n : Nat} {i : Int32} (dc : decode (mC M) pc = .ok (.iaload, 1)) (hs : hS h a = .inr (0, n)) (hi : vp_in i n) (kk : gG d mc ms M (pc + 1) ls (.int (hI h a i.toNatClampNeg) :: st) h Q) : gG d mc ms M pc ls (.int i :: .ref a :: st) h Q := by
  intro E p l e R s m args below meth c H locs cells slots MC MS la X hr hl r1 r2 r3 r4 r5 r6
  obtain ⟨h21, hlt⟩ := hr.1.rng hs g_nr
  show W p l e R s m args below meth c H locs cells slots _ (F0 m pc la (.int i :: gv E (.ref a) :: st.map (gv E)))
  rw [gv_ref h21]
  exact va_iald X.1.1 X.1.2.1 X.2.2.2.2.2.1 (g_one (hr.1.i hs (by decide))) 0 0 rfl rfl hi dc (kk E p l e R s m args below meth c H locs cells slots MC MS la X hr hl r1 r2 r3 r4 r5 r6)
theorem r_bald {d mc ms : Nat} {M : gM} {pc : Nat} {ls : gLs} {st : List Value} {h : Hp} {Q : gQ} {a n : Nat} {i : Int32} (dc : decode (mC M) pc = .ok (.baload, 1)) (hs : hS h a = .inr (1, n)) (hi : vp_in i n) (kk : gG d mc ms M (pc + 1) ls (.int (hI h a i.toNatClampNeg) :: st) h Q) : gG d mc ms M pc ls (.int i :: .ref a :: st) h Q := by
  intro E p l e R s m args below meth c H locs cells slots MC MS la X hr hl r1 r2 r3 r4 r5 r6
  obtain ⟨h21, hlt⟩ := hr.1.rng hs g_nr
  show W p l e R s m args below meth c H locs cells slots _ (F0 m pc la (.int i :: gv E (.ref a) :: st.map (gv E)))
  rw [gv_ref h21]
  exact va_bald X.1.1 X.1.2.1 X.2.2.2.2.2.1 (g_one (hr.1.i hs (by decide))) 0 1 rfl rfl hi dc (kk E p l e R s m args below meth c H locs cells slots MC MS la X hr hl r1 r2 r3 r4 r5 r6)
theorem r_sald {d mc ms : Nat} {M : gM} {pc : Nat} {ls : gLs} {st : List Value} {h : Hp} {Q : gQ} {a n : Nat} {i : Int32} (dc : decode (mC M) pc = .ok (.saload, 1)) (hs : hS h a = .inr (2, n)) (hi : vp_in i n) (kk : gG d mc ms M (pc + 1) ls (.int (hI h a i.toNatClampNeg) :: st) h Q) : gG d mc ms M pc ls (.int i :: .ref a :: st) h Q := by
  intro E p l e R s m args below meth c H locs cells slots MC MS la X hr hl r1 r2 r3 r4 r5 r6
  obtain ⟨h21, hlt⟩ := hr.1.rng hs g_nr
  show W p l e R s m args below meth c H locs cells slots _ (F0 m pc la (.int i :: gv E (.ref a) :: st.map (gv E)))
  rw [gv_ref h21]
  exact va_sald X.1.1 X.1.2.1 X.2.2.2.2.2.1 (g_one (hr.1.i hs (by decide))) 0 2 rfl rfl hi dc (kk E p l e R s m args below meth c H locs cells slots MC MS la X hr hl r1 r2 r3 r4 r5 r6)
theorem r_zald {d mc ms : Nat} {M : gM} {pc : Nat} {ls : gLs} {st : List Value} {h : Hp} {Q : gQ} {a n : Nat} {i : Int32} (dc : decode (mC M) pc = .ok (.baload, 1)) (hs : hS h a = .inr (3, n)) (hi : vp_in i n) (kk : gG d mc ms M (pc + 1) ls (.int (hI h a i.toNatClampNeg) :: st) h Q) : gG d mc ms M pc ls (.int i :: .ref a :: st) h Q := by
  intro E p l e R s m args below meth c H locs cells slots MC MS la X hr hl r1 r2 r3 r4 r5 r6
  obtain ⟨h21, hlt⟩ := hr.1.rng hs g_nr
  show W p l e R s m args below meth c H locs cells slots _ (F0 m pc la (.int i :: gv E (.ref a) :: st.map (gv E)))
  rw [gv_ref h21]
  exact va_zald X.1.1 X.1.2.1 X.2.2.2.2.2.1 (g_one (hr.1.i hs (by decide))) 0 3 rfl rfl hi dc (kk E p l e R s m args below meth c H locs cells slots MC MS la X hr hl r1 r2 r3 r4 r5 r6)
theorem r_aald {d mc ms : Nat} {M : gM} {pc : Nat} {ls : gLs} {st : List Value} {h : Hp} {Q : gQ} {a n t : Nat} {i : Int32} {o : Option Nat} (dc : decode (mC M) pc = .ok (.aaload, 1)) (hs : hS h a = .inr (t, n)) (ht : t = 4 ∨ t = 5 ∨ t = 6) (hi : vp_in i n) (ho : hR h a i.toNatClampNeg = o) (hb : ∀ b, o = some b → 21 ≤ b) (kk : gG d mc ms M (pc + 1) ls (grv o :: st) h Q) : gG d mc ms M pc ls (.int i :: .ref a :: st) h Q := by
  intro E p l e R s m args below meth c H locs cells slots MC MS la X hr hl r1 r2 r3 r4 r5 r6
  obtain ⟨h21, hlt⟩ := hr.1.rng hs g_nr
  have k1 := kk E p l e R s m args below meth c H locs cells slots MC MS la X hr hl r1 r2 r3 r4 r5 r6
  show W p l e R s m args below meth c H locs cells slots _ (F0 m pc la (.int i :: gv E (.ref a) :: st.map (gv E)))
  rw [gv_ref h21]
  have e1 : gv E (grv o) = va_rf ((hR h a i.toNatClampNeg).map (gphi E)) := by
    rw [ho]
    cases o with
    | none => rfl
    | some b => exact gv_ref (hb b rfl)
  rw [List.map_cons, e1] at k1
  have ht4 : ¬ t < 4 := by omega
  rcases ht with rfl | rfl | rfl
  · exact va_aldq (C := RX7) X.1.1 X.1.2.1 X.2.2.2.2.2.1 (g_one (hr.1.r hs ht4)) 0 4 rfl rfl hi dc k1
  · exact va_aldq (C := RX14) X.1.1 X.1.2.1 X.2.2.2.2.2.1 (g_one (hr.1.r hs ht4)) 0 5 rfl rfl hi dc k1
  · exact va_aldq (C := RX5) X.1.1 X.1.2.1 X.2.2.2.2.2.1 (g_one (hr.1.r hs ht4)) 0 6 rfl rfl hi dc k1
theorem r_alen {d mc ms : Nat} {M : gM} {pc : Nat} {ls : gLs} {st : List Value} {h : Hp} {Q : gQ} {a n t : Nat} (dc : decode (mC M) pc = .ok (.arraylength, 1)) (hs : hS h a = .inr (t, n)) (ht : t < 4) (kk : gG d mc ms M (pc + 1) ls (.int (Int32.ofNat n) :: st) h Q) : gG d mc ms M pc ls (.ref a :: st) h Q := by
  intro E p l e R s m args below meth c H locs cells slots MC MS la X hr hl r1 r2 r3 r4 r5 r6
  obtain ⟨h21, hlt⟩ := hr.1.rng hs g_nr
  have k1 := kk E p l e R s m args below meth c H locs cells slots MC MS la X hr hl r1 r2 r3 r4 r5 r6
  show W p l e R s m args below meth c H locs cells slots _ (F0 m pc la (gv E (.ref a) :: st.map (gv E)))
  rw [gv_ref h21]
  have hP := g_one (hr.1.i hs ht)
  match t, ht, hP with
  | 0, ht, hP => exact va_alen X.1.1 X.1.2.1 X.2.2.2.2.2.1 hP 0 0 rfl rfl rfl dc k1
  | 1, ht, hP => exact va_alen X.1.1 X.1.2.1 X.2.2.2.2.2.1 hP 0 1 rfl rfl rfl dc k1
  | 2, ht, hP => exact va_alen X.1.1 X.1.2.1 X.2.2.2.2.2.1 hP 0 2 rfl rfl rfl dc k1
  | 3, ht, hP => exact va_alen X.1.1 X.1.2.1 X.2.2.2.2.2.1 hP 0 3 rfl rfl rfl dc k1
  | t + 4, ht, hP => omega
theorem r_iast {d mc ms : Nat} {M : gM} {pc : Nat} {ls : gLs} {st : List Value} {h : Hp} {Q : gQ} {a n : Nat} {i x : Int32} (dc : decode (mC M) pc = .ok (.iastore, 1)) (hs : hS h a = .inr (0, n)) (hi : vp_in i n) (kk : gG d mc ms M (pc + 1) ls st (wI h a i.toNatClampNeg x) Q) : gG d mc ms M pc ls (.int x :: .int i :: .ref a :: st) h Q := by
  intro E p l e R s m args below meth c H locs cells slots MC MS la X hr hl r1 r2 r3 r4 r5 r6
  obtain ⟨h21, hlt⟩ := hr.1.rng hs g_nr
  show W p l e R s m args below meth c H locs cells slots _ (F0 m pc la (.int x :: .int i :: gv E (.ref a) :: st.map (gv E)))
  rw [gv_ref h21]
  refine W.iast X.1.1 X.1.2.1 (hr.1.i hs (by decide)) ((X.2.2.2.2.2.1.2 0 _ rfl).1 n (fun j => .int (hI h a j))) (fun q => by cases q) (by show ¬ (i < 0 ∨ (arrV _ _ _).slots.size ≤ _); rw [arrV_size]; exact hi) rfl rfl dc fun H1 e9 z oq => ?_
  refine kk E p l e R s m args below meth c H1 _ cells slots MC MS la X (hr.set h21 rfl rfl rfl (fun b hb => gcell_wI hb) ?_ z oq) hl r1 r2 r3 r4 r5 r6
  have e2 : gcell E (wI h a i.toNatClampNeg x) a = .inl (gT E 0, n, .inl (hI (wI h a i.toNatClampNeg x) a)) := gcell_i hs (by decide)
  rw [e2]
  show H1[gphi E a]? = some (vp_cell _ _)
  rw [e9, vp_cell_i, vp_cell_i, arrV_store]
  congr 2
  funext q
  by_cases hq : q = i.toNatClampNeg
  · subst hq
    simp [updV, wI, hI, u2, vp_nar]
    try rfl
  · simp [updV, wI, hI, u2, hq]
theorem r_bast {d mc ms : Nat} {M : gM} {pc : Nat} {ls : gLs} {st : List Value} {h : Hp} {Q : gQ} {a n : Nat} {i x : Int32} (dc : decode (mC M) pc = .ok (.bastore, 1)) (hs : hS h a = .inr (1, n)) (hi : vp_in i n) (kk : gG d mc ms M (pc + 1) ls st (wI h a i.toNatClampNeg (vp_nar .byte x)) Q) : gG d mc ms M pc ls (.int x :: .int i :: .ref a :: st) h Q := by
  intro E p l e R s m args below meth c H locs cells slots MC MS la X hr hl r1 r2 r3 r4 r5 r6
  obtain ⟨h21, hlt⟩ := hr.1.rng hs g_nr
  show W p l e R s m args below meth c H locs cells slots _ (F0 m pc la (.int x :: .int i :: gv E (.ref a) :: st.map (gv E)))
  rw [gv_ref h21]
  refine W.bast X.1.1 X.1.2.1 (hr.1.i hs (by decide)) ((X.2.2.2.2.2.1.2 1 _ rfl).1 n (fun j => .int (hI h a j))) (fun q => by cases q) (by show ¬ (i < 0 ∨ (arrV _ _ _).slots.size ≤ _); rw [arrV_size]; exact hi) rfl rfl dc fun H1 e9 z oq => ?_
  refine kk E p l e R s m args below meth c H1 _ cells slots MC MS la X (hr.set h21 rfl rfl rfl (fun b hb => gcell_wI hb) ?_ z oq) hl r1 r2 r3 r4 r5 r6
  have e2 : gcell E (wI h a i.toNatClampNeg (vp_nar .byte x)) a = .inl (gT E 1, n, .inl (hI (wI h a i.toNatClampNeg (vp_nar .byte x)) a)) := gcell_i hs (by decide)
  rw [e2]
  show H1[gphi E a]? = some (vp_cell _ _)
  rw [e9, vp_cell_i, vp_cell_i, arrV_store]
  congr 2
  funext q
  by_cases hq : q = i.toNatClampNeg
  · subst hq
    simp [updV, wI, hI, u2, vp_nar]
    try rfl
  · simp [updV, wI, hI, u2, hq]
theorem r_sast {d mc ms : Nat} {M : gM} {pc : Nat} {ls : gLs} {st : List Value} {h : Hp} {Q : gQ} {a n : Nat} {i x : Int32} (dc : decode (mC M) pc = .ok (.sastore, 1)) (hs : hS h a = .inr (2, n)) (hi : vp_in i n) (kk : gG d mc ms M (pc + 1) ls st (wI h a i.toNatClampNeg (vp_nar .short x)) Q) : gG d mc ms M pc ls (.int x :: .int i :: .ref a :: st) h Q := by
  intro E p l e R s m args below meth c H locs cells slots MC MS la X hr hl r1 r2 r3 r4 r5 r6
  obtain ⟨h21, hlt⟩ := hr.1.rng hs g_nr
  show W p l e R s m args below meth c H locs cells slots _ (F0 m pc la (.int x :: .int i :: gv E (.ref a) :: st.map (gv E)))
  rw [gv_ref h21]
  refine W.sast X.1.1 X.1.2.1 (hr.1.i hs (by decide)) ((X.2.2.2.2.2.1.2 2 _ rfl).1 n (fun j => .int (hI h a j))) (fun q => by cases q) (by show ¬ (i < 0 ∨ (arrV _ _ _).slots.size ≤ _); rw [arrV_size]; exact hi) rfl rfl dc fun H1 e9 z oq => ?_
  refine kk E p l e R s m args below meth c H1 _ cells slots MC MS la X (hr.set h21 rfl rfl rfl (fun b hb => gcell_wI hb) ?_ z oq) hl r1 r2 r3 r4 r5 r6
  have e2 : gcell E (wI h a i.toNatClampNeg (vp_nar .short x)) a = .inl (gT E 2, n, .inl (hI (wI h a i.toNatClampNeg (vp_nar .short x)) a)) := gcell_i hs (by decide)
  rw [e2]
  show H1[gphi E a]? = some (vp_cell _ _)
  rw [e9, vp_cell_i, vp_cell_i, arrV_store]
  congr 2
  funext q
  by_cases hq : q = i.toNatClampNeg
  · subst hq
    simp [updV, wI, hI, u2, vp_nar]
    try rfl
  · simp [updV, wI, hI, u2, hq]
theorem r_zast {d mc ms : Nat} {M : gM} {pc : Nat} {ls : gLs} {st : List Value} {h : Hp} {Q : gQ} {a n : Nat} {i x : Int32} (dc : decode (mC M) pc = .ok (.bastore, 1)) (hs : hS h a = .inr (3, n)) (hi : vp_in i n) (kk : gG d mc ms M (pc + 1) ls st (wI h a i.toNatClampNeg (vp_nar .boolean x)) Q) : gG d mc ms M pc ls (.int x :: .int i :: .ref a :: st) h Q := by
  intro E p l e R s m args below meth c H locs cells slots MC MS la X hr hl r1 r2 r3 r4 r5 r6
  obtain ⟨h21, hlt⟩ := hr.1.rng hs g_nr
  show W p l e R s m args below meth c H locs cells slots _ (F0 m pc la (.int x :: .int i :: gv E (.ref a) :: st.map (gv E)))
  rw [gv_ref h21]
  refine W.zast X.1.1 X.1.2.1 (hr.1.i hs (by decide)) ((X.2.2.2.2.2.1.2 3 _ rfl).1 n (fun j => .int (hI h a j))) (fun q => by cases q) (by show ¬ (i < 0 ∨ (arrV _ _ _).slots.size ≤ _); rw [arrV_size]; exact hi) rfl rfl dc fun H1 e9 z oq => ?_
  refine kk E p l e R s m args below meth c H1 _ cells slots MC MS la X (hr.set h21 rfl rfl rfl (fun b hb => gcell_wI hb) ?_ z oq) hl r1 r2 r3 r4 r5 r6
  have e2 : gcell E (wI h a i.toNatClampNeg (vp_nar .boolean x)) a = .inl (gT E 3, n, .inl (hI (wI h a i.toNatClampNeg (vp_nar .boolean x)) a)) := gcell_i hs (by decide)
  rw [e2]
  show H1[gphi E a]? = some (vp_cell _ _)
  rw [e9, vp_cell_i, vp_cell_i, arrV_store]
  congr 2
  funext q
  by_cases hq : q = i.toNatClampNeg
  · subst hq
    simp [updV, wI, hI, u2, vp_nar]
    try rfl
  · simp [updV, wI, hI, u2, hq]
theorem r_aast {d mc ms : Nat} {M : gM} {pc : Nat} {ls : gLs} {st : List Value} {h : Hp} {Q : gQ} {a n t b cb : Nat} {i : Int32} {EC Cb : String} {Tb : u_T} {Nb : Nat} (dc : decode (mC M) pc = .ok (.aastore, 1)) (hs : hS h a = .inr (t, n)) (ht : (t = 4 ∧ EC = RX7) ∨ (t = 5 ∧ EC = RX14) ∨ (t = 6 ∧ EC = RX5)) (hi : vp_in i n) (hsb : hS h b = .inl cb) (hcb : gcl[cb]? = some (Cb, Tb, Nb)) (hcast : Cb = EC ∨ Cond.castable Cb EC ∈ lw_tbl) (kk : gG d mc ms M (pc + 1) ls st (wR h a i.toNatClampNeg (some b)) Q) : gG d mc ms M pc ls (.ref b :: .int i :: .ref a :: st) h Q := by
  intro E p l e R s m args below meth c H locs cells slots MC MS la X hr hl r1 r2 r3 r4 r5 r6
  obtain ⟨h21, hlt⟩ := hr.1.rng hs g_nr
  obtain ⟨hb21, hblt⟩ := hr.1.rng hsb (g_ne hcb)
  show W p l e R s m args below meth c H locs cells slots _ (F0 m pc la (gv E (.ref b) :: .int i :: gv E (.ref a) :: st.map (gv E)))
  rw [gv_ref h21, gv_ref hb21]
  have ht4 : ¬ t < 4 := by omega
  have hK := X.2.2.2.2.2.1
  obtain ⟨r, q0, cellV, q1, q2, q3, -⟩ := hr.1.o hsb hcb
  have hr9 : r = (Cb, Tb, Nb) := Option.some.inj (q0.symm.trans hcb)
  subst hr9
  obtain ⟨-, hfc, kC, hkC, -⟩ := hK.1 cb _ hcb
  have hte : ∃ t0 : Nat, (gtys E)[t0]? = some (gT E t, FieldType.object EC) := by
    rcases ht with ⟨rfl, rfl⟩ | ⟨rfl, rfl⟩ | ⟨rfl, rfl⟩
    · exact ⟨4, rfl⟩
    · exact ⟨5, rfl⟩
    · exact ⟨6, rfl⟩
  obtain ⟨t0, ht0⟩ := hte
  obtain ⟨kA, comp, k1, k2, k3, -⟩ := (hK.2 t0 _ ht0).2
  obtain ⟨kE, hkE, -⟩ := Vm.findClass_spec k3
  have hasg : s.vm.assignable cellV.cls comp = true := by
    rw [q2]
    rcases hcast with rfl | hw
    · cases Option.some.inj (hfc.symm.trans k3)
      exact va_asg _ _
    · obtain ⟨c1, c2, e1, e2, e3⟩ := Cond.castable_spec (args := #[]) (s := s) (X.2.2.2.2.2.2.2.1 _ hw rfl)
      cases Option.some.inj (hfc.symm.trans e1)
      cases Option.some.inj (k3.symm.trans e2)
      exact e3
  refine W.aast X.1.1 X.1.2.1 (hr.1.r hs ht4) (fun q h => by cases h) (fun h => by cases h) k1 k2 rfl hkE ⟨fun q => hi (Or.inl q), by show _ < (arrV _ _ _).slots.size; rw [arrV_size]; exact Nat.not_le.mp fun q => hi (Or.inr q)⟩ q1 (fun q h => by rw [q3] at h; cases h) (by rw [q2]; exact hkC) hasg rfl rfl dc fun H1 e9 z oq => ?_
  refine kk E p l e R s m args below meth c H1 _ cells slots MC MS la X (hr.set h21 rfl rfl rfl (fun b hb => gcell_wR hb) ?_ z oq) hl r1 r2 r3 r4 r5 r6
  have e2 : gcell E (wR h a i.toNatClampNeg (some b)) a = .inl (gT E t, n, .inr (.inr (.inr (.inr (fun j => (hR (wR h a i.toNatClampNeg (some b)) a j).map (gphi E)))))) := gcell_r hs ht4
  rw [e2]
  show H1[gphi E a]? = some (vp_cell _ _)
  rw [e9, vp_cell_q, vp_cell_q, arrV_store]
  congr 2
  funext q
  by_cases hq : q = i.toNatClampNeg
  · subst hq
    simp [updV, wR, hR, u2, va_rf]
  · simp [updV, wR, hR, u2, hq]
def gprim (t : FieldType) : Bool := match t with
  | .long => false
  | .float => false
  | .double => false
  | _ => true
theorem g_def {t : FieldType} (h : gprim t = true) : defaultValue t = if gisr t = true then .null else .int 0 := by
  cases t <;> first | rfl | (exact absurd h (by simp [gprim]))
theorem r_new {d mc ms : Nat} {M : gM} {pc : Nat} {ls : gLs} {st : List Value} {h : Hp} {Q : gQ} {ci index : Nat} {C : String} {T : u_T} {N : Nat} (dc : decode (mC M) pc = .ok (.new index, 3)) (hc : gcl[ci]? = some (C, T, N)) (hd : (List.range N).all (fun k => gprim (gty ci k)) = true) (q1 : Cond.classLink (mOwn M) index C ∈ lw_all) (q2 : Cond.instantiable C N ∈ lw_all) (q3 : Cond.initialized C ∈ lw_all) (kk : gG d mc ms M (pc + 3) ls (.ref (hN h) :: st) (hM h (.inl ci)) Q) : gG d (mc + 1) (ms + N) M pc ls st h Q := by
  intro E p l e R s m args below meth c H locs cells slots MC MS la X hr hl r1 r2 r3 r4 r5 r6
  have hts := X.1.2.2.2.2
  have hKn := X.2.2.2.2.2.1.1 ci _ hc
  have hz := gphi_new hr.1
  refine W.newcK X.1.1 X.1.2.1 X.1.2.2.2.1 (hts _ q1) (hts _ q2) (hts _ q3) rfl dc (by omega) (by omega) hKn.2.1 rfl fun H1 kC hkC e1 z1 o1 => ?_
  have h21 := hr.1.1
  have e3 : (F0 m (pc + 3) la ((Value.ref (hN h) :: st).map (gv E))) = F0 m (pc + 3) la (.ref H.size :: st.map (gv E)) := by
    rw [List.map_cons, gv_ref h21, hz]
  have k1 := kk E p l e R s m args below meth c H1 locs (cells + 1) (slots + N) MC MS la X (hr.made (x := .inl ci) ?_ z1 o1) hl r1 r2 (by omega) (by omega) (by omega) (by omega)
  · rw [e3] at k1
    exact k1
  · have e2 : gcell E (hM h (.inl ci)) (hN h) = .inr (ci, (List.range (gNF ci)).map (gfv E (hM h (.inl ci)) ci (hN h))) := gcell_o (if_pos rfl)
    rw [e2]
    refine ⟨_, hc, ?_⟩
    rw [← hz]
    refine (u_born (gty ci) hts (g_in ci hc) hKn hkC e1 (g_ty ci hc)).to fun k hk => ?_
    have hg := List.all_eq_true.mp hd k (List.mem_range.mpr hk)
    have e5 : vp_V ((List.range (gNF ci)).map (gfv E (hM h (.inl ci)) ci (hN h))) k = gfv E (hM h (.inl ci)) ci (hN h) k := by
      unfold vp_V
      rw [List.getD_eq_getElem?_getD, List.getElem?_map, List.getElem?_range (by rw [g_nf hc]; exact hk)]
      rfl
    show defaultValue (gty ci k) = vp_V _ k
    rw [e5, g_def hg]
    unfold gfv
    have e6 : hR (hM h (.inl ci)) (hN h) k = none := if_pos rfl
    have e7 : hI (hM h (.inl ci)) (hN h) k = 0 := if_pos rfl
    rw [e6, e7]
    rfl
theorem r_newa_int {d mc ms : Nat} {M : gM} {pc : Nat} {ls : gLs} {st : List Value} {h : Hp} {Q : gQ} {n : Int32} (N : Nat) (dc : decode (mC M) pc = .ok (.newarray .int, 2)) (q : Cond.arrayClass FieldType.int ∈ lw_all) (hn : ¬ n < 0) (hnN : n.toNatClampNeg = N) (hbig : N * 4 ≤ 536870912) (kk : gG d mc ms M (pc + 2) ls (.ref (hN h) :: st) (hM h (.inr (0, N))) Q) : gG d (mc + 1) (ms + N) M pc ls (.int n :: st) h Q := by
  intro E p l e R s m args below meth c H locs cells slots MC MS la X hr hl r1 r2 r3 r4 r5 r6
  have hts := X.1.2.2.2.2
  have hz := gphi_new hr.1
  have h21 := hr.1.1
  refine va_newaK (atype := .int) X.1.1 X.1.2.1 (hts _ q) rfl dc rfl hn hnN (Nat.le_trans (Nat.mul_le_mul_left N (by decide)) hbig) (by omega) (by omega) hz (fun H1 cA e1 z1 o1 hAr hfc => ?_)
  have hK5 := (X.2.2.2.2.2.1.2 0 _ rfl).2
  have hcA : cA = gT E 0 := Option.some.inj (hfc.symm.trans hK5)
  subst hcA
  have e3 : (F0 m (pc + 2) la ((Value.ref (hN h) :: st).map (gv E))) = F0 m (pc + 2) la (.ref (gphi E (hN h)) :: st.map (gv E)) := by
    rw [List.map_cons, gv_ref h21]
  have k1 := kk E p l e R s m args below meth c H1 locs (cells + 1) (slots + N) MC MS la X (hr.made (x := .inr (0, N)) ?_ (by rw [z1, ← hz]) (fun q hq => o1 q (by rw [← hz]; exact hq))) hl r1 r2 (by omega) (by omega) (by omega) (by omega)
  · rw [e3] at k1
    exact k1
  · have e2 : gcell E (hM h (.inr (0, N))) (hN h) = .inl (gT E 0, N, .inl (hI (hM h (.inr (0, N))) (hN h))) := gcell_i (if_pos rfl) (by decide)
    rw [e2]
    show H1[gphi E (hN h)]? = some (vp_cell _ _)
    rw [e1, vp_cell_i]
    have e7 : hI (hM h (.inr (0, N))) (hN h) = fun _ => 0 := funext fun k => if_pos rfl
    rw [e7]
    rfl
theorem r_newa_byte {d mc ms : Nat} {M : gM} {pc : Nat} {ls : gLs} {st : List Value} {h : Hp} {Q : gQ} {n : Int32} (N : Nat) (dc : decode (mC M) pc = .ok (.newarray .byte, 2)) (q : Cond.arrayClass FieldType.byte ∈ lw_all) (hn : ¬ n < 0) (hnN : n.toNatClampNeg = N) (hbig : N * 4 ≤ 536870912) (kk : gG d mc ms M (pc + 2) ls (.ref (hN h) :: st) (hM h (.inr (1, N))) Q) : gG d (mc + 1) (ms + N) M pc ls (.int n :: st) h Q := by
  intro E p l e R s m args below meth c H locs cells slots MC MS la X hr hl r1 r2 r3 r4 r5 r6
  have hts := X.1.2.2.2.2
  have hz := gphi_new hr.1
  have h21 := hr.1.1
  refine va_newaK (atype := .byte) X.1.1 X.1.2.1 (hts _ q) rfl dc rfl hn hnN (Nat.le_trans (Nat.mul_le_mul_left N (by decide)) hbig) (by omega) (by omega) hz (fun H1 cA e1 z1 o1 hAr hfc => ?_)
  have hK5 := (X.2.2.2.2.2.1.2 1 _ rfl).2
  have hcA : cA = gT E 1 := Option.some.inj (hfc.symm.trans hK5)
  subst hcA
  have e3 : (F0 m (pc + 2) la ((Value.ref (hN h) :: st).map (gv E))) = F0 m (pc + 2) la (.ref (gphi E (hN h)) :: st.map (gv E)) := by
    rw [List.map_cons, gv_ref h21]
  have k1 := kk E p l e R s m args below meth c H1 locs (cells + 1) (slots + N) MC MS la X (hr.made (x := .inr (1, N)) ?_ (by rw [z1, ← hz]) (fun q hq => o1 q (by rw [← hz]; exact hq))) hl r1 r2 (by omega) (by omega) (by omega) (by omega)
  · rw [e3] at k1
    exact k1
  · have e2 : gcell E (hM h (.inr (1, N))) (hN h) = .inl (gT E 1, N, .inl (hI (hM h (.inr (1, N))) (hN h))) := gcell_i (if_pos rfl) (by decide)
    rw [e2]
    show H1[gphi E (hN h)]? = some (vp_cell _ _)
    rw [e1, vp_cell_i]
    have e7 : hI (hM h (.inr (1, N))) (hN h) = fun _ => 0 := funext fun k => if_pos rfl
    rw [e7]
    rfl
theorem r_newa_short {d mc ms : Nat} {M : gM} {pc : Nat} {ls : gLs} {st : List Value} {h : Hp} {Q : gQ} {n : Int32} (N : Nat) (dc : decode (mC M) pc = .ok (.newarray .short, 2)) (q : Cond.arrayClass FieldType.short ∈ lw_all) (hn : ¬ n < 0) (hnN : n.toNatClampNeg = N) (hbig : N * 4 ≤ 536870912) (kk : gG d mc ms M (pc + 2) ls (.ref (hN h) :: st) (hM h (.inr (2, N))) Q) : gG d (mc + 1) (ms + N) M pc ls (.int n :: st) h Q := by
  intro E p l e R s m args below meth c H locs cells slots MC MS la X hr hl r1 r2 r3 r4 r5 r6
  have hts := X.1.2.2.2.2
  have hz := gphi_new hr.1
  have h21 := hr.1.1
  refine va_newaK (atype := .short) X.1.1 X.1.2.1 (hts _ q) rfl dc rfl hn hnN (Nat.le_trans (Nat.mul_le_mul_left N (by decide)) hbig) (by omega) (by omega) hz (fun H1 cA e1 z1 o1 hAr hfc => ?_)
  have hK5 := (X.2.2.2.2.2.1.2 2 _ rfl).2
  have hcA : cA = gT E 2 := Option.some.inj (hfc.symm.trans hK5)
  subst hcA
  have e3 : (F0 m (pc + 2) la ((Value.ref (hN h) :: st).map (gv E))) = F0 m (pc + 2) la (.ref (gphi E (hN h)) :: st.map (gv E)) := by
    rw [List.map_cons, gv_ref h21]
  have k1 := kk E p l e R s m args below meth c H1 locs (cells + 1) (slots + N) MC MS la X (hr.made (x := .inr (2, N)) ?_ (by rw [z1, ← hz]) (fun q hq => o1 q (by rw [← hz]; exact hq))) hl r1 r2 (by omega) (by omega) (by omega) (by omega)
  · rw [e3] at k1
    exact k1
  · have e2 : gcell E (hM h (.inr (2, N))) (hN h) = .inl (gT E 2, N, .inl (hI (hM h (.inr (2, N))) (hN h))) := gcell_i (if_pos rfl) (by decide)
    rw [e2]
    show H1[gphi E (hN h)]? = some (vp_cell _ _)
    rw [e1, vp_cell_i]
    have e7 : hI (hM h (.inr (2, N))) (hN h) = fun _ => 0 := funext fun k => if_pos rfl
    rw [e7]
    rfl
theorem r_newa_boolean {d mc ms : Nat} {M : gM} {pc : Nat} {ls : gLs} {st : List Value} {h : Hp} {Q : gQ} {n : Int32} (N : Nat) (dc : decode (mC M) pc = .ok (.newarray .boolean, 2)) (q : Cond.arrayClass FieldType.boolean ∈ lw_all) (hn : ¬ n < 0) (hnN : n.toNatClampNeg = N) (hbig : N * 4 ≤ 536870912) (kk : gG d mc ms M (pc + 2) ls (.ref (hN h) :: st) (hM h (.inr (3, N))) Q) : gG d (mc + 1) (ms + N) M pc ls (.int n :: st) h Q := by
  intro E p l e R s m args below meth c H locs cells slots MC MS la X hr hl r1 r2 r3 r4 r5 r6
  have hts := X.1.2.2.2.2
  have hz := gphi_new hr.1
  have h21 := hr.1.1
  refine va_newaK (atype := .boolean) X.1.1 X.1.2.1 (hts _ q) rfl dc rfl hn hnN (Nat.le_trans (Nat.mul_le_mul_left N (by decide)) hbig) (by omega) (by omega) hz (fun H1 cA e1 z1 o1 hAr hfc => ?_)
  have hK5 := (X.2.2.2.2.2.1.2 3 _ rfl).2
  have hcA : cA = gT E 3 := Option.some.inj (hfc.symm.trans hK5)
  subst hcA
  have e3 : (F0 m (pc + 2) la ((Value.ref (hN h) :: st).map (gv E))) = F0 m (pc + 2) la (.ref (gphi E (hN h)) :: st.map (gv E)) := by
    rw [List.map_cons, gv_ref h21]
  have k1 := kk E p l e R s m args below meth c H1 locs (cells + 1) (slots + N) MC MS la X (hr.made (x := .inr (3, N)) ?_ (by rw [z1, ← hz]) (fun q hq => o1 q (by rw [← hz]; exact hq))) hl r1 r2 (by omega) (by omega) (by omega) (by omega)
  · rw [e3] at k1
    exact k1
  · have e2 : gcell E (hM h (.inr (3, N))) (hN h) = .inl (gT E 3, N, .inl (hI (hM h (.inr (3, N))) (hN h))) := gcell_i (if_pos rfl) (by decide)
    rw [e2]
    show H1[gphi E (hN h)]? = some (vp_cell _ _)
    rw [e1, vp_cell_i]
    have e7 : hI (hM h (.inr (3, N))) (hN h) = fun _ => 0 := funext fun k => if_pos rfl
    rw [e7]
    rfl
theorem r_newr {d mc ms : Nat} {M : gM} {pc : Nat} {ls : gLs} {st : List Value} {h : Hp} {Q : gQ} {index : Nat} {n : Int32} (N t : Nat) {EC : String} (dc : decode (mC M) pc = .ok (.anewarray index, 3)) (ht : (t = 4 ∧ EC = RX7) ∨ (t = 5 ∧ EC = RX14) ∨ (t = 6 ∧ EC = RX5)) (q : Cond.classLink (mOwn M) index EC ∈ lw_all) (hn : ¬ n < 0) (hnN : n.toNatClampNeg = N) (hbig : N * 4 ≤ 536870912) (kk : gG d mc ms M (pc + 3) ls (.ref (hN h) :: st) (hM h (.inr (t, N))) Q) : gG d (mc + 1) (ms + N) M pc ls (.int n :: st) h Q := by
  intro E p l e R s m args below meth c H locs cells slots MC MS la X hr hl r1 r2 r3 r4 r5 r6
  have hts := X.1.2.2.2.2
  have hz := gphi_new hr.1
  have h21 := hr.1.1
  have ht4 : ¬ t < 4 := by omega
  have hte : ∃ t0 : Nat, (gtys E)[t0]? = some (gT E t, FieldType.object EC) := by
    rcases ht with ⟨rfl, rfl⟩ | ⟨rfl, rfl⟩ | ⟨rfl, rfl⟩
    · exact ⟨4, rfl⟩
    · exact ⟨5, rfl⟩
    · exact ⟨6, rfl⟩
  have hao : va_AO EC s := by
    refine X.2.2.2.2.2.2.2.2.1 EC ?_
    rcases ht with ⟨rfl, rfl⟩ | ⟨rfl, rfl⟩ | ⟨rfl, rfl⟩ <;> simp
  obtain ⟨t0, ht0⟩ := hte
  obtain ⟨kA, comp, k1, k2, k3, k4⟩ := (X.2.2.2.2.2.1.2 t0 _ ht0).2
  subst hnN
  refine W.anew X.1.1 X.1.2.1 X.1.2.2.2.1 (hts _ q) (va_AO.use hao) rfl dc rfl hn hbig (by omega) (by omega) fun cA kA9 comp9 f1 f2 f3 f4 => ?_
  have hcA : cA = gT E t := Option.some.inj (f1.symm.trans k4)
  subst hcA
  generalize hH1 : H.push ({ cls := gT E t, slots := Array.replicate n.toNatClampNeg .null, vm := .none } : Cell) = H1
  have z1 : H1.size = H.size + 1 := by rw [← hH1, Array.size_push]
  have e1 : H1[H.size]? = some (arrV (gT E t) n.toNatClampNeg (fun _ => .null)) := by rw [← hH1, Array.getElem?_push_size, ← arrV_new]
  have o1 : ∀ q : Nat, q < H.size → H1[q]? = H[q]? := fun q hq => by rw [← hH1, Array.getElem?_push, if_neg (Nat.ne_of_lt hq)]
  have e3 : (F0 m (pc + 3) la ((Value.ref (hN h) :: st).map (gv E))) = F0 m (pc + 3) la (.ref H.size :: st.map (gv E)) := by
    rw [List.map_cons, gv_ref h21, hz]
  have k5 := kk E p l e R s m args below meth c H1 locs (cells + 1) (slots + n.toNatClampNeg) MC MS la X (hr.made (x := .inr (t, n.toNatClampNeg)) ?_ z1 o1) hl r1 r2 (by omega) (by omega) (by omega) (by omega)
  · rw [e3] at k5
    exact k5
  · have e2 : gcell E (hM h (.inr (t, n.toNatClampNeg))) (hN h) = .inl (gT E t, n.toNatClampNeg, .inr (.inr (.inr (.inr (fun i => (hR (hM h (.inr (t, n.toNatClampNeg))) (hN h) i).map (gphi E)))))) := gcell_r (if_pos rfl) ht4
    have e7 : (fun i => (hR (hM h (.inr (t, n.toNatClampNeg))) (hN h) i).map (gphi E)) = fun _ => none := funext fun k => by
      have e8 : hR (hM h (.inr (t, n.toNatClampNeg))) (hN h) k = none := if_pos rfl
      rw [e8]
      rfl
    rw [e2, ← hz, e7]
    show H1[H.size]? = some (vp_cell (gT E t) (n.toNatClampNeg, .inr (.inr (.inr (.inr (fun _ => none))))))
    rw [e1, vp_cell_q]
    rfl
theorem g_wid {p : Program} {l : Launch} {e : Env} {R : Room} {s : State} {m : MethodId} {args : Array Value} {below : List Frame} {meth : Method} {c : Code} {H : Heap} {locs : List Loc} {cells slots MC MS mc ms : Nat} {Qc : Array Value → State → Outcome → State → Prop} {XC : String → Addr → State → State → Prop} {free : Addr → Prop} {g : JFrame} (h1 : cells + mc ≤ MC) (h2 : slots + ms ≤ MS) (k : W p l e R s m args below meth c H locs MC MS (MQ below Qc args s MC MS free) g) : W p l e R s m args below meth c H locs cells slots (vx_MQ below Qc XC args s MC MS free) g :=
  W.widen (k := MC) (n := MS) (Nat.le_trans (Nat.le_add_right _ _) h1) (Nat.le_trans (Nat.le_add_right _ _) h2) (vx_ret k)
theorem r_iret {d mc ms : Nat} {M : gM} {pc : Nat} {ls : gLs} {st : List Value} {h : Hp} {Q : gQ} {x : Int32} (dc : decode (mC M) pc = .ok (.ireturn, 1)) (hrt : mRt M = some .int) (hq : Q (.inl (some (.int x))) h) : gG d mc ms M pc ls [.int x] h Q := by
  intro E p l e R s m args below meth c H locs cells slots MC MS la X hr hl r1 r2 r3 r4 r5 r6
  exact g_wid r5 r6 (W.iret (v := x) X.1.1 X.1.2.1 (X.2.1.trans hrt) (fun t ht hW => ⟨⟨some (.int x), h, rfl, hq, by rw [ht]; exact hr.1, rfl⟩, hr.2.1.F ht⟩) hr.2.1.2.2 dc (hlocks := X.2.2.1))
theorem r_zret {d mc ms : Nat} {M : gM} {pc : Nat} {ls : gLs} {st : List Value} {h : Hp} {Q : gQ} {x : Int32} {ty : FieldType} (dc : decode (mC M) pc = .ok (.ireturn, 1)) (hrt : mRt M = some ty) (hn : narrow ty (.int x) = .int x) (hq : Q (.inl (some (.int x))) h) : gG d mc ms M pc ls [.int x] h Q := by
  intro E p l e R s m args below meth c H locs cells slots MC MS la X hr hl r1 r2 r3 r4 r5 r6
  exact g_wid r5 r6 (W.zret (v := x) X.1.1 X.1.2.1 (X.2.1.trans hrt) hn (fun t ht hW => ⟨⟨some (.int x), h, rfl, hq, by rw [ht]; exact hr.1, rfl⟩, hr.2.1.F ht⟩) hr.2.1.2.2 dc (hlocks := X.2.2.1))
theorem r_vret {d mc ms : Nat} {M : gM} {pc : Nat} {ls : gLs} {st : List Value} {h : Hp} {Q : gQ} (dc : decode (mC M) pc = .ok (.return_, 1)) (hrt : mRt M = none) (hq : Q (.inl none) h) : gG d mc ms M pc ls [] h Q := by
  intro E p l e R s m args below meth c H locs cells slots MC MS la X hr hl r1 r2 r3 r4 r5 r6
  exact g_wid r5 r6 (W.vret X.1.1 X.1.2.1 (X.2.1.trans hrt) (fun t ht hW => ⟨⟨none, h, rfl, hq, by rw [ht]; exact hr.1, rfl⟩, hr.2.1.F ht⟩) hr.2.1.2.2 dc (hlocks := X.2.2.1))
theorem r_aret {d mc ms : Nat} {M : gM} {pc : Nat} {ls : gLs} {st : List Value} {h : Hp} {Q : gQ} {v : Value} {rt : FieldType} (dc : decode (mC M) pc = .ok (.areturn, 1)) (hrt : mRt M = some rt) (ho : (∃ n, rt = .object n) ∨ ∃ t, rt = .array t) (hv : gisv v = true) (hq : Q (.inl (some v)) h) : gG d mc ms M pc ls [v] h Q := by
  intro E p l e R s m args below meth c H locs cells slots MC MS la X hr hl r1 r2 r3 r4 r5 r6
  exact g_wid r5 r6 (W.aret (v := gv E v) X.1.1 X.1.2.1 (X.2.1.trans hrt) ho (gv_isv X.2.2.2.2.2.2.1 hv) (fun t ht hW => ⟨⟨some v, h, rfl, hq, by rw [ht]; exact hr.1, rfl⟩, hr.2.1.F ht⟩) hr.2.1.2.2 dc (hlocks := X.2.2.1))
theorem r_athrow {d mc ms : Nat} {M : gM} {pc : Nat} {ls : gLs} {st : List Value} {h : Hp} {Q : gQ} {a ci : Nat} {q : vw_C} (dc : decode (mC M) pc = .ok (.athrow, 1)) (hs : hS h a = .inl ci) (hc : gcl[ci]? = some q) (kk : gTh d mc ms M pc ls a h Q) : gG d mc ms M pc ls (.ref a :: st) h Q := by
  intro E p l e R s m args below meth c H locs cells slots MC MS la X hr hl r1 r2 r3 r4 r5 r6
  obtain ⟨h21, hlt⟩ := hr.1.rng hs (g_ne hc)
  show W p l e R s m args below meth c H locs cells slots _ (F0 m pc la (gv E (.ref a) :: st.map (gv E)))
  rw [gv_ref h21]
  obtain ⟨r, q0, cellV, q1, q2, q3, -⟩ := hr.1.o hs hc
  have hr9 : r = q := Option.some.inj (q0.symm.trans hc)
  subst hr9
  obtain ⟨-, hfc, kC, hkC, -⟩ := X.2.2.2.2.2.1.1 ci _ hc
  exact vx_athrow X.1.1 X.1.2.1 dc (kk E p l e R s m args below meth c H locs cells slots MC MS la _ X hr hl r1 r2 r3 r4 r5 r6)
/-- does a handler's row cover pc -/
def gcov (z : Nat × Nat × Nat × Nat) (pc : Nat) : Bool := decide (z.1 ≤ pc) && decide (pc < z.2.1)
theorem gcov_of (z : Nat × Nat × Nat × Nat) (pc : Nat) : covers ⟨z.1, z.2.1, z.2.2.1, z.2.2.2⟩ pc = gcov z pc := rfl
theorem t_catch {d mc ms : Nat} {M : gM} {pc : Nat} {ls : gLs} {h : Hp} {Q : gQ} {a ci : Nat} {C name : String} {T : u_T} {N : Nat} (pre : List (Nat × Nat × Nat × Nat)) (x : Nat × Nat × Nat × Nat) (suf : List (Nat × Nat × Nat × Nat)) (hs : hS h a = .inl ci) (hc : gcl[ci]? = some (C, T, N)) (hsp : mH M = pre ++ x :: suf)
    (hpass : ∀ z ∈ pre, gcov z pc = false ∨ (z.2.2.2 ≠ 0 ∧ C = RX1 ∧ Cond.classLink (mOwn M) z.2.2.2 RX18 ∈ lw_all)) (hx : gcov x pc = true) (h0 : x.2.2.2 ≠ 0) (q1 : Cond.classLink (mOwn M) x.2.2.2 name ∈ lw_all) (q2 : Cond.castable C name ∈ lw_tbl) (kk : gG d mc ms M x.2.2.1 ls [.ref a] h Q) : gTh d mc ms M pc ls a h Q := by
  intro E p l e R s m args below meth c H locs cells slots MC MS la rest X hr hl r1 r2 r3 r4 r5 r6
  obtain ⟨h21, hlt⟩ := hr.1.rng hs (g_ne hc)
  obtain ⟨r, q0, ce, g1, g2, g3, -⟩ := hr.1.o hs hc
  have hr9 : r = (C, T, N) := Option.some.inj (q0.symm.trans hc)
  subst hr9
  obtain ⟨-, hfc, -⟩ := X.2.2.2.2.2.1.1 ci _ hc
  have k1 := kk E p l e R s m args below meth c H locs cells slots MC MS la X hr hl r1 r2 r3 r4 r5 r6
  rw [List.map_cons, gv_ref h21] at k1
  refine vx_catch (own := mOwn M) (name := name) (E := C) (ce := ce) X.1.2.2.2.1 (tableOf pre) ⟨x.1, x.2.1, x.2.2.1, x.2.2.2⟩ (tableOf suf) ?_ ?_ hx h0 (X.1.2.2.2.2 _ q1) (va_Nw.use rfl (X.2.2.2.2.2.2.2.1 _ q2 rfl)) g1 g3 (by rw [g2]; exact hfc) k1
  · rw [X.2.2.2.2.1, hsp]
    simp [tableOf]
  · intro z hz
    obtain ⟨z0, hz0, rfl⟩ := List.mem_map.mp hz
    rcases hpass z0 hz0 with h9 | ⟨h9, rfl, h10⟩
    · exact Or.inl h9
    · exact Or.inr ⟨h9, RX18, X.1.2.2.2.2 _ h10, X.2.2.2.2.2.2.2.2.2.2.1⟩
theorem t_out {d mc ms : Nat} {M : gM} {pc : Nat} {ls : gLs} {h : Hp} {Q : gQ} {a ci : Nat} {C : String} {T : u_T} {N : Nat} (hs : hS h a = .inl ci) (hc : gcl[ci]? = some (C, T, N)) (hno : (mH M).all (fun z => !gcov z pc) = true) (hq : Q (.inr a) h) : gTh d mc ms M pc ls a h Q := by
  intro E p l e R s m args below meth c H locs cells slots MC MS la rest X hr hl r1 r2 r3 r4 r5 r6
  obtain ⟨h21, hlt⟩ := hr.1.rng hs (g_ne hc)
  obtain ⟨r, q0, ce, g1, g2, g3, -⟩ := hr.1.o hs hc
  have hr9 : r = (C, T, N) := Option.some.inj (q0.symm.trans hc)
  subst hr9
  obtain ⟨-, hfc, -⟩ := X.2.2.2.2.2.1.1 ci _ hc
  refine vx_outP (own := mOwn M) (E := C) (ce := ce) X.1.2.2.2.1 X.2.2.1 (fun z hz => Or.inl ?_) g1 g3 (by rw [g2]; exact hfc) (fun t ht hW => ⟨⟨a, ci, C, T, N, h, rfl, hs, hc, rfl, hq, by rw [ht]; exact hr.1, rfl⟩, hr.2.1.F ht⟩) hr.2.1.2.2 (by omega) (by omega)
  rw [X.2.2.2.2.1] at hz
  obtain ⟨z0, hz0, rfl⟩ := List.mem_map.mp hz
  have h9 := List.all_eq_true.mp hno z0 hz0
  rw [gcov_of]
  simpa using h9
