set_option maxRecDepth 100000
theorem gRel.setL {E : gE} {h h' : Hp} {s : State} {H H1 : Heap} {locs L : List Loc} {a : Nat} (hr : gRel E h s H locs) (h21 : 21 ≤ a) (hN' : hN h' = hN h) (hS' : hS h' = hS h) (hX' : hX h' = hX h) (ho : ∀ b, b ≠ a → gcell E h' b = gcell E h b) (he : va_at (gD E) gcl (gphi E a, gcell E h' a) H1) (hz : H1.size = H.size) (oq : ∀ q : Nat, q ≠ gphi E a → H1[q]? = H[q]?) (hL : ∀ q ∈ L, q.base = gphi E a) : gRel E h' s H1 (locs ++ L) := by
  refine ⟨hr.1.set h21 hN' hS' ho he hz oq, ⟨by rw [hz]; exact hr.2.1.1, fun q g1 g2 => ?_, fun q hq => ?_⟩, gSp_of hX' hr.2.2⟩
  · rw [oq q (fun e => g2 (by rw [e]; exact gA_phi h21))]
    exact hr.2.1.2.1 q g1 g2
  · rcases List.mem_append.mp hq with h9 | h9
    · exact hr.2.1.2.2 q h9
    · rw [hL q h9]
      exact gA_phi h21
theorem g_toInt {z : Int32} (hz : ¬ z < 0) : z.toInt = (z.toNatClampNeg : Int) := by
  have hz0 : (0 : Int) ≤ z.toInt := by
    have := Int32.not_lt.mp hz
    simpa using Int32.le_iff_toInt_le.mp this
  show z.toInt = ((z.toInt.toNat : Nat) : Int)
  omega
abbrev gAcp (own : String) (index : Nat) : Prop := Cond.methodLink own index arraycopyName ∈ lw_all ∧ Cond.native arraycopyName ∈ lw_all ∧ Cond.static arraycopyName ∈ lw_all ∧ Cond.initialized "java/lang/System" ∈ lw_all
theorem g_prim (E : gE) (t : Nat) (ht : t < 4) : ∃ (t0 : Nat) (ty : FieldType), (gtys E)[t0]? = some (gT E t, ty) ∧ refKind ty = false ∧ gtk t = ty := by
  match t, ht with
  | 0, _ => exact ⟨0, .int, rfl, rfl, rfl⟩
  | 1, _ => exact ⟨1, .byte, rfl, rfl, rfl⟩
  | 2, _ => exact ⟨2, .short, rfl, rfl, rfl⟩
  | 3, _ => exact ⟨3, .boolean, rfl, rfl, rfl⟩
  | t + 4, ht => omega
theorem r_copyI {d mc ms : Nat} {M : gM} {pc : Nat} {ls : gLs} {st : List Value} {h : Hp} {Q : gQ} {a b n0 n1 t index : Nat} {sp dp n : Int32} (dc : decode (mC M) pc = .ok (.invokestatic index, 3)) (q : gAcp (mOwn M) index) (hsa : hS h a = .inr (t, n0)) (hsb : hS h b = .inr (t, n1)) (ht : t < 4) (h1 : ¬ sp < 0) (h2 : ¬ dp < 0) (h3 : ¬ n < 0) (h4 : sp.toNatClampNeg + n.toNatClampNeg ≤ n0) (h5 : dp.toNatClampNeg + n.toNatClampNeg ≤ n1) (hfit : ∀ i : Nat, i < n.toNatClampNeg → fits (gtk t) (.int (hI h a (sp.toNatClampNeg + i))) = true) (hcat : (st.map fun v => v.category).sum ≤ 8) (kk : gG (d + 1) mc ms M (pc + 3) ls st (cI h a sp.toNatClampNeg b dp.toNatClampNeg n.toNatClampNeg) Q) : gG (d + 1) mc ms M pc ls (.int n :: .int dp :: .ref b :: .int sp :: .ref a :: st) h Q := by
  intro E p l e R s m args below meth c H locs cells slots MC MS la X hr hl r1 r2 r3 r4 r5 r6
  have hts := X.1.2.2.2.2
  have hK := X.2.2.2.2.2.1
  have hca := gG_cat X.2.2.2.2.2.2 hcat
  obtain ⟨ha21, halt⟩ := hr.1.rng hsa g_nr
  obtain ⟨hb21, hblt⟩ := hr.1.rng hsb g_nr
  show W p l e R s m args below meth c H locs cells slots _ (F0 m pc la (.int n :: .int dp :: gv E (.ref b) :: .int sp :: gv E (.ref a) :: st.map (gv E)))
  rw [gv_ref ha21, gv_ref hb21]
  obtain ⟨t0, ty, ht0, hprim, hgt⟩ := g_prim E t ht
  rw [hgt] at hfit
  intro T hT Y
  have hc0 : H[gphi E a]? = some (vp_cell (gT E t) (n0, .inl (hI h a))) := hr.1.i hsa ht
  have hc1 : H[gphi E b]? = some (vp_cell (gT E t) (n1, .inl (hI h b))) := hr.1.i hsb ht
  obtain ⟨-, k0, hk0, cm0, hkk0⟩ := (hK.2 t0 _ ht0).1 n0 (fun j => .int (hI h a j))
  obtain ⟨-, k1, hk1, cm1, hkk1⟩ := (hK.2 t0 _ ht0).1 n1 (fun j => .int (hI h b j))
  obtain ⟨vm', Y', step⟩ := Y.arraycopy X.1.1 X.1.2.2.2.1 (hts _ q.1) (hts _ q.2.1) (hts _ q.2.2.1) (hts _ q.2.2.2) (src := gphi E a) (dst := gphi E b) (cs := vp_cell (gT E t) (n0, .inl (hI h a))) (cd := vp_cell (gT E t) (n1, .inl (hI h b))) (srcPos := sp) (destPos := dp) (n := n) (by rw [hT]; exact hc0) (by rw [hT]; exact hc1)
    (fun _ h => by cases h) (fun _ h => by cases h) (fun h => by cases h) (fun h => by cases h) hk0 hk1 hkk0 hkk1 (by simp [hprim]) h1 h2 h3
    (by rw [g_toInt h1, g_toInt h3]; show ¬ _ > ((arrV (gT E t) n0 (fun j => .int (hI h a j))).slots.size : Int); rw [arrV_size]; omega)
    (by rw [g_toInt h2, g_toInt h3]; show ¬ _ > ((arrV (gT E t) n1 (fun j => .int (hI h b j))).slots.size : Int); rw [arrV_size]; omega)
    (fun vm₁ _ i hi => by
      have e : (vp_cell (gT E t) (n0, .inl (hI h a))).slots.getD (sp.toNatClampNeg + i) .null = .int (hI h a (sp.toNatClampNeg + i)) := by
        show (arrV (gT E t) n0 (fun j => .int (hI h a j))).slots.getD _ _ = _
        rw [Array.getD_eq_getD_getElem?, arrV_read _ _ (by omega)]
        rfl
      refine ⟨?_, ?_⟩
      · rw [e]
        exact hfit i hi
      · rw [e]
        exact trivial)
    (g := F0 m pc la (.int n :: .int dp :: .ref (gphi E b) :: .int sp :: .ref (gphi E a) :: st.map (gv E))) rfl (hl.1.trans X.1.2.2.1.symm) (rest := st.map (gv E)) rfl (by rw [X.1.2.1]; exact dc) (by omega) (by
      have hnf : nativeFrameWords "java/lang/System" "arraycopy" 5 + 11 + 8 ≤ 64 := by decide +kernel
      show 2 * 0 + _ + _ ≤ _
      omega)
  have e1 : copied (vp_cell (gT E t) (n0, .inl (hI h a))) (vp_cell (gT E t) (n1, .inl (hI h b))) sp dp n = vp_cell (gT E t) (n1, .inl (va_cpy (hI h a) (hI h b) sp.toNatClampNeg dp.toNatClampNeg n.toNatClampNeg)) := va_copied (fun z => .int z) (gT E t) (gT E t) (hI h a) (hI h b) h4
  rw [e1] at Y' step
  have hlt : gphi E b < H.size := (Array.getElem?_eq_some_iff.mp hc1).1
  generalize hcn : vp_cell (gT E t) (n1, .inl (va_cpy (hI h a) (hI h b) sp.toNatClampNeg dp.toNatClampNeg n.toNatClampNeg)) = cn at Y' step
  have hheap : ((T.setVm vm').setCell (gphi E b) cn).heap = H.setIfInBounds (gphi E b) cn := by rw [← hT]; rfl
  have oq : ∀ q : Nat, q ≠ gphi E b → (H.setIfInBounds (gphi E b) cn)[q]? = H[q]? := fun q hq => by simp [Array.getElem?_setIfInBounds, Ne.symm hq]
  have hob : ∀ x, x ≠ b → gcell E (cI h a sp.toNatClampNeg b dp.toNatClampNeg n.toNatClampNeg) x = gcell E h x := fun x hx => gcell_c rfl (funext fun j => if_neg fun q => hx q.1) rfl
  have he : va_at (gD E) gcl (gphi E b, gcell E (cI h a sp.toNatClampNeg b dp.toNatClampNeg n.toNatClampNeg) b) (H.setIfInBounds (gphi E b) cn) := by
    rw [gcell_i (h := cI h a sp.toNatClampNeg b dp.toNatClampNeg n.toNatClampNeg) hsb ht]
    show (H.setIfInBounds (gphi E b) cn)[gphi E b]? = some (vp_cell _ _)
    have e7 : hI (cI h a sp.toNatClampNeg b dp.toNatClampNeg n.toNatClampNeg) b = va_cpy (hI h a) (hI h b) sp.toNatClampNeg dp.toNatClampNeg n.toNatClampNeg := by
      funext k
      show (if b = b ∧ _ ∧ _ then _ else _) = (if _ ∧ _ then _ else _)
      by_cases hk : dp.toNatClampNeg ≤ k ∧ k < dp.toNatClampNeg + n.toNatClampNeg
      · rw [if_pos ⟨rfl, hk⟩, if_pos hk]
      · rw [if_neg (fun q => hk q.2), if_neg hk]
    rw [e7, hcn]
    simp [Array.getElem?_setIfInBounds, hlt]
  obtain ⟨t9, a1, b1⟩ := kk E p l e R s m args below meth c _ _ cells slots MC MS la X (hr.setL (h' := cI h a sp.toNatClampNeg b dp.toNatClampNeg n.toNatClampNeg) hb21 rfl rfl rfl hob he (by simp) oq (fun z hz => by obtain ⟨w, -, hw⟩ := List.mem_map.mp hz; rw [← hw])) hl r1 r2 r3 r4 r5 r6 _ hheap Y'
  exact ⟨t9, step t9 a1, b1⟩
theorem r_copyR {d mc ms : Nat} {M : gM} {pc : Nat} {ls : gLs} {st : List Value} {h : Hp} {Q : gQ} {a b n0 n1 t index : Nat} {sp dp n : Int32} {EC : String} (dc : decode (mC M) pc = .ok (.invokestatic index, 3)) (q : gAcp (mOwn M) index) (hsa : hS h a = .inr (t, n0)) (hsb : hS h b = .inr (t, n1)) (ht : (t = 4 ∧ EC = RX7) ∨ (t = 5 ∧ EC = RX14) ∨ (t = 6 ∧ EC = RX5)) (h1 : ¬ sp < 0) (h2 : ¬ dp < 0) (h3 : ¬ n < 0) (h4 : sp.toNatClampNeg + n.toNatClampNeg ≤ n0) (h5 : dp.toNatClampNeg + n.toNatClampNeg ≤ n1) (hel : ∀ i : Nat, i < n.toNatClampNeg → ∀ y : Nat, hR h a (sp.toNatClampNeg + i) = some y → ∃ (cy : Nat) (Cy : String) (Ty : u_T) (Ny : Nat), hS h y = .inl cy ∧ gcl[cy]? = some (Cy, Ty, Ny) ∧ (Cy = EC ∨ Cond.castable Cy EC ∈ lw_tbl)) (hcat : (st.map fun v => v.category).sum ≤ 8) (kk : gG (d + 1) mc ms M (pc + 3) ls st (cR h a sp.toNatClampNeg b dp.toNatClampNeg n.toNatClampNeg) Q) : gG (d + 1) mc ms M pc ls (.int n :: .int dp :: .ref b :: .int sp :: .ref a :: st) h Q := by
  intro E p l e R s m args below meth c H locs cells slots MC MS la X hr hl r1 r2 r3 r4 r5 r6
  have hts := X.1.2.2.2.2
  have hK := X.2.2.2.2.2.1
  have hca := gG_cat X.2.2.2.2.2.2 hcat
  obtain ⟨ha21, halt⟩ := hr.1.rng hsa g_nr
  obtain ⟨hb21, hblt⟩ := hr.1.rng hsb g_nr
  show W p l e R s m args below meth c H locs cells slots _ (F0 m pc la (.int n :: .int dp :: gv E (.ref b) :: .int sp :: gv E (.ref a) :: st.map (gv E)))
  rw [gv_ref ha21, gv_ref hb21]
  have ht4 : ¬ t < 4 := by omega
  have hte : ∃ t0 : Nat, (gtys E)[t0]? = some (gT E t, FieldType.object EC) := by
    rcases ht with ⟨rfl, rfl⟩ | ⟨rfl, rfl⟩ | ⟨rfl, rfl⟩
    · exact ⟨4, rfl⟩
    · exact ⟨5, rfl⟩
    · exact ⟨6, rfl⟩
  obtain ⟨t0, ht0⟩ := hte
  intro T hT Y
  obtain ⟨fa, hfa⟩ : ∃ f : Nat → Option Nat, f = fun i => (hR h a i).map (gphi E) := ⟨_, rfl⟩
  obtain ⟨fb, hfb⟩ : ∃ f : Nat → Option Nat, f = fun i => (hR h b i).map (gphi E) := ⟨_, rfl⟩
  have hc0 : H[gphi E a]? = some (vp_cell (gT E t) (n0, .inr (.inr (.inr (.inr fa))))) := by rw [hfa]; exact hr.1.r hsa ht4
  have hc1 : H[gphi E b]? = some (vp_cell (gT E t) (n1, .inr (.inr (.inr (.inr fb))))) := by rw [hfb]; exact hr.1.r hsb ht4
  obtain ⟨-, k0, hk0, cm0, hkk0⟩ := (hK.2 t0 _ ht0).1 n0 (fun j => va_rf (fa j))
  obtain ⟨-, k1, hk1, cm1, hkk1⟩ := (hK.2 t0 _ ht0).1 n1 (fun j => va_rf (fb j))
  obtain ⟨vm', Y', step⟩ := Y.arraycopy X.1.1 X.1.2.2.2.1 (hts _ q.1) (hts _ q.2.1) (hts _ q.2.2.1) (hts _ q.2.2.2) (src := gphi E a) (dst := gphi E b) (cs := vp_cell (gT E t) (n0, .inr (.inr (.inr (.inr fa))))) (cd := vp_cell (gT E t) (n1, .inr (.inr (.inr (.inr fb))))) (srcPos := sp) (destPos := dp) (n := n) (by rw [hT]; exact hc0) (by rw [hT]; exact hc1)
    (fun _ h => by cases h) (fun _ h => by cases h) (fun h => by cases h) (fun h => by cases h) hk0 hk1 hkk0 hkk1 rfl h1 h2 h3
    (by rw [g_toInt h1, g_toInt h3]; show ¬ _ > ((arrV (gT E t) n0 (fun j => va_rf (fa j))).slots.size : Int); rw [arrV_size]; omega)
    (by rw [g_toInt h2, g_toInt h3]; show ¬ _ > ((arrV (gT E t) n1 (fun j => va_rf (fb j))).slots.size : Int); rw [arrV_size]; omega)
    (fun vm₁ hal i hi => by
      have e : (vp_cell (gT E t) (n0, .inr (.inr (.inr (.inr fa))))).slots.getD (sp.toNatClampNeg + i) .null = va_rf (fa (sp.toNatClampNeg + i)) := by
        show (arrV (gT E t) n0 (fun j => va_rf (fa j))).slots.getD _ _ = _
        rw [Array.getD_eq_getD_getElem?, arrV_read _ _ (by omega)]
        rfl
      rw [e, hfa]
      show fits _ (va_rf ((hR h a (sp.toNatClampNeg + i)).map (gphi E))) = true ∧ (T.setVm vm₁).takes _ (va_rf ((hR h a (sp.toNatClampNeg + i)).map (gphi E)))
      cases hy : hR h a (sp.toNatClampNeg + i) with
      | none => exact ⟨rfl, trivial⟩
      | some y =>
        obtain ⟨cy, Cy, Ty, Ny, hsy, hcy, hcast⟩ := hel i hi y hy
        obtain ⟨r, q0, cellV, g1, g2, g3, -⟩ := hr.1.o hsy hcy
        have hr9 : r = (Cy, Ty, Ny) := Option.some.inj (q0.symm.trans hcy)
        subst hr9
        obtain ⟨-, hfc, kC, hkC, -⟩ := hK.1 cy _ hcy
        obtain ⟨kA, comp, u1, u2, u3, -⟩ := (hK.2 t0 _ ht0).2
        have hasg : s.vm.assignable cellV.cls comp = true := by
          rw [g2]
          rcases hcast with rfl | hw
          · cases Option.some.inj (hfc.symm.trans u3)
            exact va_asg _ _
          · obtain ⟨c1, c2, e1, e2, e3⟩ := Cond.castable_spec (args := #[]) (s := s) (X.2.2.2.2.2.2.2.1 _ hw rfl)
            cases Option.some.inj (hfc.symm.trans e1)
            cases Option.some.inj (u3.symm.trans e2)
            exact e3
        cases hk1.symm.trans u1
        cases hkk1.symm.trans u2
        obtain ⟨kE, hkE, -⟩ := Vm.findClass_spec u3
        obtain ⟨kC', hkC', -⟩ := hal.2.2 _ _ hkC
        obtain ⟨kE', hkE', -⟩ := hal.2.2 _ _ hkE
        refine ⟨rfl, cellV, (show T.heap[gphi E y]? = some cellV by rw [hT]; exact g1), (fun q h => by rw [g3] at h; cases h), ⟨kC', by rw [g2]; exact hkC'⟩, ?_, ?_⟩
        · exact ⟨kE', hkE'⟩
        · show vm₁.assignable _ _ = true
          rw [hal.assignable]
          exact hasg)
    (g := F0 m pc la (.int n :: .int dp :: .ref (gphi E b) :: .int sp :: .ref (gphi E a) :: st.map (gv E))) rfl (hl.1.trans X.1.2.2.1.symm) (rest := st.map (gv E)) rfl (by rw [X.1.2.1]; exact dc) (by omega) (by
      have hnf : nativeFrameWords "java/lang/System" "arraycopy" 5 + 11 + 8 ≤ 64 := by decide +kernel
      show 2 * 0 + _ + _ ≤ _
      omega)
  have e1 : copied (vp_cell (gT E t) (n0, .inr (.inr (.inr (.inr fa))))) (vp_cell (gT E t) (n1, .inr (.inr (.inr (.inr fb))))) sp dp n = vp_cell (gT E t) (n1, .inr (.inr (.inr (.inr (va_cpy fa fb sp.toNatClampNeg dp.toNatClampNeg n.toNatClampNeg))))) := by
    rw [vp_cell_q, vp_cell_q, vp_cell_q]
    exact va_copied (fun z => va_rf z) (gT E t) (gT E t) fa fb h4
  rw [e1] at Y' step
  have hlt : gphi E b < H.size := (Array.getElem?_eq_some_iff.mp hc1).1
  generalize hcn : vp_cell (gT E t) (n1, .inr (.inr (.inr (.inr (va_cpy fa fb sp.toNatClampNeg dp.toNatClampNeg n.toNatClampNeg))))) = cn at Y' step
  have hheap : ((T.setVm vm').setCell (gphi E b) cn).heap = H.setIfInBounds (gphi E b) cn := by rw [← hT]; rfl
  have oq : ∀ q : Nat, q ≠ gphi E b → (H.setIfInBounds (gphi E b) cn)[q]? = H[q]? := fun q hq => by simp [Array.getElem?_setIfInBounds, Ne.symm hq]
  have hob : ∀ x, x ≠ b → gcell E (cR h a sp.toNatClampNeg b dp.toNatClampNeg n.toNatClampNeg) x = gcell E h x := fun x hx => gcell_c rfl rfl (funext fun j => if_neg fun q => hx q.1)
  have he : va_at (gD E) gcl (gphi E b, gcell E (cR h a sp.toNatClampNeg b dp.toNatClampNeg n.toNatClampNeg) b) (H.setIfInBounds (gphi E b) cn) := by
    rw [gcell_r (h := cR h a sp.toNatClampNeg b dp.toNatClampNeg n.toNatClampNeg) hsb ht4]
    show (H.setIfInBounds (gphi E b) cn)[gphi E b]? = some (vp_cell _ _)
    have e7 : (fun i => (hR (cR h a sp.toNatClampNeg b dp.toNatClampNeg n.toNatClampNeg) b i).map (gphi E)) = va_cpy fa fb sp.toNatClampNeg dp.toNatClampNeg n.toNatClampNeg := by
      funext k
      rw [hfa, hfb]
      show (if b = b ∧ _ ∧ _ then _ else _ : Option Nat).map _ = (if _ ∧ _ then _ else _)
      by_cases hk : dp.toNatClampNeg ≤ k ∧ k < dp.toNatClampNeg + n.toNatClampNeg
      · rw [if_pos ⟨rfl, hk⟩, if_pos hk]
      · rw [if_neg (fun q => hk q.2), if_neg hk]
    rw [e7, hcn]
    simp [Array.getElem?_setIfInBounds, hlt]
  obtain ⟨t9, a1, b1⟩ := kk E p l e R s m args below meth c _ _ cells slots MC MS la X (hr.setL (h' := cR h a sp.toNatClampNeg b dp.toNatClampNeg n.toNatClampNeg) hb21 rfl rfl rfl hob he (by simp) oq (fun z hz => by obtain ⟨w, -, hw⟩ := List.mem_map.mp hz; rw [← hw])) hl r1 r2 r3 r4 r5 r6 _ hheap Y'
  exact ⟨t9, step t9 a1, b1⟩
