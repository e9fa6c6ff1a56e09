/-! a special call of a method that the direct superclass inherits -/
theorem sub_up {vm : Vm} {a b : ClassId} {k : Class} (hk : vm.classes[a]? = some k) (hs : k.super = some b) : vm.isSubclass a b = true := by
  have hz : 0 < vm.classes.size := by
    rcases Nat.eq_zero_or_pos vm.classes.size with h | h
    · rw [Array.getElem?_eq_none (by omega)] at hk
      cases hk
    · exact h
  obtain ⟨n, hn⟩ : ∃ n, vm.classes.size = n + 1 := ⟨vm.classes.size - 1, by omega⟩
  simp only [Vm.isSubclass, hn, Vm.isSubclassAux, hk, hs, beq_self_eq_true, Bool.true_or, Bool.or_true]
section
variable {p : Program} {l : Launch} {e : Env} {R : Room} {s : State} {m : MethodId} {args : Array Value} {below : List Frame} {meth : Method} {c : Code} {H : Heap} {locs : List Loc} {cells slots : Nat}
theorem vz_callSX {T : State} {locs : List Loc} {cells slots : Nat} (X : Stand p l e R s m args below meth c T locs cells slots) (hexec : p.tables.exec = Jvm.exec) {own up : String} {index : Nat} {y : MethodName} {bytes : ByteArray} {maxL : Nat} {ret : Option FieldType}
    (hown : s.vm.findClass own = some m.cls) (hlink : (Cond.methodLink own index ⟨up, y.name, y.desc⟩).before args s = true) (hsame : (Cond.sameMethod up y.cls y.name y.desc).before args s = true) (hsup : (Cond.superclass own up).before args s = true) (hsup2 : (Cond.superclass up y.cls).before args s = true)
    (hinst : (Cond.instanceMethod y).before args s = true) (hcode : (Cond.code y bytes maxL ret).before args s = true) (hno : y.name ≠ "<init>")
    {W : Nat} {Pre : Pt → Array Value → Prop} {Post : Pt → Array Value → Option Value → Pt → Prop} {PostX : Pt → Array Value → Addr → Pt → Prop} (hK : vx_Back l R p e below s args y 3 W Pre Post PostX)
    {b : Addr} {cellB : Cell} {kB : Class} (hcell : T.heap[b]? = some cellB) (hobj : cellB.vm.isStatics = false) (hkB : s.vm.classes[cellB.cls]? = some kB)
    {g : JFrame} (hg : g.method = m) (hsize : g.locals.size = c.maxLocals) {argsL rest : List Value} (hlen : ∀ sig, parseMethodDescriptor y.desc = some sig → argsL.length = sig.parameters.length)
    (hstack : g.stack = argsL.reverse ++ .ref b :: rest) (hW : 2 * g.monitorRoom + (rest.map fun v => v.category).sum ≤ W) (hdg : decode c.code g.pc = .ok (.invokespecial index, 3))
    (hpre : ∀ vm₁, s.WarmedH vm₁ → Pre ⟨T.setVm vm₁, locs, cells, slots⟩ (Value.ref b :: argsL).toArray) :
    (∃ (v : Option Value) (vm₁ : Vm) (B : Pt), s.WarmedH vm₁ ∧ Stand p l e R s m args below meth c B.U B.locs B.cells B.slots ∧ Post ⟨T.setVm vm₁, locs, cells, slots⟩ (Value.ref b :: argsL).toArray v B ∧
      ∀ target, Steps p.tables e below (B.U.setTop { g with pc := g.pc + 3, stack := v.toList ++ rest }) target → Steps p.tables e below (T.setTop g) target) ∨
    (∃ (q : Addr) (vm₁ : Vm) (B : Pt), s.WarmedH vm₁ ∧ Stand p l e R s m args below meth c B.U B.locs B.cells B.slots ∧ PostX ⟨T.setVm vm₁, locs, cells, slots⟩ (Value.ref b :: argsL).toArray q B ∧
      Steps p.tables e below (T.setTop g) ((B.U.setTop { g with stack := rest }).pushFrame (.throwing q))) := by
  obtain ⟨mk, methM, hnamed, hmethM, hstM, habM⟩ := Cond.instanceMethod_spec hinst
  obtain ⟨methM', cM, hmethM', -, -, -, -, -, -, hsigM⟩ := Cond.code_spec hnamed hcode
  cases hmethM.symm.trans hmethM'
  obtain ⟨ps, dk, kp, hps, hdk, hkp, hsuper, -, -, hnid⟩ := Cond.superclass_spec hown hsup
  obtain ⟨p2, k2, kp2, hp2, hk2, -, hsuper2, -, -, -⟩ := Cond.superclass_spec hps hsup2
  have hn : s.methodNamed? ⟨y.cls, y.name, y.desc⟩ = some mk := hnamed
  have hpm : p2 = mk.cls := Option.some.inj (hp2.symm.trans (findClass_of_methodNamed hnamed))
  have hsub : s.vm.isSubclass ps mk.cls = true := by rw [← hpm]; exact sub_up hk2 hsuper2
  obtain ⟨vm₁, X₁, hstep₁⟩ := X.invokespecialUp (x := ⟨up, y.name, y.desc⟩) (owner := y.cls) hexec hown hlink hsame hn hmethM hstM habM hno hdk hnid hps hsuper hsub (a := b) (cell := cellB) hcell
    (fun z h => by rw [h] at hobj; cases hobj) hkB (g := g) hg (argsL := argsL) (rest := rest) (hlen _ hsigM) hstack hdg
  rcases hK m meth c ⟨T.setVm vm₁, locs, cells, slots⟩ { g with stack := rest } (.invokespecial index) mk (Value.ref b :: argsL).toArray X₁ hg hsize hdg hW (X₁.named hnamed) (hpre vm₁ X₁.warmed) with ⟨v, B, X', hpost, hsteps⟩ | ⟨q, B, X', hpost, hsteps⟩
  · exact Or.inl ⟨v, vm₁, B, X₁.warmed, X', hpost, fun target h => hstep₁ _ (by rw [doInvoke_state]; exact hsteps.trans h)⟩
  · exact Or.inr ⟨q, vm₁, B, X₁.warmed, X', hpost, hstep₁ _ (by rw [doInvoke_state]; exact hsteps)⟩
def vx_SXc (R : Room) (s : State) (args : Array Value) (own up : String) (index : Nat) (y : MethodName) (bytes : ByteArray) (maxL : Nat) (ret : Option FieldType) (ws : List Cond) (rm : Room) (mc ms n : Nat) : Prop :=
  (rm.cells = mc ∧ rm.slots = ms ∧ rm.frames + 1 ≤ R.frames ∧ 8 + (maxL + 11) + rm.locals ≤ R.locals ∧ (∀ w ∈ ws, ∀ (a' : Array Value) (U : State), s.WarmedH U.vm → w.before a' U = true) ∧ Cond.code y bytes maxL ret ∈ ws) ∧
  (Cond.methodLink own index ⟨up, y.name, y.desc⟩).before args s = true ∧ (Cond.sameMethod up y.cls y.name y.desc).before args s = true ∧ (Cond.superclass own up).before args s = true ∧ (Cond.superclass up y.cls).before args s = true ∧ (Cond.instanceMethod y).before args s = true ∧ (Cond.initialized y.cls).before args s = true ∧ (Cond.code y bytes maxL ret).before args s = true ∧ y.name ≠ "<init>" ∧ (∀ sig, parseMethodDescriptor y.desc = some sig → n = sig.parameters.length)
theorem vz_runSX {y : MethodName} {bytes cc : ByteArray} {maxL nL mc ms n index : Nat} {ret : Option FieldType} {ws : List Cond} {rm : Room} {Pc : Array Value → State → Prop} {Qc : Array Value → State → Outcome → State → Prop} {XC : String → Addr → State → State → Prop} {free : Addr → Prop} {Ts : List Cond} {own up C : String} {cC : ClassId} {b : Addr} {As rest : List Value} {g : JFrame}
    (hat : ClassAt s C cC) (S : CallFix p m c cc nL s args Ts own) (hM : vx_Met l y ws rm Pc Qc XC mc ms free) (cw : vx_SXc R s args own up index y bytes maxL ret ws rm mc ms n) (hp : PreV s H C b Pc As)
    (hg : g.method = m) (hn : As.length = n) (hsize : g.locals.size = nL) (hstack : g.stack = As.reverse ++ .ref b :: rest) (hW : 2 * g.monitorRoom + (rest.map fun v => v.category).sum ≤ 8) (hdg : decode cc g.pc = .ok (.invokespecial index, 3)) (hf : cells + mc ≤ R.cells ∧ slots + ms ≤ R.slots) :
    vx_Run p l e R s m args below meth c H locs cells slots mc ms g rest (Qc (Value.ref b :: As).toArray) XC free := by
  obtain ⟨⟨hrc, hrs, hfr, hlo, hws, hcw⟩, hl1, hl2, hl3, hl3b, hl4, hini, hcode, hno, hlen⟩ := cw
  have hK : vx_Back l R p e below s args y 3 8 (PreOf R mc ms Pc) (PostOf Qc mc ms free) (vx_Post XC mc ms free) := vx_back (bytes := bytes) (maxL := maxL) (ret := ret) hM hp.1 hrc hrs hfr hlo hws hcw (fun a' U hW => word_at hW (Or.inl (by first | rfl | simp [Cond.onTables, Cond.keeps, Cond.steady])) hini)
  obtain ⟨hx, hb, hml, ho, -⟩ := S
  obtain ⟨-, ⟨cellB, hcB, hoB, hclB⟩, hPc⟩ := hp
  obtain ⟨hfc, kB, hkB, -⟩ := hat
  cases hfc.symm.trans hclB
  intro T hT X
  rcases vz_callSX X hx (bytes := bytes) (maxL := maxL) (ret := ret) ho hl1 hl2 hl3 hl3b hl4 hcode hno hK (by rw [hT]; exact hcB) hoB hkB hg (hsize.trans hml.symm) (argsL := As) (rest := rest) (fun sig h => hn.trans (hlen sig h)) hstack hW (by rw [hb]; exact hdg)
    (fun vm₁ hW₁ => ⟨hf.1, hf.2, hPc (T.setVm vm₁) hT hW₁⟩) with ⟨v, vm₁, ⟨U', l2, c2, s2⟩, hW₁, X', ⟨g', mk, t, L, e1, e2, hq, h1, hL, h2, h3⟩, st⟩ | ⟨q, vm₁, ⟨U', l2, c2, s2⟩, hW₁, X', ⟨g', mk, t, L, E, ce, e1, e2, hq, hce, hcv, hcl, h1, hL, h2, h3⟩, st⟩
  · dsimp only [Pt.U, Pt.locs, Pt.cells, Pt.slots] at X' e1 e2 h1 h2 h3 st
    subst h1; subst h2; subst h3
    exact Or.inl ⟨v, (T.setVm vm₁).calling g' mk (Value.ref b :: As).toArray, t, U', L, hT, X', hL, e1, e2, hq, st⟩
  · dsimp only [Pt.U, Pt.locs, Pt.cells, Pt.slots] at X' e1 e2 h1 h2 h3 st hcl
    subst h1; subst h2; subst h3
    exact Or.inr ⟨q, (T.setVm vm₁).calling g' mk (Value.ref b :: As).toArray, t, U', L, E, ce, hT, X', hL, e1, e2, hq, hce, hcv, vx_cls hW₁ hcl, st⟩
end
abbrev gSX (own up : String) (index : Nat) (M1 : gM) (n : Nat) : Prop := Cond.methodLink own index ⟨up, (mY M1).name, (mY M1).desc⟩ ∈ lw_all ∧ Cond.sameMethod up (mY M1).cls (mY M1).name (mY M1).desc ∈ lw_all ∧ Cond.superclass own up ∈ lw_all ∧ Cond.superclass up (mY M1).cls ∈ lw_all ∧ Cond.instanceMethod (mY M1) ∈ lw_all ∧ Cond.initialized (mY M1).cls ∈ lw_all ∧ gCd M1 ∧ mH M1 = [] ∧ mL M1 ≤ 45 ∧ (mY M1).name ≠ "<init>" ∧ gDs (mY M1) n
theorem r_callSX {d mc ms mc1 ms1 : Nat} {M M1 : gM} {pc : Nat} {ls : gLs} {st stk : List Value} {h : Hp} {Q Q1 : gQ} {b : Nat} {As : List Value} {n index : Nat} {C up : String} {ci : Nat} {T9 : u_T} {N9 : Nat} (dc : decode (mC M) pc = .ok (.invokespecial index, 3)) (hv : gSX (mOwn M) up index M1 n) (hcl : gcl[ci]? = some (C, T9, N9)) (hC : gC d mc1 ms1 M1 (.ref b :: As) h Q1) (hb : gRecv h b C) (hn : As.length = n) (hst : stk = As.reverse ++ .ref b :: st) (hcat : (st.map fun v => v.category).sum ≤ 8) (kr : ∀ v h', Q1 (.inl v) h' → gG (d + 1) mc ms M (pc + 3) ls (v.toList ++ st) h' Q) (kt : ∀ a h', Q1 (.inr a) h' → gTh (d + 1) mc ms M pc ls a h' Q) : gG (d + 1) (mc + mc1) (ms + ms1) M pc ls stk h Q := by
  intro E p l e R s m args below meth c H locs cells slots MC MS la X hr hl r1 r2 r3 r4 r5 r6
  have hts := X.1.2.2.2.2
  have hR : (gRoom d mc1 ms1).frames + 1 ≤ R.frames ∧ 8 + (mL M1 + 11) + (gRoom d mc1 ms1).locals ≤ R.locals := ⟨r1, by show 8 + (mL M1 + 11) + 64 * d ≤ R.locals; have := hv.2.2.2.2.2.2.2.2.1; omega⟩
  subst hst
  obtain ⟨q1, q2, q3, q3b, q4, q5, q6, hh, hL, hi, hds⟩ := hv
  obtain ⟨hcell, hgv⟩ := hb.use X hr
  have hM := hC l E
  rw [List.map_cons, hgv] at hM
  have hp : PreV s H C (gphi E b) (va_Pc (.ref (gphi E b) :: As.map (gv E)) (gPre E h)) (As.map (gv E)) := ⟨gPre_blind, hcell, fun U hU hW => ⟨rfl, gPre_moved hW hU X.2.2.2.2.2.1 X.2.2.2.2.2.2 hr⟩⟩
  have hw := mWs_nil hh
  have hG : GoodIn lw_all (mWs M1) := by rw [hw]; exact lw_meth q6
  have hc : Cond.code (mY M1) (mC M1) (mL M1) (mRt M1) ∈ mWs M1 := by rw [hw]; exact List.mem_cons_self
  have cw : vx_SXc R s args (mOwn M) up index (mY M1) (mC M1) (mL M1) (mRt M1) (mWs M1) (gRoom d mc1 ms1) mc1 ms1 n := ⟨⟨rfl, rfl, hR.1, hR.2, pay_in hts hG, hc⟩, hts _ q1, hts _ q2, hts _ q3, hts _ q3b, hts _ q4, hts _ q5, hts _ (hG _ hc).1, hi, fun sig h => by have h2 := hds; rw [gDs, h] at h2; exact (Option.some.inj h2).symm⟩
  exact g_run X hr hl r1 r2 r3 r4 r5 r6 kr kt (vz_runSX (C := C) (X.2.2.2.2.2.1.1 ci _ hcl).2 (As := As.map (gv E)) (rest := st.map (gv E)) X.1 hM cw hp rfl (by rw [List.length_map]; exact hn) hl.1 (by rw [List.map_append, List.map_reverse, List.map_cons, hgv]) (lv_room (gG_cat X.2.2.2.2.2.2 hcat)) dc ⟨by omega, by omega⟩)
