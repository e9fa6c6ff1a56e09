set_option maxRecDepth 100000
/-! THE ABSTRACT MACHINE: a heap of plain functions, and a judgement over the kit's W in which no word, room or frame is seen -/
set_option maxRecDepth 100000
/-- next address; what lies at an address (a thing of a kind, or an array of a kind and a length); ints; refs; the script's length and ints -/
abbrev Hp : Type := Nat × (Nat → Nat ⊕ (Nat × Nat)) × (Nat → Nat → Int32) × (Nat → Nat → Option Nat) × Nat × (Nat → Int32)
def hN (h : Hp) : Nat := h.1
def hS (h : Hp) : Nat → Nat ⊕ (Nat × Nat) := h.2.1
def hI (h : Hp) : Nat → Nat → Int32 := h.2.2.1
def hR (h : Hp) : Nat → Nat → Option Nat := h.2.2.2.1
def hX (h : Hp) : Nat × (Nat → Int32) := h.2.2.2.2
def u2 {α : Type} (f : Nat → Nat → α) (a k : Nat) (v : α) : Nat → Nat → α := fun b j => if b = a ∧ j = k then v else f b j
/-- an int written, a ref written, a cell made, ints copied, refs copied -/
def wI (h : Hp) (a k : Nat) (v : Int32) : Hp := (hN h, hS h, u2 (hI h) a k v, hR h, hX h)
def wR (h : Hp) (a k : Nat) (v : Option Nat) : Hp := (hN h, hS h, hI h, u2 (hR h) a k v, hX h)
def hM (h : Hp) (x : Nat ⊕ (Nat × Nat)) : Hp := (hN h + 1, fun b => if b = hN h then x else hS h b, fun b j => if b = hN h then 0 else hI h b j, fun b j => if b = hN h then none else hR h b j, hX h)
def cI (h : Hp) (a i b j n : Nat) : Hp := (hN h, hS h, fun x k => if x = b ∧ j ≤ k ∧ k < j + n then hI h a (i + (k - j)) else hI h x k, hR h, hX h)
def cR (h : Hp) (a i b j n : Nat) : Hp := (hN h, hS h, hI h, fun x k => if x = b ∧ j ≤ k ∧ k < j + n then hR h a (i + (k - j)) else hR h x k, hX h)
/-- what stands for what: addresses of the things that were there before (0 the script, 1..9 texts, 10..18 their bytes), where new cells begin, classes, array classes, two statics -/
abbrev gE : Type := (Nat → Nat) × Nat × va_G × (Nat → ClassId) × (Nat → Value)
def gphi (E : gE) (a : Nat) : Nat := if a < 21 then E.1 a else E.2.1 + (a - 21)
def gsz (E : gE) : Nat := E.2.1
def gD (E : gE) : va_G := E.2.2.1
def gT (E : gE) : Nat → ClassId := E.2.2.2.1
def gv (E : gE) (v : Value) : Value := match v with
  | .ref a => if a = 19 then E.2.2.2.2 0 else if a = 20 then E.2.2.2.2 1 else .ref (gphi E a)
  | w => w
def grv (o : Option Nat) : Value := match o with
  | none => .null
  | some a => .ref a
def gisv (v : Value) : Bool := match v with
  | .null => true
  | .ref _ => true
  | _ => false
def gisr (t : FieldType) : Bool := match t with
  | .object _ => true
  | .array _ => true
  | _ => false
def gtk (t : Nat) : FieldType := match t with
  | 0 => .int
  | 1 => .byte
  | 2 => .short
  | _ => .boolean
def gtys (E : gE) : List (ClassId × FieldType) := [(gT E 0, .int), (gT E 1, .byte), (gT E 2, .short), (gT E 3, .boolean), (gT E 4, .object RX7), (gT E 5, .object RX14), (gT E 6, .object RX5)]
def gfv (E : gE) (h : Hp) (c a k : Nat) : Value := if gisr (gty c k) = true then gv E (grv (hR h a k)) else .int (hI h a k)
def gcell (E : gE) (h : Hp) (a : Nat) : va_E := match hS h a with
  | .inl c => .inr (c, (List.range (gNF c)).map (gfv E h c a))
  | .inr q => .inl (gT E q.1, q.2, if q.1 < 4 then .inl (hI h a) else .inr (.inr (.inr (.inr (fun i => (hR h a i).map (gphi E))))))
def gA (E : gE) : Nat → Prop := fun q => gsz E ≤ q
/-- the heap H holds the abstract heap h -/
def gRm (E : gE) (h : Hp) (H : Heap) : Prop := 21 ≤ hN h ∧ (∀ a, (a < 21 ∨ hN h ≤ a) → hS h a = .inl 99) ∧ H.size = gsz E + (hN h - 21) ∧ ∀ a, 21 ≤ a → a < hN h → va_at (gD E) gcl (gphi E a, gcell E h a) H
/-- the texts that the code names: whose, entry, text; their bytes -/
def gstr : List (String × Nat × String) := [(RX0, 175, "tdw"), (RX0, 177, "wom"), (RX16, 89, "!"), (RX16, 99, "("), (RX16, 81, "*/%"), (RX16, 76, "+-"), (RX16, 71, "<=>"), (RX16, 66, "&"), (RX16, 52, "|")]
def gbyt : List (List Int32) := [[116, 100, 119], [119, 111, 109], [33], [40], [42, 47, 37], [43, 45], [60, 61, 62], [38], [124]]
def glen : List Nat := [3, 3, 1, 1, 3, 2, 3, 1, 1]
/-- what was there before, never written -/
def gSp (E : gE) (h : Hp) (s : State) : Prop := va_X (gphi E 0) (hX h).1 (hX h).2 s s.heap ∧ vk_S 9 glen gbyt (fun i => gphi E (1 + i)) (fun i => gphi E (10 + i)) (gA E) s s.heap ∧ va_Z "java/lang/String" "COMPACT_STRINGS" "Z" (.int 1) (gA E) s s.heap ∧ va_Z "java/lang/Throwable" "UNASSIGNED_STACK" "[Ljava/lang/StackTraceElement;" (E.2.2.2.2 0) (gA E) s s.heap ∧ va_Z "java/lang/Throwable" "SUPPRESSED_SENTINEL" "Ljava/util/List;" (E.2.2.2.2 1) (gA E) s s.heap ∧ gphi E 0 < s.heap.size ∧ ¬ gA E (gphi E 0)
/-- the two statics hold a reference or null -/
def gEc (E : gE) : Prop := (E.2.2.2.2 0).category = 1 ∧ (E.2.2.2.2 1).category = 1 ∧ gisv (E.2.2.2.2 0) = true ∧ gisv (E.2.2.2.2 1) = true
/-- words that don't ride in the list -/
def gk (w : Cond) : Bool := match w with
  | .fieldLinkNest .. => true
  | .methodLinkNest .. => true
  | .castable .. => true
  | .declares .. => true
  | _ => false
def gFw : List (String × MethodName × MethodName) := [("WellRefuses$Boy", ⟨"WellRefuses$Lets", "lets", "(I)I"⟩, ⟨"WellRefuses$One", "lets", "(I)I"⟩), ("WellRefuses$Bride", ⟨"WellRefuses$Lets", "lets", "(I)I"⟩, ⟨"WellRefuses$Saint", "lets", "(I)I"⟩), ("WellRefuses$Farmer", ⟨"WellRefuses$Lets", "lets", "(I)I"⟩, ⟨"WellRefuses$One", "lets", "(I)I"⟩), ("WellRefuses$One", ⟨"WellRefuses$Lets", "lets", "(I)I"⟩, ⟨"WellRefuses$One", "lets", "(I)I"⟩), ("WellRefuses$Saint", ⟨"WellRefuses$Lets", "lets", "(I)I"⟩, ⟨"WellRefuses$Saint", "lets", "(I)I"⟩), ("WellRefuses$Stranger", ⟨"WellRefuses$Lets", "lets", "(I)I"⟩, ⟨"WellRefuses$One", "lets", "(I)I"⟩), ("WellRefuses$Twin", ⟨"WellRefuses$Lets", "lets", "(I)I"⟩, ⟨"WellRefuses$One", "lets", "(I)I"⟩), ("WellRefuses$Boy", ⟨"WellRefuses$Fills", "fills", "(I)I"⟩, ⟨"WellRefuses$Boy", "fills", "(I)I"⟩), ("WellRefuses$Bride", ⟨"WellRefuses$Fills", "fills", "(I)I"⟩, ⟨"WellRefuses$One", "fills", "(I)I"⟩), ("WellRefuses$Farmer", ⟨"WellRefuses$Fills", "fills", "(I)I"⟩, ⟨"WellRefuses$Farmer", "fills", "(I)I"⟩), ("WellRefuses$One", ⟨"WellRefuses$Fills", "fills", "(I)I"⟩, ⟨"WellRefuses$One", "fills", "(I)I"⟩), ("WellRefuses$Saint", ⟨"WellRefuses$Fills", "fills", "(I)I"⟩, ⟨"WellRefuses$One", "fills", "(I)I"⟩), ("WellRefuses$Stranger", ⟨"WellRefuses$Fills", "fills", "(I)I"⟩, ⟨"WellRefuses$One", "fills", "(I)I"⟩), ("WellRefuses$Twin", ⟨"WellRefuses$Fills", "fills", "(I)I"⟩, ⟨"WellRefuses$One", "fills", "(I)I"⟩), ("WellRefuses$Boy", ⟨"WellRefuses$Lends", "lends", "(I)I"⟩, ⟨"WellRefuses$One", "lends", "(I)I"⟩), ("WellRefuses$Bride", ⟨"WellRefuses$Lends", "lends", "(I)I"⟩, ⟨"WellRefuses$One", "lends", "(I)I"⟩), ("WellRefuses$Farmer", ⟨"WellRefuses$Lends", "lends", "(I)I"⟩, ⟨"WellRefuses$One", "lends", "(I)I"⟩), ("WellRefuses$One", ⟨"WellRefuses$Lends", "lends", "(I)I"⟩, ⟨"WellRefuses$One", "lends", "(I)I"⟩), ("WellRefuses$Saint", ⟨"WellRefuses$Lends", "lends", "(I)I"⟩, ⟨"WellRefuses$One", "lends", "(I)I"⟩), ("WellRefuses$Stranger", ⟨"WellRefuses$Lends", "lends", "(I)I"⟩, ⟨"WellRefuses$Stranger", "lends", "(I)I"⟩), ("WellRefuses$Twin", ⟨"WellRefuses$Lends", "lends", "(I)I"⟩, ⟨"WellRefuses$Twin", "lends", "(I)I"⟩), ("WellRefuses$Boy", ⟨"WellRefuses$Says", "tells", "(I)I"⟩, ⟨"WellRefuses$One", "tells", "(I)I"⟩), ("WellRefuses$Bride", ⟨"WellRefuses$Says", "tells", "(I)I"⟩, ⟨"WellRefuses$Bride", "tells", "(I)I"⟩), ("WellRefuses$Farmer", ⟨"WellRefuses$Says", "tells", "(I)I"⟩, ⟨"WellRefuses$One", "tells", "(I)I"⟩), ("WellRefuses$One", ⟨"WellRefuses$Says", "tells", "(I)I"⟩, ⟨"WellRefuses$One", "tells", "(I)I"⟩), ("WellRefuses$Saint", ⟨"WellRefuses$Says", "tells", "(I)I"⟩, ⟨"WellRefuses$One", "tells", "(I)I"⟩), ("WellRefuses$Stranger", ⟨"WellRefuses$Says", "tells", "(I)I"⟩, ⟨"WellRefuses$One", "tells", "(I)I"⟩), ("WellRefuses$Twin", ⟨"WellRefuses$Says", "tells", "(I)I"⟩, ⟨"WellRefuses$Twin", "tells", "(I)I"⟩)]
def gNw (E : gE) (s : State) : Prop := gEc E ∧ (∀ w ∈ lw_tbl, gk w = true → va_Nw w s) ∧ (∀ C ∈ [RX7, RX14, RX5], va_AO C s) ∧ (∀ q ∈ gFw, va_Fw q.1 q.2.1 q.2.2 s) ∧ va_Nc RX1 RX18 s ∧ ∀ (i : Nat) (q : String × Nat × String), gstr[i]? = some q → vk_R q.1 q.2.1 q.2.2 (gphi E (1 + i)) s
/-- a method: its class, name, code, how many locals, what it answers, its handlers -/
abbrev gM : Type := String × MethodName × ByteArray × Nat × Option FieldType × List (Nat × Nat × Nat × Nat)
def mOwn (M : gM) : String := M.1
def mY (M : gM) : MethodName := M.2.1
def mC (M : gM) : ByteArray := M.2.2.1
def mL (M : gM) : Nat := M.2.2.2.1
def mRt (M : gM) : Option FieldType := M.2.2.2.2.1
def mH (M : gM) : List (Nat × Nat × Nat × Nat) := M.2.2.2.2.2
def mWs (M : gM) : List Cond := match mH M with
  | [] => ws_ (mY M) (mC M) (mL M) (mRt M)
  | hh => wsW_ (mY M) (mC M) (mL M) (mRt M) hh
abbrev gLs : Type := List (Option Value)
/-- the answer: returned, or threw the thing at an address -/
abbrev gO : Type := Option Value ⊕ Nat
abbrev gQ : Type := gO → Hp → Prop
def gL (E : gE) (la : Array Slot) (n : Nat) (ls : gLs) : Prop := la.size = n ∧ lv_wf la ∧ ls.length = n ∧ ∀ (i : Nat) (v : Value), ls[i]? = some (some v) → la[i]? = some (.val (gv E v))
def gX (E : gE) (p : Program) (s : State) (m : MethodId) (args : Array Value) (meth : Method) (c : Code) (M : gM) : Prop :=
  CallFix p m c (mC M) (mL M) s args lw_all (mOwn M) ∧ meth.sig.returnType = mRt M ∧ meth.locks = false ∧ meth.name = (mY M).name ∧ c.exceptionTable.toList = tableOf (mH M) ∧ va_K (gD E) gcl (gtys E) s ∧ gNw E s
def gRel (E : gE) (h : Hp) (s : State) (H : Heap) (locs : List Loc) : Prop := gRm E h H ∧ va_S (gA E) s.heap H locs ∧ gSp E h s
def gPre (E : gE) (h : Hp) (U : State) : Prop := va_K (gD E) gcl (gtys E) U ∧ gNw E U ∧ gRel E h U U.heap []
def gQc (E : gE) (x : Nat × (Nat → Int32)) (Q : gQ) : Array Value → State → Outcome → State → Prop := fun _ st oc t => (∃ (v : Option Value) (h : Hp), oc = .returned (v.map (gv E)) ∧ Q (.inl v) h ∧ gRm E h t.heap ∧ hX h = x) ∧ va_F (gA E) st t
def gXC (E : gE) (x : Nat × (Nat → Int32)) (Q : gQ) : String → Addr → State → State → Prop := fun nm q st t => (∃ (a c : Nat) (C : String) (T : u_T) (N : Nat) (h : Hp), q = gphi E a ∧ hS h a = .inl c ∧ gcl[c]? = some (C, T, N) ∧ nm = C ∧ Q (.inr a) h ∧ gRm E h t.heap ∧ hX h = x) ∧ va_F (gA E) st t
def gRoom (d mc ms : Nat) : Room := { frames := d, cells := mc, slots := ms, locals := 64 * d }
/-- THE CONTRACT of M at depth d, making at most mc cells of ms slots: called with av over the heap h it ends as Q says -/
def gC (d mc ms : Nat) (M : gM) (av : List Value) (h : Hp) (Q : gQ) : Prop :=
  ∀ (l : Launch) (E : gE), vx_Met l (mY M) (mWs M) (gRoom d mc ms) (va_Pc (av.map (gv E)) (gPre E h)) (gQc E (hX h) Q) (gXC E (hX h) Q) mc ms (gA E)
/-- THE JUDGEMENT: the method M, now at pc with locals ls and stack st over the heap h, ends as Q says -/
def gG (d mc ms : Nat) (M : gM) (pc : Nat) (ls : gLs) (st : List Value) (h : Hp) (Q : gQ) : Prop :=
  ∀ (E : gE) (p : Program) (l : Launch) (e : Env) (R : Room) (s : State) (m : MethodId) (args : Array Value) (below : List Frame) (meth : Method) (c : Code) (H : Heap) (locs : List Loc) (cells slots MC MS : Nat) (la : Array Slot),
    gX E p s m args meth c M → gRel E h s H locs → gL E la (mL M) ls → d ≤ R.frames → 64 * d ≤ R.locals → cells + mc ≤ R.cells → slots + ms ≤ R.slots → cells + mc ≤ MC → slots + ms ≤ MS →
    W p l e R s m args below meth c H locs cells slots (vx_MQ below (gQc E (hX h) Q) (gXC E (hX h) Q) args s MC MS (gA E)) (F0 m pc la (st.map (gv E)))
/-- .. the thing at a thrown over the frame at pc -/
def gTh (d mc ms : Nat) (M : gM) (pc : Nat) (ls : gLs) (a : Nat) (h : Hp) (Q : gQ) : Prop :=
  ∀ (E : gE) (p : Program) (l : Launch) (e : Env) (R : Room) (s : State) (m : MethodId) (args : Array Value) (below : List Frame) (meth : Method) (c : Code) (H : Heap) (locs : List Loc) (cells slots MC MS : Nat) (la : Array Slot) (rest : List Value),
    gX E p s m args meth c M → gRel E h s H locs → gL E la (mL M) ls → d ≤ R.frames → 64 * d ≤ R.locals → cells + mc ≤ R.cells → slots + ms ≤ R.slots → cells + mc ≤ MC → slots + ms ≤ MS →
    vx_W p l e R s m args below meth c H locs cells slots (vx_MQ below (gQc E (hX h) Q) (gXC E (hX h) Q) args s MC MS (gA E)) (F0 m pc la rest) (gphi E a)
theorem gv_ref {E : gE} {a : Nat} (h : 21 ≤ a) : gv E (.ref a) = .ref (gphi E a) := by
  show (if a = 19 then _ else if a = 20 then _ else _) = _
  rw [if_neg (by omega), if_neg (by omega)]
theorem gphi_ge {E : gE} {a : Nat} (h : 21 ≤ a) : gphi E a = gsz E + (a - 21) := by
  unfold gphi gsz
  rw [if_neg (by omega)]
theorem gphi_inj {E : gE} {a b : Nat} (ha : 21 ≤ a) (hb : 21 ≤ b) (h : gphi E a = gphi E b) : a = b := by
  rw [gphi_ge ha, gphi_ge hb] at h
  omega
theorem gA_phi {E : gE} {a : Nat} (h : 21 ≤ a) : gA E (gphi E a) := by
  show gsz E ≤ _
  rw [gphi_ge h]
  omega
theorem gv_cat {E : gE} (h : gEc E) (v : Value) : (gv E v).category = v.category := by
  cases v with
  | ref a =>
    show (if a = 19 then _ else if a = 20 then _ else _ : Value).category = 1
    by_cases h1 : a = 19
    · rw [if_pos h1]; exact h.1
    · rw [if_neg h1]
      by_cases h2 : a = 20
      · rw [if_pos h2]; exact h.2.1
      · rw [if_neg h2]; rfl
  | _ => rfl
theorem gv_cats {E : gE} (h : gEc E) (st : List Value) : ((st.map (gv E)).map fun v => v.category) = st.map fun v => v.category := by
  rw [List.map_map]
  exact List.map_congr_left fun v _ => gv_cat h v
theorem g_ne {c : Nat} {q : vw_C} (hc : gcl[c]? = some q) : (Sum.inl c : Nat ⊕ (Nat × Nat)) ≠ .inl 99 := by
  intro e
  cases e
  simp [gcl] at hc
theorem g_nr {q : Nat × Nat} : (Sum.inr q : Nat ⊕ (Nat × Nat)) ≠ .inl 99 := fun e => by cases e
theorem gRm.rng {E : gE} {h : Hp} {H : Heap} (hm : gRm E h H) {a : Nat} {x : Nat ⊕ (Nat × Nat)} (hs : hS h a = x) (hx : x ≠ .inl 99) : 21 ≤ a ∧ a < hN h := by
  refine ⟨?_, ?_⟩
  · rcases Nat.lt_or_ge a 21 with q | q
    · exact absurd (hs.symm.trans (hm.2.1 a (Or.inl q))) hx
    · exact q
  · rcases Nat.lt_or_ge a (hN h) with q | q
    · exact q
    · exact absurd (hs.symm.trans (hm.2.1 a (Or.inr q))) hx
theorem gcell_o {E : gE} {h : Hp} {a c : Nat} (hs : hS h a = .inl c) : gcell E h a = .inr (c, (List.range (gNF c)).map (gfv E h c a)) := by
  unfold gcell
  rw [hs]
theorem gcell_i {E : gE} {h : Hp} {a t n : Nat} (hs : hS h a = .inr (t, n)) (ht : t < 4) : gcell E h a = .inl (gT E t, n, .inl (hI h a)) := by
  unfold gcell
  rw [hs]
  show Sum.inl (gT E t, n, if t < 4 then _ else _) = _
  rw [if_pos ht]
theorem gcell_r {E : gE} {h : Hp} {a t n : Nat} (hs : hS h a = .inr (t, n)) (ht : ¬ t < 4) : gcell E h a = .inl (gT E t, n, .inr (.inr (.inr (.inr (fun i => (hR h a i).map (gphi E)))))) := by
  unfold gcell
  rw [hs]
  show Sum.inl (gT E t, n, if t < 4 then _ else _) = _
  rw [if_neg ht]
theorem gcell_c {E : gE} {h h' : Hp} {a : Nat} (e1 : hS h' a = hS h a) (e2 : hI h' a = hI h a) (e3 : hR h' a = hR h a) : gcell E h' a = gcell E h a := by
  have e4 : ∀ c k, gfv E h' c a k = gfv E h c a k := by
    intro c k
    unfold gfv
    rw [e2, e3]
  unfold gcell
  rw [e1, e2, e3]
  cases hS h a with
  | inl c =>
    have e5 : gfv E h' c a = gfv E h c a := funext (e4 c)
    show Sum.inr (c, (List.range (gNF c)).map (gfv E h' c a)) = _
    rw [e5]
  | inr q => rfl
theorem g_one {E : gE} {x : Nat × va_E} {H : Heap} (h : va_at (gD E) gcl x H) : va_P (gD E) gcl [x] H := by
  intro k q hk
  match k, hk with
  | 0, hk => cases hk; exact h
  | k + 1, hk => simp at hk
theorem gRm.o {E : gE} {h : Hp} {H : Heap} (hm : gRm E h H) {a c : Nat} {q : vw_C} (hs : hS h a = .inl c) (hc : gcl[c]? = some q) : va_at (gD E) gcl (gphi E a, .inr (c, (List.range (gNF c)).map (gfv E h c a))) H := by
  obtain ⟨h1, h2⟩ := hm.rng hs (g_ne hc)
  rw [← gcell_o hs]
  exact hm.2.2.2 a h1 h2
theorem gRm.i {E : gE} {h : Hp} {H : Heap} (hm : gRm E h H) {a t n : Nat} (hs : hS h a = .inr (t, n)) (ht : t < 4) : va_at (gD E) gcl (gphi E a, .inl (gT E t, n, .inl (hI h a))) H := by
  obtain ⟨h1, h2⟩ := hm.rng hs g_nr
  rw [← gcell_i hs ht]
  exact hm.2.2.2 a h1 h2
theorem gRm.r {E : gE} {h : Hp} {H : Heap} (hm : gRm E h H) {a t n : Nat} (hs : hS h a = .inr (t, n)) (ht : ¬ t < 4) : va_at (gD E) gcl (gphi E a, .inl (gT E t, n, .inr (.inr (.inr (.inr (fun i => (hR h a i).map (gphi E))))))) H := by
  obtain ⟨h1, h2⟩ := hm.rng hs g_nr
  rw [← gcell_r hs ht]
  exact hm.2.2.2 a h1 h2
theorem gRm.set {E : gE} {h h' : Hp} {H H1 : Heap} {a : Nat} (hm : gRm E h H) (h21 : 21 ≤ a) (hN' : hN h' = hN h) (hS' : hS h' = hS h) (ho : ∀ b, b ≠ a → gcell E h' b = gcell E h b) (he : va_at (gD E) gcl (gphi E a, gcell E h' a) H1) (hz : H1.size = H.size) (oq : ∀ q : Nat, q ≠ gphi E a → H1[q]? = H[q]?) : gRm E h' H1 := by
  refine ⟨by rw [hN']; exact hm.1, fun b hb => by rw [hS']; exact hm.2.1 b (by rw [hN'] at hb; exact hb), by rw [hz, hN']; exact hm.2.2.1, fun b h1 h2 => ?_⟩
  rw [hN'] at h2
  by_cases hb : b = a
  · subst hb; exact he
  · rw [ho b hb]
    exact (hm.2.2.2 b h1 h2).kept (oq _ (fun e => hb (gphi_inj h1 h21 e)))
theorem gSp_of {E : gE} {h h' : Hp} {s : State} (e : hX h' = hX h) (g : gSp E h s) : gSp E h' s := by
  unfold gSp
  rw [e]
  exact g
theorem gRel.set {E : gE} {h h' : Hp} {s : State} {H H1 : Heap} {locs : List Loc} {a j : Nat} (hr : gRel E h s H locs) (h21 : 21 ≤ a) (hN' : hN h' = hN h) (hS' : hS h' = hS h) (hX' : hX h' = hX h) (ho : ∀ b, b ≠ a → gcell E h' b = gcell E h b) (he : va_at (gD E) gcl (gphi E a, gcell E h' a) H1) (hz : H1.size = H.size) (oq : ∀ q : Nat, q ≠ gphi E a → H1[q]? = H[q]?) : gRel E h' s H1 (locs ++ [⟨gphi E a, j⟩]) :=
  ⟨hr.1.set h21 hN' hS' ho he hz oq, hr.2.1.put hz oq (gA_phi h21), gSp_of hX' hr.2.2⟩
/-- a cell made -/
theorem gRm.made {E : gE} {h : Hp} {H H1 : Heap} {x : Nat ⊕ (Nat × Nat)} (hm : gRm E h H) (he : va_at (gD E) gcl (gphi E (hN h), gcell E (hM h x) (hN h)) H1) (hz : H1.size = H.size + 1) (oq : ∀ q : Nat, q < H.size → H1[q]? = H[q]?) : gRm E (hM h x) H1 := by
  have hn : hN (hM h x) = hN h + 1 := rfl
  have hS' : ∀ b, b ≠ hN h → hS (hM h x) b = hS h b := fun b hb => if_neg hb
  refine ⟨by rw [hn]; exact Nat.le_succ_of_le hm.1, fun b hb => ?_, ?_, fun b h1 h2 => ?_⟩
  · have hb' : b ≠ hN h := by
      rw [hn] at hb
      have := hm.1
      omega
    rw [hS' b hb']
    exact hm.2.1 b (by rw [hn] at hb; omega)
  · have h0 := hm.1
    have h1 := hm.2.2.1
    rw [hz, hn]
    omega
  · rw [hn] at h2
    by_cases hb : b = hN h
    · subst hb; exact he
    · have e : gcell E (hM h x) b = gcell E h b := gcell_c (hS' b hb) (funext fun j => if_neg hb) (funext fun j => if_neg hb)
      rw [e]
      have h3 := hm.2.2.2 b h1 (by omega)
      exact h3.kept (oq _ h3.lt)
theorem gphi_new {E : gE} {h : Hp} {H : Heap} (hm : gRm E h H) : H.size = gphi E (hN h) := by
  rw [gphi_ge hm.1]
  exact hm.2.2.1
theorem gRel.made {E : gE} {h : Hp} {s : State} {H H1 : Heap} {locs : List Loc} {x : Nat ⊕ (Nat × Nat)} (hr : gRel E h s H locs) (he : va_at (gD E) gcl (gphi E (hN h), gcell E (hM h x) (hN h)) H1) (hz : H1.size = H.size + 1) (oq : ∀ q : Nat, q < H.size → H1[q]? = H[q]?) : gRel E (hM h x) s H1 locs :=
  ⟨hr.1.made he hz oq, ⟨Nat.le_trans hr.2.1.1 (by omega), fun q h1 h2 => (oq q (Nat.lt_of_lt_of_le h1 hr.2.1.1)).trans (hr.2.1.2.1 q h1 h2), hr.2.1.2.2⟩, gSp_of rfl hr.2.2⟩
theorem g_mapset {f g : Nat → Value} {n k : Nat} {v : Value} (hk : g k = v) (ho : ∀ j, j ≠ k → g j = f j) : ((List.range n).map f).set k v = (List.range n).map g := by
  apply List.ext_getElem
  · simp
  · intro i h1 h2
    simp only [List.getElem_set, List.getElem_map, List.getElem_range]
    by_cases e : k = i
    · subst e
      rw [if_pos rfl, hk]
    · rw [if_neg e, ho i (Ne.symm e)]
/-! what moves along to a state of the same tables and the same old things -/
theorem gNw_moved {E : gE} {s U : State} (hW : s.WarmedH U.vm) (h : gNw E s) : gNw E U := by
  obtain ⟨h0, h1, h2, h3, h4, h5⟩ := h
  refine ⟨h0, fun w hw hg => ?_, fun C hC => (h2 C hC).moved hW.alike, fun q hq => ?_, h4.moved hW.alike, fun i q hq => (h5 i q hq).warm hW⟩
  · have h6 := h1 w hw hg
    cases w <;> first | exact va_Nw.warmF hW h6 | exact va_Nw.warmM hW h6 | exact va_Nw.warmC hW h6 | exact va_Nw.warmD hW h6 | (exact absurd hg (by simp [gk]))
  · refine va_Fw.moved ?_ hW.alike (h3 q hq)
    have hall : ∀ q ∈ gFw, q.2.1.cls ≠ "java/lang/invoke/MethodHandle" ∧ q.2.1.cls ≠ "java/lang/invoke/VarHandle" := by decide +kernel
    exact hall q hq
theorem gSp_moved {E : gE} {h : Hp} {s U : State} {H : Heap} {locs : List Loc} (hW : s.WarmedH U.vm) (hU : U.heap = H) (hS0 : va_S (gA E) s.heap H locs) (h0 : gSp E h s) : gSp E h U := by
  obtain ⟨h1, h2, h3, h4, h5, h6, h7⟩ := h0
  subst hU
  have hk : ∀ a : Nat, a < s.heap.size → ¬ gA E a → U.heap[a]? = s.heap[a]? := fun a g1 g2 => hS0.2.1 a g1 g2
  exact ⟨(h1.kept (hk _ h6 h7)).moved hW.alike, (h2.kept hk).moved hW.alike, (h3.kept hk).moved hW.alike, (h4.kept hk).moved hW.alike, (h5.kept hk).moved hW.alike, Nat.lt_of_lt_of_le h6 hS0.1, h7⟩
theorem gPre_moved {E : gE} {h : Hp} {s U : State} {H : Heap} {locs : List Loc} (hW : s.WarmedH U.vm) (hU : U.heap = H) (hK : va_K (gD E) gcl (gtys E) s) (hn : gNw E s) (hr : gRel E h s H locs) : gPre E h U := by
  refine ⟨hK.moved hW.alike, gNw_moved hW hn, ?_, va_S.rf, gSp_moved hW hU hr.2.1 hr.2.2⟩
  rw [hU]
  exact hr.1
theorem gPre_blind {E : gE} {h : Hp} {av : List Value} : FrameBlind (va_Pc av (gPre E h)) := by
  intro a U g mk hp
  obtain ⟨h1, h2, h3, h4⟩ := hp
  exact ⟨h1, gPre_moved (s := U) (U := U.calling g mk a) (State.WarmedH.refl U) rfl h2 h3 h4⟩
theorem gPc_of {E : gE} {h : Hp} {p : Program} {s : State} {m : MethodId} {args : Array Value} {meth : Method} {c : Code} {M : gM} {H : Heap} {locs : List Loc} {av : List Value} (X : gX E p s m args meth c M) (hr : gRel E h s H locs) : ∀ U : State, U.heap = H → s.WarmedH U.vm → va_Pc av (gPre E h) av.toArray U :=
  fun _ hU hW => ⟨rfl, gPre_moved hW hU X.2.2.2.2.2.1 X.2.2.2.2.2.2 hr⟩
/-! the method's variables -/
def gpr (E : gE) (n : Nat) (ls : gLs) : List (Nat × Value) := (List.range n).filterMap fun j => match ls[j]? with
  | some (some w) => some (j, gv E w)
  | _ => none
theorem gpr_mem {E : gE} {n j : Nat} {ls : gLs} {w : Value} (hj : j < n) (h : ls[j]? = some (some w)) : (j, gv E w) ∈ gpr E n ls := by
  refine List.mem_filterMap.mpr ⟨j, List.mem_range.mpr hj, ?_⟩
  rw [h]
theorem gL.pr {E : gE} {la : Array Slot} {n : Nat} {ls : gLs} (h : gL E la n ls) : lv_has la n (gpr E n ls) := by
  refine ⟨h.1, h.2.1, fun q hq => ?_⟩
  obtain ⟨j, hj, he⟩ := List.mem_filterMap.mp hq
  cases hl : ls[j]? with
  | none => rw [hl] at he; cases he
  | some o =>
    cases o with
    | none => rw [hl] at he; cases he
    | some w =>
      rw [hl] at he
      cases he
      exact h.2.2.2 j w hl
theorem gL.at {E : gE} {la : Array Slot} {n i : Nat} {ls : gLs} {v : Value} (h : gL E la n ls) (hl : ls[i]? = some (some v)) : la[i]? = some (.val (gv E v)) := h.2.2.2 i v hl
/-- the place ahead of i holds no long -/
def gpk (ls : gLs) (i : Nat) : Bool := match i with
  | 0 => true
  | j + 1 => match ls[j]? with
    | some (some w) => w.category == 1
    | _ => true
theorem gL.of_set {E : gE} {la : Array Slot} {n i : Nat} {ls : gLs} {v : Value} (hE : gEc E) (h0 : ls.length = n) (hi : i < n) (h : lv_has la n ((i, gv E v) :: (gpr E n ls).filter (fun q => !(q.1 == i) && !(q.1 + 1 == i && q.2.category == 2)))) (hp : gpk ls i = true) : gL E la n (ls.set i (some v)) := by
  refine ⟨h.1, h.2.1, by rw [List.length_set]; exact h0, fun j w hj => ?_⟩
  by_cases e : i = j
  · subst e
    rw [List.getElem?_set_self (by omega)] at hj
    cases hj
    exact h.2.2 _ List.mem_cons_self
  · rw [List.getElem?_set_ne e] at hj
    have hjn : j < n := by
      have := (List.getElem?_eq_some_iff.mp hj).1
      omega
    refine h.2.2 (j, gv E w) (List.mem_cons_of_mem _ (List.mem_filter.mpr ⟨gpr_mem hjn hj, ?_⟩))
    have h1 : (j == i) = false := by simp [Ne.symm e]
    by_cases h2 : j + 1 = i
    · subst h2
      have h3 : (match ls[j]? with | some (some w) => w.category == 1 | _ => true) = true := hp
      rw [hj] at h3
      have h4 : w.category = 1 := by simpa using h3
      have h5 : (gv E w).category = 1 := by rw [gv_cat hE]; exact h4
      simp [h5]
    · simp [h1, h2]
/-! the entry -/
def gent : Nat → List Value → gLs
  | n, [] => List.replicate n none
  | n, v :: vs => if v.category = 2 then some v :: none :: gent (n - 2) vs else some v :: gent (n - 1) vs
theorem gent_mem {E : gE} (hE : gEc E) : ∀ (av : List Value) (n b i : Nat) (v : Value), (gent n av)[i]? = some (some v) → (b + i, gv E v) ∈ lv_args b (av.map (gv E))
  | [], n, b, i, v, h => by
    simp only [gent, List.getElem?_replicate] at h
    split at h <;> cases h
  | w :: vs, n, b, i, v, h => by
    have hc := gv_cat hE w
    simp only [gent] at h
    simp only [List.map_cons, lv_args]
    rw [hc]
    by_cases hw : w.category = 2
    · rw [if_pos hw] at h ⊢
      match i, h with
      | 0, h =>
        cases h
        exact List.mem_cons_self
      | 1, h => cases h
      | i + 2, h =>
        have h2 : (gent (n - 2) vs)[i]? = some (some v) := h
        have h3 := gent_mem hE vs (n - 2) (b + 2) i v h2
        rw [show b + (i + 2) = b + 2 + i by omega]
        exact List.mem_cons_of_mem _ h3
    · rw [if_neg hw] at h ⊢
      match i, h with
      | 0, h =>
        cases h
        exact List.mem_cons_self
      | i + 1, h =>
        have h2 : (gent (n - 1) vs)[i]? = some (some v) := h
        have h3 := gent_mem hE vs (n - 1) (b + 1) i v h2
        rw [show b + (i + 1) = b + 1 + i by omega]
        exact List.mem_cons_of_mem _ h3
theorem gsl_len {E : gE} (hE : gEc E) : ∀ (av : List Value), (lg_sl (av.map (gv E))).length = (av.map fun v => v.category).sum
  | [] => rfl
  | w :: vs => by
    have ih := gsl_len hE vs
    have hc := gv_cat hE w
    have e : lg_sl ((w :: vs).map (gv E)) = (if (gv E w).category = 2 then [Slot.val (gv E w), .second] else [.val (gv E w)]) ++ lg_sl (vs.map (gv E)) := rfl
    rw [e, List.length_append, ih, List.map_cons, List.sum_cons, hc]
    rcases lv_cat w with h | h
    · rw [h]; rfl
    · rw [h]; rfl
theorem gL.entry {E : gE} (hE : gEc E) {av : List Value} {n : Nat} {ls : gLs} (hls : gent n av = ls) (hlen : ls.length = n) (hn : (av.map fun v => v.category).sum ≤ n) : gL E ((lg_sl (av.map (gv E)) ++ List.replicate (n - (lg_sl (av.map (gv E))).length) Slot.unset).toArray) n ls := by
  have h := lv_entry (av.map (gv E)) (n := n) (by rw [gsl_len hE]; exact hn)
  refine ⟨h.1, h.2.1, hlen, fun i v hi => ?_⟩
  subst hls
  have h2 := gent_mem hE av n 0 i v hi
  rw [Nat.zero_add] at h2
  exact h.2.2 _ h2
/-! a contract out of the judgement at the entry -/
theorem gC.of {d mc ms : Nat} {M : gM} {av : List Value} {h : Hp} {Q : gQ} {ls : gLs} (hp : plainName (mY M).cls = true) (hh : mH M = []) (hown : mOwn M = (mY M).cls) (hls : gent (mL M) av = ls) (hlen : ls.length = mL M) (hn : (av.map fun v => v.category).sum ≤ mL M) (body : gG d mc ms M 0 ls [] h Q) : gC d mc ms M av h Q := by
  intro l E
  have hws : mWs M = ws_ (mY M) (mC M) (mL M) (mRt M) := by unfold mWs; rw [hh]
  refine vx_ofW (cc := mC M) (maxL := mL M) (ret := mRt M) hp hws ?_
  intro p e s m args below meth c s₁ B hml htab hv
  obtain ⟨rfl, hK, hNw, hr⟩ := hv
  have hts := atoms_spec (ws := mWs M) B.pre
  have hts : ∀ w ∈ lw_all, w.before _ s = true := fun w h => hts w (by rw [hws]; exact List.mem_cons_of_mem _ h)
  have ho : s.vm.findClass (mOwn M) = some m.cls := by rw [hown]; exact findClass_of_methodNamed B.named
  rw [lg_entry_eq]
  refine body E p l e _ s m _ below meth c s.heap [] 0 0 mc ms _ ⟨⟨B.exec, B.bytes, hml, ho, hts⟩, B.returns, B.notSynchronized, (name_of_methodNamed B.named B.method).1, ?_, hK, hNw⟩ hr (gL.entry hNw.1 hls hlen hn) (Nat.le_refl d) (Nat.le_refl _) (by rw [Nat.zero_add]; exact Nat.le_refl mc) (by rw [Nat.zero_add]; exact Nat.le_refl ms) (by rw [Nat.zero_add]; exact Nat.le_refl mc) (by rw [Nat.zero_add]; exact Nat.le_refl ms)
  rw [hh]
  exact List.eq_nil_iff_forall_not_mem.mpr fun x hx => htab x hx
theorem gC.ofH {d mc ms : Nat} {M : gM} {av : List Value} {h : Hp} {Q : gQ} {ls : gLs} (hp : plainName (mY M).cls = true) {h0 : Nat × Nat × Nat × Nat} {hr0 : List (Nat × Nat × Nat × Nat)} (hh : mH M = h0 :: hr0) (hown : mOwn M = (mY M).cls) (hls : gent (mL M) av = ls) (hlen : ls.length = mL M) (hn : (av.map fun v => v.category).sum ≤ mL M) (body : gG d mc ms M 0 ls [] h Q) : gC d mc ms M av h Q := by
  intro l E
  have hws : mWs M = wsW_ (mY M) (mC M) (mL M) (mRt M) (mH M) := by unfold mWs; rw [hh]
  refine vx_ofWH (cc := mC M) (maxL := mL M) (ret := mRt M) (hh := mH M) hp hws ?_
  intro p e s m args below meth c s₁ B hml hv
  obtain ⟨rfl, hK, hNw, hr⟩ := hv
  have hts0 := atoms_spec (ws := mWs M) B.pre
  have hts : ∀ w ∈ lw_all, w.before _ s = true := fun w h => hts0 w (by rw [hws]; exact List.mem_cons_of_mem _ h)
  have ho : s.vm.findClass (mOwn M) = some m.cls := by rw [hown]; exact findClass_of_methodNamed B.named
  rw [lg_entry_eq]
  refine body E p l e _ s m _ below meth c s.heap [] 0 0 mc ms _ ⟨⟨B.exec, B.bytes, hml, ho, hts⟩, B.returns, B.notSynchronized, (name_of_methodNamed B.named B.method).1, ?_, hK, hNw⟩ hr (gL.entry hNw.1 hls hlen hn) (Nat.le_refl d) (Nat.le_refl _) (by rw [Nat.zero_add]; exact Nat.le_refl mc) (by rw [Nat.zero_add]; exact Nat.le_refl ms) (by rw [Nat.zero_add]; exact Nat.le_refl mc) (by rw [Nat.zero_add]; exact Nat.le_refl ms)
  exact vx_table (x := mY M) B (hts0 _ (by rw [hws]; exact List.mem_cons_self))

theorem r_iconst {d mc ms : Nat} {M : gM} {pc : Nat} {ls : gLs} {st : List Value} {h : Hp} {Q : gQ} {n : Int} {v : Int32} (dc : decode (mC M) pc = .ok (.iconst n, 1)) (hv : Int32.ofInt n = v) (kk : gG d mc ms M (pc + 1) ls (.int v :: st) h Q) : gG d mc ms M pc ls (st) h Q := by
  intro E p l e R s m args below meth c H locs cells slots MC MS la X hr hl r1 r2 r3 r4 r5 r6
  exact lv_iconst X.1.1 X.1.2.1 dc hv (kk E p l e R s m args below meth c H locs cells slots MC MS la X hr hl r1 r2 r3 r4 r5 r6)
theorem r_bipush {d mc ms : Nat} {M : gM} {pc : Nat} {ls : gLs} {st : List Value} {h : Hp} {Q : gQ} {n : Int} {v : Int32} (dc : decode (mC M) pc = .ok (.bipush n, 2)) (hv : (Int8.ofInt n).toInt32 = v) (kk : gG d mc ms M (pc + 2) ls (.int v :: st) h Q) : gG d mc ms M pc ls (st) h Q := by
  intro E p l e R s m args below meth c H locs cells slots MC MS la X hr hl r1 r2 r3 r4 r5 r6
  exact lv_bipush X.1.1 X.1.2.1 dc hv (kk E p l e R s m args below meth c H locs cells slots MC MS la X hr hl r1 r2 r3 r4 r5 r6)
theorem r_sipush {d mc ms : Nat} {M : gM} {pc : Nat} {ls : gLs} {st : List Value} {h : Hp} {Q : gQ} {n : Int} {v : Int32} (dc : decode (mC M) pc = .ok (.sipush n, 3)) (hv : (Int16.ofInt n).toInt32 = v) (kk : gG d mc ms M (pc + 3) ls (.int v :: st) h Q) : gG d mc ms M pc ls (st) h Q := by
  intro E p l e R s m args below meth c H locs cells slots MC MS la X hr hl r1 r2 r3 r4 r5 r6
  exact lv_sipush X.1.1 X.1.2.1 dc hv (kk E p l e R s m args below meth c H locs cells slots MC MS la X hr hl r1 r2 r3 r4 r5 r6)
theorem r_ldc {d mc ms : Nat} {M : gM} {pc : Nat} {ls : gLs} {st : List Value} {h : Hp} {Q : gQ} {index : Nat} {v : Int32} (dc : decode (mC M) pc = .ok (.ldc index, 2)) (q : Cond.constant (mOwn M) index v ∈ lw_all) (kk : gG d mc ms M (pc + 2) ls (.int v :: st) h Q) : gG d mc ms M pc ls (st) h Q := by
  intro E p l e R s m args below meth c H locs cells slots MC MS la X hr hl r1 r2 r3 r4 r5 r6
  exact lv_ldc X.1.1 X.1.2.1 X.1.2.2.2.1 (X.1.2.2.2.2 _ q) dc (kk E p l e R s m args below meth c H locs cells slots MC MS la X hr hl r1 r2 r3 r4 r5 r6)
theorem r_ldc2 {d mc ms : Nat} {M : gM} {pc : Nat} {ls : gLs} {st : List Value} {h : Hp} {Q : gQ} {index : Nat} {v : Int64} (dc : decode (mC M) pc = .ok (.ldc2_w index, 3)) (q : Cond.constantLong (mOwn M) index v ∈ lw_all) (kk : gG d mc ms M (pc + 3) ls (.long v :: st) h Q) : gG d mc ms M pc ls (st) h Q := by
  intro E p l e R s m args below meth c H locs cells slots MC MS la X hr hl r1 r2 r3 r4 r5 r6
  exact lv_ldc2 X.1.1 X.1.2.1 X.1.2.2.2.1 (X.1.2.2.2.2 _ q) dc (kk E p l e R s m args below meth c H locs cells slots MC MS la X hr hl r1 r2 r3 r4 r5 r6)
theorem r_iload_n {d mc ms : Nat} {M : gM} {pc : Nat} {ls : gLs} {st : List Value} {h : Hp} {Q : gQ} {k : Fin 4} {x : Int32} (i : Nat) (dc : decode (mC M) pc = .ok (.iload_n k, 1)) (hi : (k : Nat) = i) (h2 : ls[i]? = some (some (.int x))) (kk : gG d mc ms M (pc + 1) ls (.int x :: st) h Q) : gG d mc ms M pc ls (st) h Q := by
  intro E p l e R s m args below meth c H locs cells slots MC MS la X hr hl r1 r2 r3 r4 r5 r6
  exact lv_iload_n X.1.1 X.1.2.1 dc hi (hl.at h2) (kk E p l e R s m args below meth c H locs cells slots MC MS la X hr hl r1 r2 r3 r4 r5 r6)
theorem r_iload {d mc ms : Nat} {M : gM} {pc : Nat} {ls : gLs} {st : List Value} {h : Hp} {Q : gQ} {i : Nat} {x : Int32} (dc : decode (mC M) pc = .ok (.iload i, 2)) (h2 : ls[i]? = some (some (.int x))) (kk : gG d mc ms M (pc + 2) ls (.int x :: st) h Q) : gG d mc ms M pc ls (st) h Q := by
  intro E p l e R s m args below meth c H locs cells slots MC MS la X hr hl r1 r2 r3 r4 r5 r6
  exact lv_iload X.1.1 X.1.2.1 dc (hl.at h2) (kk E p l e R s m args below meth c H locs cells slots MC MS la X hr hl r1 r2 r3 r4 r5 r6)
theorem r_lload_n {d mc ms : Nat} {M : gM} {pc : Nat} {ls : gLs} {st : List Value} {h : Hp} {Q : gQ} {k : Fin 4} {x : Int64} (i : Nat) (dc : decode (mC M) pc = .ok (.lload_n k, 1)) (hi : (k : Nat) = i) (h2 : ls[i]? = some (some (.long x))) (kk : gG d mc ms M (pc + 1) ls (.long x :: st) h Q) : gG d mc ms M pc ls (st) h Q := by
  intro E p l e R s m args below meth c H locs cells slots MC MS la X hr hl r1 r2 r3 r4 r5 r6
  exact lv_lload_n X.1.1 X.1.2.1 dc hi (hl.at h2) (kk E p l e R s m args below meth c H locs cells slots MC MS la X hr hl r1 r2 r3 r4 r5 r6)
theorem r_null {d mc ms : Nat} {M : gM} {pc : Nat} {ls : gLs} {st : List Value} {h : Hp} {Q : gQ}  (dc : decode (mC M) pc = .ok (.aconst_null, 1))  (kk : gG d mc ms M (pc + 1) ls (.null :: st) h Q) : gG d mc ms M pc ls (st) h Q := by
  intro E p l e R s m args below meth c H locs cells slots MC MS la X hr hl r1 r2 r3 r4 r5 r6
  exact lv_null X.1.1 X.1.2.1 dc (kk E p l e R s m args below meth c H locs cells slots MC MS la X hr hl r1 r2 r3 r4 r5 r6)
theorem r_iadd {d mc ms : Nat} {M : gM} {pc : Nat} {ls : gLs} {st : List Value} {h : Hp} {Q : gQ} {x y : Int32} (dc : decode (mC M) pc = .ok (.iadd, 1))  (kk : gG d mc ms M (pc + 1) ls (.int (x + y) :: st) h Q) : gG d mc ms M pc ls (.int y :: .int x :: st) h Q := by
  intro E p l e R s m args below meth c H locs cells slots MC MS la X hr hl r1 r2 r3 r4 r5 r6
  exact lv_iadd X.1.1 X.1.2.1 dc (kk E p l e R s m args below meth c H locs cells slots MC MS la X hr hl r1 r2 r3 r4 r5 r6)
theorem r_isub {d mc ms : Nat} {M : gM} {pc : Nat} {ls : gLs} {st : List Value} {h : Hp} {Q : gQ} {x y : Int32} (dc : decode (mC M) pc = .ok (.isub, 1))  (kk : gG d mc ms M (pc + 1) ls (.int (x - y) :: st) h Q) : gG d mc ms M pc ls (.int y :: .int x :: st) h Q := by
  intro E p l e R s m args below meth c H locs cells slots MC MS la X hr hl r1 r2 r3 r4 r5 r6
  exact lv_isub X.1.1 X.1.2.1 dc (kk E p l e R s m args below meth c H locs cells slots MC MS la X hr hl r1 r2 r3 r4 r5 r6)
theorem r_imul {d mc ms : Nat} {M : gM} {pc : Nat} {ls : gLs} {st : List Value} {h : Hp} {Q : gQ} {x y : Int32} (dc : decode (mC M) pc = .ok (.imul, 1))  (kk : gG d mc ms M (pc + 1) ls (.int (x * y) :: st) h Q) : gG d mc ms M pc ls (.int y :: .int x :: st) h Q := by
  intro E p l e R s m args below meth c H locs cells slots MC MS la X hr hl r1 r2 r3 r4 r5 r6
  exact lv_imul X.1.1 X.1.2.1 dc (kk E p l e R s m args below meth c H locs cells slots MC MS la X hr hl r1 r2 r3 r4 r5 r6)
theorem r_iand {d mc ms : Nat} {M : gM} {pc : Nat} {ls : gLs} {st : List Value} {h : Hp} {Q : gQ} {x y : Int32} (dc : decode (mC M) pc = .ok (.iand, 1))  (kk : gG d mc ms M (pc + 1) ls (.int (x &&& y) :: st) h Q) : gG d mc ms M pc ls (.int y :: .int x :: st) h Q := by
  intro E p l e R s m args below meth c H locs cells slots MC MS la X hr hl r1 r2 r3 r4 r5 r6
  exact lv_iand X.1.1 X.1.2.1 dc (kk E p l e R s m args below meth c H locs cells slots MC MS la X hr hl r1 r2 r3 r4 r5 r6)
theorem r_ior {d mc ms : Nat} {M : gM} {pc : Nat} {ls : gLs} {st : List Value} {h : Hp} {Q : gQ} {x y : Int32} (dc : decode (mC M) pc = .ok (.ior, 1))  (kk : gG d mc ms M (pc + 1) ls (.int (x ||| y) :: st) h Q) : gG d mc ms M pc ls (.int y :: .int x :: st) h Q := by
  intro E p l e R s m args below meth c H locs cells slots MC MS la X hr hl r1 r2 r3 r4 r5 r6
  exact lv_ior X.1.1 X.1.2.1 dc (kk E p l e R s m args below meth c H locs cells slots MC MS la X hr hl r1 r2 r3 r4 r5 r6)
theorem r_ixor {d mc ms : Nat} {M : gM} {pc : Nat} {ls : gLs} {st : List Value} {h : Hp} {Q : gQ} {x y : Int32} (dc : decode (mC M) pc = .ok (.ixor, 1))  (kk : gG d mc ms M (pc + 1) ls (.int (x ^^^ y) :: st) h Q) : gG d mc ms M pc ls (.int y :: .int x :: st) h Q := by
  intro E p l e R s m args below meth c H locs cells slots MC MS la X hr hl r1 r2 r3 r4 r5 r6
  exact lv_ixor X.1.1 X.1.2.1 dc (kk E p l e R s m args below meth c H locs cells slots MC MS la X hr hl r1 r2 r3 r4 r5 r6)
theorem r_ishl {d mc ms : Nat} {M : gM} {pc : Nat} {ls : gLs} {st : List Value} {h : Hp} {Q : gQ} {x y : Int32} (dc : decode (mC M) pc = .ok (.ishl, 1))  (kk : gG d mc ms M (pc + 1) ls (.int (x <<< (y &&& 31)) :: st) h Q) : gG d mc ms M pc ls (.int y :: .int x :: st) h Q := by
  intro E p l e R s m args below meth c H locs cells slots MC MS la X hr hl r1 r2 r3 r4 r5 r6
  exact lv_ishl X.1.1 X.1.2.1 dc (kk E p l e R s m args below meth c H locs cells slots MC MS la X hr hl r1 r2 r3 r4 r5 r6)
theorem r_ishr {d mc ms : Nat} {M : gM} {pc : Nat} {ls : gLs} {st : List Value} {h : Hp} {Q : gQ} {x y : Int32} (dc : decode (mC M) pc = .ok (.ishr, 1))  (kk : gG d mc ms M (pc + 1) ls (.int (x >>> (y &&& 31)) :: st) h Q) : gG d mc ms M pc ls (.int y :: .int x :: st) h Q := by
  intro E p l e R s m args below meth c H locs cells slots MC MS la X hr hl r1 r2 r3 r4 r5 r6
  exact lv_ishr X.1.1 X.1.2.1 dc (kk E p l e R s m args below meth c H locs cells slots MC MS la X hr hl r1 r2 r3 r4 r5 r6)
theorem r_iushr {d mc ms : Nat} {M : gM} {pc : Nat} {ls : gLs} {st : List Value} {h : Hp} {Q : gQ} {x y : Int32} (dc : decode (mC M) pc = .ok (.iushr, 1))  (kk : gG d mc ms M (pc + 1) ls (.int (x.toUInt32 >>> (y.toUInt32 &&& Int32.toUInt32 31)).toInt32 :: st) h Q) : gG d mc ms M pc ls (.int y :: .int x :: st) h Q := by
  intro E p l e R s m args below meth c H locs cells slots MC MS la X hr hl r1 r2 r3 r4 r5 r6
  exact lv_iushr X.1.1 X.1.2.1 dc rfl (kk E p l e R s m args below meth c H locs cells slots MC MS la X hr hl r1 r2 r3 r4 r5 r6)
theorem r_idiv {d mc ms : Nat} {M : gM} {pc : Nat} {ls : gLs} {st : List Value} {h : Hp} {Q : gQ} {x y : Int32} (dc : decode (mC M) pc = .ok (.idiv, 1)) (hne : ¬ y = 0) (kk : gG d mc ms M (pc + 1) ls (.int (x / y) :: st) h Q) : gG d mc ms M pc ls (.int y :: .int x :: st) h Q := by
  intro E p l e R s m args below meth c H locs cells slots MC MS la X hr hl r1 r2 r3 r4 r5 r6
  exact lv_idiv X.1.1 X.1.2.1 dc hne (kk E p l e R s m args below meth c H locs cells slots MC MS la X hr hl r1 r2 r3 r4 r5 r6)
theorem r_irem {d mc ms : Nat} {M : gM} {pc : Nat} {ls : gLs} {st : List Value} {h : Hp} {Q : gQ} {x y : Int32} (dc : decode (mC M) pc = .ok (.irem, 1)) (hne : ¬ y = 0) (kk : gG d mc ms M (pc + 1) ls (.int (x - x / y * y) :: st) h Q) : gG d mc ms M pc ls (.int y :: .int x :: st) h Q := by
  intro E p l e R s m args below meth c H locs cells slots MC MS la X hr hl r1 r2 r3 r4 r5 r6
  exact lv_irem X.1.1 X.1.2.1 dc hne (kk E p l e R s m args below meth c H locs cells slots MC MS la X hr hl r1 r2 r3 r4 r5 r6)
theorem r_ineg {d mc ms : Nat} {M : gM} {pc : Nat} {ls : gLs} {st : List Value} {h : Hp} {Q : gQ} {x : Int32} (dc : decode (mC M) pc = .ok (.ineg, 1))  (kk : gG d mc ms M (pc + 1) ls (.int (-x) :: st) h Q) : gG d mc ms M pc ls (.int x :: st) h Q := by
  intro E p l e R s m args below meth c H locs cells slots MC MS la X hr hl r1 r2 r3 r4 r5 r6
  exact lv_ineg X.1.1 X.1.2.1 dc (kk E p l e R s m args below meth c H locs cells slots MC MS la X hr hl r1 r2 r3 r4 r5 r6)
theorem r_i2l {d mc ms : Nat} {M : gM} {pc : Nat} {ls : gLs} {st : List Value} {h : Hp} {Q : gQ} {x : Int32} (dc : decode (mC M) pc = .ok (.i2l, 1))  (kk : gG d mc ms M (pc + 1) ls (.long x.toInt64 :: st) h Q) : gG d mc ms M pc ls (.int x :: st) h Q := by
  intro E p l e R s m args below meth c H locs cells slots MC MS la X hr hl r1 r2 r3 r4 r5 r6
  exact lv_i2l X.1.1 X.1.2.1 dc rfl (kk E p l e R s m args below meth c H locs cells slots MC MS la X hr hl r1 r2 r3 r4 r5 r6)
theorem r_l2i {d mc ms : Nat} {M : gM} {pc : Nat} {ls : gLs} {st : List Value} {h : Hp} {Q : gQ} {x : Int64} (dc : decode (mC M) pc = .ok (.l2i, 1))  (kk : gG d mc ms M (pc + 1) ls (.int x.toInt32 :: st) h Q) : gG d mc ms M pc ls (.long x :: st) h Q := by
  intro E p l e R s m args below meth c H locs cells slots MC MS la X hr hl r1 r2 r3 r4 r5 r6
  exact lv_l2i X.1.1 X.1.2.1 dc rfl (kk E p l e R s m args below meth c H locs cells slots MC MS la X hr hl r1 r2 r3 r4 r5 r6)
theorem r_i2b {d mc ms : Nat} {M : gM} {pc : Nat} {ls : gLs} {st : List Value} {h : Hp} {Q : gQ} {x : Int32} (dc : decode (mC M) pc = .ok (.i2b, 1))  (kk : gG d mc ms M (pc + 1) ls (.int x.toInt8.toInt32 :: st) h Q) : gG d mc ms M pc ls (.int x :: st) h Q := by
  intro E p l e R s m args below meth c H locs cells slots MC MS la X hr hl r1 r2 r3 r4 r5 r6
  exact lv_i2b X.1.1 X.1.2.1 dc rfl (kk E p l e R s m args below meth c H locs cells slots MC MS la X hr hl r1 r2 r3 r4 r5 r6)
theorem r_i2s {d mc ms : Nat} {M : gM} {pc : Nat} {ls : gLs} {st : List Value} {h : Hp} {Q : gQ} {x : Int32} (dc : decode (mC M) pc = .ok (.i2s, 1))  (kk : gG d mc ms M (pc + 1) ls (.int x.toInt16.toInt32 :: st) h Q) : gG d mc ms M pc ls (.int x :: st) h Q := by
  intro E p l e R s m args below meth c H locs cells slots MC MS la X hr hl r1 r2 r3 r4 r5 r6
  exact lv_i2s X.1.1 X.1.2.1 dc rfl (kk E p l e R s m args below meth c H locs cells slots MC MS la X hr hl r1 r2 r3 r4 r5 r6)
theorem r_land {d mc ms : Nat} {M : gM} {pc : Nat} {ls : gLs} {st : List Value} {h : Hp} {Q : gQ} {x y : Int64} (dc : decode (mC M) pc = .ok (.land, 1))  (kk : gG d mc ms M (pc + 1) ls (.long (x &&& y) :: st) h Q) : gG d mc ms M pc ls (.long y :: .long x :: st) h Q := by
  intro E p l e R s m args below meth c H locs cells slots MC MS la X hr hl r1 r2 r3 r4 r5 r6
  exact lv_land X.1.1 X.1.2.1 dc (kk E p l e R s m args below meth c H locs cells slots MC MS la X hr hl r1 r2 r3 r4 r5 r6)
theorem r_lor {d mc ms : Nat} {M : gM} {pc : Nat} {ls : gLs} {st : List Value} {h : Hp} {Q : gQ} {x y : Int64} (dc : decode (mC M) pc = .ok (.lor, 1))  (kk : gG d mc ms M (pc + 1) ls (.long (x ||| y) :: st) h Q) : gG d mc ms M pc ls (.long y :: .long x :: st) h Q := by
  intro E p l e R s m args below meth c H locs cells slots MC MS la X hr hl r1 r2 r3 r4 r5 r6
  exact lv_lor X.1.1 X.1.2.1 dc (kk E p l e R s m args below meth c H locs cells slots MC MS la X hr hl r1 r2 r3 r4 r5 r6)
theorem r_lshl {d mc ms : Nat} {M : gM} {pc : Nat} {ls : gLs} {st : List Value} {h : Hp} {Q : gQ} {x : Int64} {y : Int32} (dc : decode (mC M) pc = .ok (.lshl, 1))  (kk : gG d mc ms M (pc + 1) ls (.long (x <<< (y.toInt64 &&& 63)) :: st) h Q) : gG d mc ms M pc ls (.int y :: .long x :: st) h Q := by
  intro E p l e R s m args below meth c H locs cells slots MC MS la X hr hl r1 r2 r3 r4 r5 r6
  exact lv_lshl X.1.1 X.1.2.1 dc rfl (kk E p l e R s m args below meth c H locs cells slots MC MS la X hr hl r1 r2 r3 r4 r5 r6)
theorem r_lshr {d mc ms : Nat} {M : gM} {pc : Nat} {ls : gLs} {st : List Value} {h : Hp} {Q : gQ} {x : Int64} {y : Int32} (dc : decode (mC M) pc = .ok (.lshr, 1))  (kk : gG d mc ms M (pc + 1) ls (.long (x >>> (y.toInt64 &&& 63)) :: st) h Q) : gG d mc ms M pc ls (.int y :: .long x :: st) h Q := by
  intro E p l e R s m args below meth c H locs cells slots MC MS la X hr hl r1 r2 r3 r4 r5 r6
  exact lv_lshr X.1.1 X.1.2.1 dc rfl (kk E p l e R s m args below meth c H locs cells slots MC MS la X hr hl r1 r2 r3 r4 r5 r6)
theorem r_dup {d mc ms : Nat} {M : gM} {pc : Nat} {ls : gLs} {st : List Value} {h : Hp} {Q : gQ} {v : Value} (dc : decode (mC M) pc = .ok (.dup, 1)) (hc : v.category = 1) (kk : gG d mc ms M (pc + 1) ls (v :: v :: st) h Q) : gG d mc ms M pc ls (v :: st) h Q := by
  intro E p l e R s m args below meth c H locs cells slots MC MS la X hr hl r1 r2 r3 r4 r5 r6
  exact lv_dup X.1.1 X.1.2.1 dc (by rw [gv_cat X.2.2.2.2.2.2.1]; exact hc) (kk E p l e R s m args below meth c H locs cells slots MC MS la X hr hl r1 r2 r3 r4 r5 r6)
theorem r_pop {d mc ms : Nat} {M : gM} {pc : Nat} {ls : gLs} {st : List Value} {h : Hp} {Q : gQ} {v : Value} (dc : decode (mC M) pc = .ok (.pop, 1)) (hc : v.category = 1) (kk : gG d mc ms M (pc + 1) ls (st) h Q) : gG d mc ms M pc ls (v :: st) h Q := by
  intro E p l e R s m args below meth c H locs cells slots MC MS la X hr hl r1 r2 r3 r4 r5 r6
  exact lv_pop X.1.1 X.1.2.1 dc (by rw [gv_cat X.2.2.2.2.2.2.1]; exact hc) (kk E p l e R s m args below meth c H locs cells slots MC MS la X hr hl r1 r2 r3 r4 r5 r6)
theorem r_dup2 {d mc ms : Nat} {M : gM} {pc : Nat} {ls : gLs} {st : List Value} {h : Hp} {Q : gQ} {v w : Value} (dc : decode (mC M) pc = .ok (.dup2, 1)) (hc : v.category = 1) (hc2 : w.category = 1) (kk : gG d mc ms M (pc + 1) ls (v :: w :: v :: w :: st) h Q) : gG d mc ms M pc ls (v :: w :: st) h Q := by
  intro E p l e R s m args below meth c H locs cells slots MC MS la X hr hl r1 r2 r3 r4 r5 r6
  exact lv_dup2_11 X.1.1 X.1.2.1 dc (by rw [gv_cat X.2.2.2.2.2.2.1]; exact hc) (by rw [gv_cat X.2.2.2.2.2.2.1]; exact hc2) (kk E p l e R s m args below meth c H locs cells slots MC MS la X hr hl r1 r2 r3 r4 r5 r6)
theorem gv_isv {E : gE} (hE : gEc E) {v : Value} (hv : gisv v = true) : gv E v = .null ∨ ∃ x, gv E v = .ref x := by
  have key : ∀ w : Value, gisv w = true → w = .null ∨ ∃ x, w = .ref x := by
    intro w hw
    cases w with
    | null => exact Or.inl rfl
    | ref a => exact Or.inr ⟨a, rfl⟩
    | _ => cases hw
  rcases key v hv with rfl | ⟨a, rfl⟩
  · exact Or.inl rfl
  · show (if a = 19 then _ else if a = 20 then _ else _ : Value) = .null ∨ ∃ x, (if a = 19 then _ else if a = 20 then _ else _ : Value) = .ref x
    by_cases h1 : a = 19
    · rw [if_pos h1]; exact key _ hE.2.2.1
    · rw [if_neg h1]
      by_cases h2 : a = 20
      · rw [if_pos h2]; exact key _ hE.2.2.2
      · rw [if_neg h2]; exact Or.inr ⟨_, rfl⟩
theorem r_aload_n {d mc ms : Nat} {M : gM} {pc : Nat} {ls : gLs} {st : List Value} {h : Hp} {Q : gQ} {k : Fin 4} {v : Value} (i : Nat) (dc : decode (mC M) pc = .ok (.aload_n k, 1)) (hi : (k : Nat) = i) (h2 : ls[i]? = some (some v)) (hv : gisv v = true) (kk : gG d mc ms M (pc + 1) ls (v :: st) h Q) : gG d mc ms M pc ls st h Q := by
  intro E p l e R s m args below meth c H locs cells slots MC MS la X hr hl r1 r2 r3 r4 r5 r6
  have k1 := kk E p l e R s m args below meth c H locs cells slots MC MS la X hr hl r1 r2 r3 r4 r5 r6
  have h3 := hl.at h2
  rw [List.map_cons] at k1
  rcases gv_isv X.2.2.2.2.2.2.1 hv with e1 | ⟨x, e1⟩
  · rw [e1] at h3 k1
    exact lv_aload_nN X.1.1 X.1.2.1 dc hi h3 k1
  · rw [e1] at h3 k1
    exact lv_aload_n X.1.1 X.1.2.1 dc hi h3 k1
theorem r_aload {d mc ms : Nat} {M : gM} {pc : Nat} {ls : gLs} {st : List Value} {h : Hp} {Q : gQ} {i : Nat} {v : Value} (dc : decode (mC M) pc = .ok (.aload i, 2)) (h2 : ls[i]? = some (some v)) (hv : gisv v = true) (kk : gG d mc ms M (pc + 2) ls (v :: st) h Q) : gG d mc ms M pc ls st h Q := by
  intro E p l e R s m args below meth c H locs cells slots MC MS la X hr hl r1 r2 r3 r4 r5 r6
  have k1 := kk E p l e R s m args below meth c H locs cells slots MC MS la X hr hl r1 r2 r3 r4 r5 r6
  have h3 := hl.at h2
  rw [List.map_cons] at k1
  rcases gv_isv X.2.2.2.2.2.2.1 hv with e1 | ⟨x, e1⟩
  · rw [e1] at h3 k1
    exact lv_aloadN X.1.1 X.1.2.1 dc h3 k1
  · rw [e1] at h3 k1
    exact lv_aload X.1.1 X.1.2.1 dc h3 k1
theorem r_istore_n {d mc ms : Nat} {M : gM} {pc : Nat} {ls : gLs} {st : List Value} {h : Hp} {Q : gQ} {k : Fin 4} {x : Int32} (i : Nat) (dc : decode (mC M) pc = .ok (.istore_n k, 1)) (hi : (k : Nat) = i) (hi2 : i < mL M) (hp : gpk ls i = true) (kk : gG d mc ms M (pc + 1) (ls.set i (some (.int x))) st h Q) : gG d mc ms M pc ls (.int x :: st) h Q := by
  intro E p l e R s m args below meth c H locs cells slots MC MS la X hr hl r1 r2 r3 r4 r5 r6
  exact lv_istore_n X.1.1 X.1.2.1 dc hi hl.pr hi2 rfl (fun la1 h9 => kk E p l e R s m args below meth c H locs cells slots MC MS la1 X hr (gL.of_set X.2.2.2.2.2.2.1 hl.2.2.1 hi2 (v := .int x) h9 hp) r1 r2 r3 r4 r5 r6)
theorem r_istore {d mc ms : Nat} {M : gM} {pc : Nat} {ls : gLs} {st : List Value} {h : Hp} {Q : gQ} {i : Nat} {x : Int32} (dc : decode (mC M) pc = .ok (.istore i, 2)) (hi2 : i < mL M) (hp : gpk ls i = true) (kk : gG d mc ms M (pc + 2) (ls.set i (some (.int x))) st h Q) : gG d mc ms M pc ls (.int x :: st) h Q := by
  intro E p l e R s m args below meth c H locs cells slots MC MS la X hr hl r1 r2 r3 r4 r5 r6
  exact lv_istore X.1.1 X.1.2.1 dc hl.pr hi2 rfl (fun la1 h9 => kk E p l e R s m args below meth c H locs cells slots MC MS la1 X hr (gL.of_set X.2.2.2.2.2.2.1 hl.2.2.1 hi2 (v := .int x) h9 hp) r1 r2 r3 r4 r5 r6)
theorem r_astore_n {d mc ms : Nat} {M : gM} {pc : Nat} {ls : gLs} {st : List Value} {h : Hp} {Q : gQ} {k : Fin 4} {v : Value} (i : Nat) (dc : decode (mC M) pc = .ok (.astore_n k, 1)) (hi : (k : Nat) = i) (hi2 : i < mL M) (hv : gisv v = true) (hp : gpk ls i = true) (kk : gG d mc ms M (pc + 1) (ls.set i (some v)) st h Q) : gG d mc ms M pc ls (v :: st) h Q := by
  intro E p l e R s m args below meth c H locs cells slots MC MS la X hr hl r1 r2 r3 r4 r5 r6
  show W p l e R s m args below meth c H locs cells slots _ (F0 m pc la (gv E v :: st.map (gv E)))
  rcases gv_isv X.2.2.2.2.2.2.1 hv with e1 | ⟨x, e1⟩
  · rw [e1]
    exact lv_astore_nN X.1.1 X.1.2.1 dc hi hl.pr hi2 rfl (fun la1 h9 => by rw [← e1] at h9; exact kk E p l e R s m args below meth c H locs cells slots MC MS la1 X hr (gL.of_set X.2.2.2.2.2.2.1 hl.2.2.1 hi2 h9 hp) r1 r2 r3 r4 r5 r6)
  · rw [e1]
    exact lv_astore_n X.1.1 X.1.2.1 dc hi hl.pr hi2 rfl (fun la1 h9 => by rw [← e1] at h9; exact kk E p l e R s m args below meth c H locs cells slots MC MS la1 X hr (gL.of_set X.2.2.2.2.2.2.1 hl.2.2.1 hi2 h9 hp) r1 r2 r3 r4 r5 r6)
theorem r_astore {d mc ms : Nat} {M : gM} {pc : Nat} {ls : gLs} {st : List Value} {h : Hp} {Q : gQ} {i : Nat} {v : Value} (dc : decode (mC M) pc = .ok (.astore i, 2)) (hi2 : i < mL M) (hv : gisv v = true) (hp : gpk ls i = true) (kk : gG d mc ms M (pc + 2) (ls.set i (some v)) st h Q) : gG d mc ms M pc ls (v :: st) h Q := by
  intro E p l e R s m args below meth c H locs cells slots MC MS la X hr hl r1 r2 r3 r4 r5 r6
  show W p l e R s m args below meth c H locs cells slots _ (F0 m pc la (gv E v :: st.map (gv E)))
  rcases gv_isv X.2.2.2.2.2.2.1 hv with e1 | ⟨x, e1⟩
  · rw [e1]
    exact lv_astoreN X.1.1 X.1.2.1 dc hl.pr hi2 rfl (fun la1 h9 => by rw [← e1] at h9; exact kk E p l e R s m args below meth c H locs cells slots MC MS la1 X hr (gL.of_set X.2.2.2.2.2.2.1 hl.2.2.1 hi2 h9 hp) r1 r2 r3 r4 r5 r6)
  · rw [e1]
    exact lv_astore X.1.1 X.1.2.1 dc hl.pr hi2 rfl (fun la1 h9 => by rw [← e1] at h9; exact kk E p l e R s m args below meth c H locs cells slots MC MS la1 X hr (gL.of_set X.2.2.2.2.2.2.1 hl.2.2.1 hi2 h9 hp) r1 r2 r3 r4 r5 r6)
theorem r_iinc {d mc ms : Nat} {M : gM} {pc : Nat} {ls : gLs} {st : List Value} {h : Hp} {Q : gQ} {i : Nat} {n : Int} {x : Int32} (dc : decode (mC M) pc = .ok (.iinc i n, 3)) (h2 : ls[i]? = some (some (.int x))) (hi2 : i < mL M) (hp : gpk ls i = true) (kk : gG d mc ms M (pc + 3) (ls.set i (some (.int (x + Int32.ofInt n)))) st h Q) : gG d mc ms M pc ls st h Q := by
  intro E p l e R s m args below meth c H locs cells slots MC MS la X hr hl r1 r2 r3 r4 r5 r6
  obtain ⟨k, hk⟩ := List.getElem?_of_mem (gpr_mem (E := E) hi2 h2)
  exact lv_iinc X.1.1 X.1.2.1 dc hl.pr hk rfl hi2 rfl (fun la1 h9 => kk E p l e R s m args below meth c H locs cells slots MC MS la1 X hr (gL.of_set X.2.2.2.2.2.2.1 hl.2.2.1 hi2 (v := .int (x + Int32.ofInt n)) h9 hp) r1 r2 r3 r4 r5 r6)
theorem r_if_eq {d mc ms : Nat} {M : gM} {pc : Nat} {ls : gLs} {st : List Value} {h : Hp} {Q : gQ} {x : Int32} {off : Int} (tgt : Nat) (dc : decode (mC M) pc = .ok (.ifCond .eq off, 3)) (ht : (pc : Int) + off = (tgt : Int)) (kt : x = 0 → gG d mc ms M tgt ls st h Q) (kf : ¬ x = 0 → gG d mc ms M (pc + 3) ls st h Q) : gG d mc ms M pc ls (.int x :: st) h Q := by
  intro E p l e R s m args below meth c H locs cells slots MC MS la X hr hl r1 r2 r3 r4 r5 r6
  exact lv_if_eq X.1.1 X.1.2.1 dc ht (fun c9 => kt c9 E p l e R s m args below meth c H locs cells slots MC MS la X hr hl r1 r2 r3 r4 r5 r6) (fun c9 => kf (by first | exact c9 | exact Decidable.not_not.mp c9) E p l e R s m args below meth c H locs cells slots MC MS la X hr hl r1 r2 r3 r4 r5 r6)
theorem r_if_ne {d mc ms : Nat} {M : gM} {pc : Nat} {ls : gLs} {st : List Value} {h : Hp} {Q : gQ} {x : Int32} {off : Int} (tgt : Nat) (dc : decode (mC M) pc = .ok (.ifCond .ne off, 3)) (ht : (pc : Int) + off = (tgt : Int)) (kt : ¬ x = 0 → gG d mc ms M tgt ls st h Q) (kf : x = 0 → gG d mc ms M (pc + 3) ls st h Q) : gG d mc ms M pc ls (.int x :: st) h Q := by
  intro E p l e R s m args below meth c H locs cells slots MC MS la X hr hl r1 r2 r3 r4 r5 r6
  exact lv_if_ne X.1.1 X.1.2.1 dc ht (fun c9 => kt c9 E p l e R s m args below meth c H locs cells slots MC MS la X hr hl r1 r2 r3 r4 r5 r6) (fun c9 => kf (by first | exact c9 | exact Decidable.not_not.mp c9) E p l e R s m args below meth c H locs cells slots MC MS la X hr hl r1 r2 r3 r4 r5 r6)
theorem r_if_lt {d mc ms : Nat} {M : gM} {pc : Nat} {ls : gLs} {st : List Value} {h : Hp} {Q : gQ} {x : Int32} {off : Int} (tgt : Nat) (dc : decode (mC M) pc = .ok (.ifCond .lt off, 3)) (ht : (pc : Int) + off = (tgt : Int)) (kt : x < 0 → gG d mc ms M tgt ls st h Q) (kf : ¬ x < 0 → gG d mc ms M (pc + 3) ls st h Q) : gG d mc ms M pc ls (.int x :: st) h Q := by
  intro E p l e R s m args below meth c H locs cells slots MC MS la X hr hl r1 r2 r3 r4 r5 r6
  exact lv_if_lt X.1.1 X.1.2.1 dc ht (fun c9 => kt c9 E p l e R s m args below meth c H locs cells slots MC MS la X hr hl r1 r2 r3 r4 r5 r6) (fun c9 => kf (by first | exact c9 | exact Decidable.not_not.mp c9) E p l e R s m args below meth c H locs cells slots MC MS la X hr hl r1 r2 r3 r4 r5 r6)
theorem r_if_ge {d mc ms : Nat} {M : gM} {pc : Nat} {ls : gLs} {st : List Value} {h : Hp} {Q : gQ} {x : Int32} {off : Int} (tgt : Nat) (dc : decode (mC M) pc = .ok (.ifCond .ge off, 3)) (ht : (pc : Int) + off = (tgt : Int)) (kt : 0 ≤ x → gG d mc ms M tgt ls st h Q) (kf : ¬ 0 ≤ x → gG d mc ms M (pc + 3) ls st h Q) : gG d mc ms M pc ls (.int x :: st) h Q := by
  intro E p l e R s m args below meth c H locs cells slots MC MS la X hr hl r1 r2 r3 r4 r5 r6
  exact lv_if_ge X.1.1 X.1.2.1 dc ht (fun c9 => kt c9 E p l e R s m args below meth c H locs cells slots MC MS la X hr hl r1 r2 r3 r4 r5 r6) (fun c9 => kf (by first | exact c9 | exact Decidable.not_not.mp c9) E p l e R s m args below meth c H locs cells slots MC MS la X hr hl r1 r2 r3 r4 r5 r6)
theorem r_if_gt {d mc ms : Nat} {M : gM} {pc : Nat} {ls : gLs} {st : List Value} {h : Hp} {Q : gQ} {x : Int32} {off : Int} (tgt : Nat) (dc : decode (mC M) pc = .ok (.ifCond .gt off, 3)) (ht : (pc : Int) + off = (tgt : Int)) (kt : 0 < x → gG d mc ms M tgt ls st h Q) (kf : ¬ 0 < x → gG d mc ms M (pc + 3) ls st h Q) : gG d mc ms M pc ls (.int x :: st) h Q := by
  intro E p l e R s m args below meth c H locs cells slots MC MS la X hr hl r1 r2 r3 r4 r5 r6
  exact lv_if_gt X.1.1 X.1.2.1 dc ht (fun c9 => kt c9 E p l e R s m args below meth c H locs cells slots MC MS la X hr hl r1 r2 r3 r4 r5 r6) (fun c9 => kf (by first | exact c9 | exact Decidable.not_not.mp c9) E p l e R s m args below meth c H locs cells slots MC MS la X hr hl r1 r2 r3 r4 r5 r6)
theorem r_if_le {d mc ms : Nat} {M : gM} {pc : Nat} {ls : gLs} {st : List Value} {h : Hp} {Q : gQ} {x : Int32} {off : Int} (tgt : Nat) (dc : decode (mC M) pc = .ok (.ifCond .le off, 3)) (ht : (pc : Int) + off = (tgt : Int)) (kt : x ≤ 0 → gG d mc ms M tgt ls st h Q) (kf : ¬ x ≤ 0 → gG d mc ms M (pc + 3) ls st h Q) : gG d mc ms M pc ls (.int x :: st) h Q := by
  intro E p l e R s m args below meth c H locs cells slots MC MS la X hr hl r1 r2 r3 r4 r5 r6
  exact lv_if_le X.1.1 X.1.2.1 dc ht (fun c9 => kt c9 E p l e R s m args below meth c H locs cells slots MC MS la X hr hl r1 r2 r3 r4 r5 r6) (fun c9 => kf (by first | exact c9 | exact Decidable.not_not.mp c9) E p l e R s m args below meth c H locs cells slots MC MS la X hr hl r1 r2 r3 r4 r5 r6)
theorem r_icmp_eq {d mc ms : Nat} {M : gM} {pc : Nat} {ls : gLs} {st : List Value} {h : Hp} {Q : gQ} {x y : Int32} {off : Int} (tgt : Nat) (dc : decode (mC M) pc = .ok (.if_icmp .eq off, 3)) (ht : (pc : Int) + off = (tgt : Int)) (kt : x = y → gG d mc ms M tgt ls st h Q) (kf : ¬ x = y → gG d mc ms M (pc + 3) ls st h Q) : gG d mc ms M pc ls (.int y :: .int x :: st) h Q := by
  intro E p l e R s m args below meth c H locs cells slots MC MS la X hr hl r1 r2 r3 r4 r5 r6
  exact lv_icmp_eq X.1.1 X.1.2.1 dc ht (fun c9 => kt c9 E p l e R s m args below meth c H locs cells slots MC MS la X hr hl r1 r2 r3 r4 r5 r6) (fun c9 => kf (by first | exact c9 | exact Decidable.not_not.mp c9) E p l e R s m args below meth c H locs cells slots MC MS la X hr hl r1 r2 r3 r4 r5 r6)
theorem r_icmp_ne {d mc ms : Nat} {M : gM} {pc : Nat} {ls : gLs} {st : List Value} {h : Hp} {Q : gQ} {x y : Int32} {off : Int} (tgt : Nat) (dc : decode (mC M) pc = .ok (.if_icmp .ne off, 3)) (ht : (pc : Int) + off = (tgt : Int)) (kt : ¬ x = y → gG d mc ms M tgt ls st h Q) (kf : x = y → gG d mc ms M (pc + 3) ls st h Q) : gG d mc ms M pc ls (.int y :: .int x :: st) h Q := by
  intro E p l e R s m args below meth c H locs cells slots MC MS la X hr hl r1 r2 r3 r4 r5 r6
  exact lv_icmp_ne X.1.1 X.1.2.1 dc ht (fun c9 => kt c9 E p l e R s m args below meth c H locs cells slots MC MS la X hr hl r1 r2 r3 r4 r5 r6) (fun c9 => kf (by first | exact c9 | exact Decidable.not_not.mp c9) E p l e R s m args below meth c H locs cells slots MC MS la X hr hl r1 r2 r3 r4 r5 r6)
theorem r_icmp_lt {d mc ms : Nat} {M : gM} {pc : Nat} {ls : gLs} {st : List Value} {h : Hp} {Q : gQ} {x y : Int32} {off : Int} (tgt : Nat) (dc : decode (mC M) pc = .ok (.if_icmp .lt off, 3)) (ht : (pc : Int) + off = (tgt : Int)) (kt : x < y → gG d mc ms M tgt ls st h Q) (kf : ¬ x < y → gG d mc ms M (pc + 3) ls st h Q) : gG d mc ms M pc ls (.int y :: .int x :: st) h Q := by
  intro E p l e R s m args below meth c H locs cells slots MC MS la X hr hl r1 r2 r3 r4 r5 r6
  exact lv_icmp_lt X.1.1 X.1.2.1 dc ht (fun c9 => kt c9 E p l e R s m args below meth c H locs cells slots MC MS la X hr hl r1 r2 r3 r4 r5 r6) (fun c9 => kf (by first | exact c9 | exact Decidable.not_not.mp c9) E p l e R s m args below meth c H locs cells slots MC MS la X hr hl r1 r2 r3 r4 r5 r6)
theorem r_icmp_ge {d mc ms : Nat} {M : gM} {pc : Nat} {ls : gLs} {st : List Value} {h : Hp} {Q : gQ} {x y : Int32} {off : Int} (tgt : Nat) (dc : decode (mC M) pc = .ok (.if_icmp .ge off, 3)) (ht : (pc : Int) + off = (tgt : Int)) (kt : y ≤ x → gG d mc ms M tgt ls st h Q) (kf : ¬ y ≤ x → gG d mc ms M (pc + 3) ls st h Q) : gG d mc ms M pc ls (.int y :: .int x :: st) h Q := by
  intro E p l e R s m args below meth c H locs cells slots MC MS la X hr hl r1 r2 r3 r4 r5 r6
  exact lv_icmp_ge X.1.1 X.1.2.1 dc ht (fun c9 => kt c9 E p l e R s m args below meth c H locs cells slots MC MS la X hr hl r1 r2 r3 r4 r5 r6) (fun c9 => kf (by first | exact c9 | exact Decidable.not_not.mp c9) E p l e R s m args below meth c H locs cells slots MC MS la X hr hl r1 r2 r3 r4 r5 r6)
theorem r_icmp_gt {d mc ms : Nat} {M : gM} {pc : Nat} {ls : gLs} {st : List Value} {h : Hp} {Q : gQ} {x y : Int32} {off : Int} (tgt : Nat) (dc : decode (mC M) pc = .ok (.if_icmp .gt off, 3)) (ht : (pc : Int) + off = (tgt : Int)) (kt : y < x → gG d mc ms M tgt ls st h Q) (kf : ¬ y < x → gG d mc ms M (pc + 3) ls st h Q) : gG d mc ms M pc ls (.int y :: .int x :: st) h Q := by
  intro E p l e R s m args below meth c H locs cells slots MC MS la X hr hl r1 r2 r3 r4 r5 r6
  exact lv_icmp_gt X.1.1 X.1.2.1 dc ht (fun c9 => kt c9 E p l e R s m args below meth c H locs cells slots MC MS la X hr hl r1 r2 r3 r4 r5 r6) (fun c9 => kf (by first | exact c9 | exact Decidable.not_not.mp c9) E p l e R s m args below meth c H locs cells slots MC MS la X hr hl r1 r2 r3 r4 r5 r6)
theorem r_icmp_le {d mc ms : Nat} {M : gM} {pc : Nat} {ls : gLs} {st : List Value} {h : Hp} {Q : gQ} {x y : Int32} {off : Int} (tgt : Nat) (dc : decode (mC M) pc = .ok (.if_icmp .le off, 3)) (ht : (pc : Int) + off = (tgt : Int)) (kt : x ≤ y → gG d mc ms M tgt ls st h Q) (kf : ¬ x ≤ y → gG d mc ms M (pc + 3) ls st h Q) : gG d mc ms M pc ls (.int y :: .int x :: st) h Q := by
  intro E p l e R s m args below meth c H locs cells slots MC MS la X hr hl r1 r2 r3 r4 r5 r6
  exact lv_icmp_le X.1.1 X.1.2.1 dc ht (fun c9 => kt c9 E p l e R s m args below meth c H locs cells slots MC MS la X hr hl r1 r2 r3 r4 r5 r6) (fun c9 => kf (by first | exact c9 | exact Decidable.not_not.mp c9) E p l e R s m args below meth c H locs cells slots MC MS la X hr hl r1 r2 r3 r4 r5 r6)
theorem r_goto {d mc ms : Nat} {M : gM} {pc : Nat} {ls : gLs} {st : List Value} {h : Hp} {Q : gQ} {off : Int} (tgt : Nat) (dc : decode (mC M) pc = .ok (.goto off, 3)) (ht : (pc : Int) + off = (tgt : Int)) (kk : gG d mc ms M tgt ls st h Q) : gG d mc ms M pc ls st h Q := by
  intro E p l e R s m args below meth c H locs cells slots MC MS la X hr hl r1 r2 r3 r4 r5 r6
  exact lv_goto X.1.1 X.1.2.1 dc ht (kk E p l e R s m args below meth c H locs cells slots MC MS la X hr hl r1 r2 r3 r4 r5 r6)
theorem r_tabOut {d mc ms : Nat} {M : gM} {pc : Nat} {ls : gLs} {st : List Value} {h : Hp} {Q : gQ} {dflt lo hi : Int} {offs : Array Int} {len : Nat} {x : Int32} (tgt : Nat) (dc : decode (mC M) pc = .ok (.tableswitch dflt lo hi offs, len)) (hx : x.toInt < lo ∨ hi < x.toInt) (ht : (pc : Int) + dflt = (tgt : Int)) (kk : gG d mc ms M tgt ls st h Q) : gG d mc ms M pc ls (.int x :: st) h Q := by
  intro E p l e R s m args below meth c H locs cells slots MC MS la X hr hl r1 r2 r3 r4 r5 r6
  exact lv_tableOut X.1.1 X.1.2.1 dc hx ht (kk E p l e R s m args below meth c H locs cells slots MC MS la X hr hl r1 r2 r3 r4 r5 r6)
theorem r_tabIn {d mc ms : Nat} {M : gM} {pc : Nat} {ls : gLs} {st : List Value} {h : Hp} {Q : gQ} {dflt lo hi : Int} {offs : Array Int} {len : Nat} {x : Int32} {off : Int} (tgt : Nat) (dc : decode (mC M) pc = .ok (.tableswitch dflt lo hi offs, len)) (h1 : ¬ x.toInt < lo) (h2 : ¬ hi < x.toInt) (ho : offs[(x.toInt - lo).toNat]? = some off) (ht : (pc : Int) + off = (tgt : Int)) (kk : gG d mc ms M tgt ls st h Q) : gG d mc ms M pc ls (.int x :: st) h Q := by
  intro E p l e R s m args below meth c H locs cells slots MC MS la X hr hl r1 r2 r3 r4 r5 r6
  exact lv_tableIn X.1.1 X.1.2.1 dc h1 h2 ho ht (kk E p l e R s m args below meth c H locs cells slots MC MS la X hr hl r1 r2 r3 r4 r5 r6)
theorem r_look {d mc ms : Nat} {M : gM} {pc : Nat} {ls : gLs} {st : List Value} {h : Hp} {Q : gQ} {dflt : Int} {ps : Array (Int × Int)} {len : Nat} {x : Int32} {off : Int} (tgt : Nat) (dc : decode (mC M) pc = .ok (.lookupswitch dflt ps, len)) (hps : (ps.toList.zip (ps.toList.drop 1)).all (fun (a, next) => a.1 < next.1) = true) (ho : Op.lookupswitch.offset ps.toList dflt x.toInt = off) (ht : (pc : Int) + off = (tgt : Int)) (kk : gG d mc ms M tgt ls st h Q) : gG d mc ms M pc ls (.int x :: st) h Q := by
  intro E p l e R s m args below meth c H locs cells slots MC MS la X hr hl r1 r2 r3 r4 r5 r6
  exact lv_lookup X.1.1 X.1.2.1 dc hps ho ht (kk E p l e R s m args below meth c H locs cells slots MC MS la X hr hl r1 r2 r3 r4 r5 r6)
theorem r_ifnull_t {d mc ms : Nat} {M : gM} {pc : Nat} {ls : gLs} {st : List Value} {h : Hp} {Q : gQ} {off : Int} (tgt : Nat) (dc : decode (mC M) pc = .ok (.ifnull off, 3)) (ht : (pc : Int) + off = (tgt : Int)) (kk : gG d mc ms M tgt ls st h Q) : gG d mc ms M pc ls (.null :: st) h Q := by
  intro E p l e R s m args below meth c H locs cells slots MC MS la X hr hl r1 r2 r3 r4 r5 r6
  exact lv_ifnullN X.1.1 X.1.2.1 dc ht (kk E p l e R s m args below meth c H locs cells slots MC MS la X hr hl r1 r2 r3 r4 r5 r6)
theorem r_ifnull_f {d mc ms : Nat} {M : gM} {pc : Nat} {ls : gLs} {st : List Value} {h : Hp} {Q : gQ} {off : Int} {a : Nat} (dc : decode (mC M) pc = .ok (.ifnull off, 3)) (h21 : 21 ≤ a) (kk : gG d mc ms M (pc + 3) ls st h Q) : gG d mc ms M pc ls (.ref a :: st) h Q := by
  intro E p l e R s m args below meth c H locs cells slots MC MS la X hr hl r1 r2 r3 r4 r5 r6
  show W p l e R s m args below meth c H locs cells slots _ (F0 m pc la (gv E (.ref a) :: st.map (gv E)))
  rw [gv_ref h21]
  exact lv_ifnull X.1.1 X.1.2.1 dc (kk E p l e R s m args below meth c H locs cells slots MC MS la X hr hl r1 r2 r3 r4 r5 r6)
theorem r_ifnonnull_f {d mc ms : Nat} {M : gM} {pc : Nat} {ls : gLs} {st : List Value} {h : Hp} {Q : gQ} {off : Int} (dc : decode (mC M) pc = .ok (.ifnonnull off, 3)) (kk : gG d mc ms M (pc + 3) ls st h Q) : gG d mc ms M pc ls (.null :: st) h Q := by
  intro E p l e R s m args below meth c H locs cells slots MC MS la X hr hl r1 r2 r3 r4 r5 r6
  exact lv_ifnonnullN X.1.1 X.1.2.1 dc (kk E p l e R s m args below meth c H locs cells slots MC MS la X hr hl r1 r2 r3 r4 r5 r6)
theorem r_ifnonnull_t {d mc ms : Nat} {M : gM} {pc : Nat} {ls : gLs} {st : List Value} {h : Hp} {Q : gQ} {off : Int} {a : Nat} (tgt : Nat) (dc : decode (mC M) pc = .ok (.ifnonnull off, 3)) (h21 : 21 ≤ a) (ht : (pc : Int) + off = (tgt : Int)) (kk : gG d mc ms M tgt ls st h Q) : gG d mc ms M pc ls (.ref a :: st) h Q := by
  intro E p l e R s m args below meth c H locs cells slots MC MS la X hr hl r1 r2 r3 r4 r5 r6
  show W p l e R s m args below meth c H locs cells slots _ (F0 m pc la (gv E (.ref a) :: st.map (gv E)))
  rw [gv_ref h21]
  exact lv_ifnonnull X.1.1 X.1.2.1 dc ht (kk E p l e R s m args below meth c H locs cells slots MC MS la X hr hl r1 r2 r3 r4 r5 r6)

