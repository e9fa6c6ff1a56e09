/-! the state as the acts have it; what each act answers and makes of it -/
def bI (h : Hp) (a : Nat) (g : Row) : Hp := sI h (uf (hI h) a g)
def MSt : Type := Row × Row × Row × Row × Row × Row × Row × Int32 × Int32 × Int32
def MSt.r (S : MSt) : Row := S.1
def MSt.kept (S : MSt) : Row := S.2.1
def MSt.found (S : MSt) : Row := S.2.2.1
def MSt.bits (S : MSt) : Row := S.2.2.2.1
def MSt.size (S : MSt) : Row := S.2.2.2.2.1
def MSt.sheets (S : MSt) : Row := S.2.2.2.2.2.1
def MSt.traced (S : MSt) : Row := S.2.2.2.2.2.2.1
def MSt.isK (S : MSt) : Int32 := S.2.2.2.2.2.2.2.1
def MSt.images (S : MSt) : Int32 := S.2.2.2.2.2.2.2.2.1
def MSt.many (S : MSt) : Int32 := S.2.2.2.2.2.2.2.2.2
def MSt.s_r (S : MSt) (x : Row) : MSt := (x, S.kept, S.found, S.bits, S.size, S.sheets, S.traced, S.isK, S.images, S.many)
def MSt.s_kept (S : MSt) (x : Row) : MSt := (S.r, x, S.found, S.bits, S.size, S.sheets, S.traced, S.isK, S.images, S.many)
def MSt.s_found (S : MSt) (x : Row) : MSt := (S.r, S.kept, x, S.bits, S.size, S.sheets, S.traced, S.isK, S.images, S.many)
def MSt.s_bits (S : MSt) (x : Row) : MSt := (S.r, S.kept, S.found, x, S.size, S.sheets, S.traced, S.isK, S.images, S.many)
def MSt.s_size (S : MSt) (x : Row) : MSt := (S.r, S.kept, S.found, S.bits, x, S.sheets, S.traced, S.isK, S.images, S.many)
def MSt.s_sheets (S : MSt) (x : Row) : MSt := (S.r, S.kept, S.found, S.bits, S.size, x, S.traced, S.isK, S.images, S.many)
def MSt.s_traced (S : MSt) (x : Row) : MSt := (S.r, S.kept, S.found, S.bits, S.size, S.sheets, x, S.isK, S.images, S.many)
def MSt.s_isK (S : MSt) (x : Int32) : MSt := (S.r, S.kept, S.found, S.bits, S.size, S.sheets, S.traced, x, S.images, S.many)
def MSt.s_images (S : MSt) (x : Int32) : MSt := (S.r, S.kept, S.found, S.bits, S.size, S.sheets, S.traced, S.isK, x, S.many)
def MSt.s_many (S : MSt) (x : Int32) : MSt := (S.r, S.kept, S.found, S.bits, S.size, S.sheets, S.traced, S.isK, S.images, x)
def mS (h : Hp) (r o : Row) : MSt := (r, hI h 68, hI h 71, hI h 72, hI h 73, hI h 74, hI h 77, o 4, o 5, o 25)
theorem mS_J {h : Hp} {r o o' : Row} (j : Jo o o') : mS h r o' = mS h r o := by unfold mS; rw [j.1, j.2.1, j.2.2.2]
theorem mS_r {h : Hp} {r o : Row} : (mS h r o).r = r := rfl
theorem mS_k {h : Hp} {r o : Row} : (mS h r o).kept = hI h 68 := rfl
theorem mS_f {h : Hp} {r o : Row} : (mS h r o).found = hI h 71 := rfl
theorem mS_b {h : Hp} {r o : Row} : (mS h r o).bits = hI h 72 := rfl
theorem mS_s {h : Hp} {r o : Row} : (mS h r o).size = hI h 73 := rfl
theorem mS_sh {h : Hp} {r o : Row} : (mS h r o).sheets = hI h 74 := rfl
theorem mS_t {h : Hp} {r o : Row} : (mS h r o).traced = hI h 77 := rfl
theorem mS_i {h : Hp} {r o : Row} : (mS h r o).isK = o 4 := rfl
theorem mS_im {h : Hp} {r o : Row} : (mS h r o).images = o 5 := rfl
theorem mS_m {h : Hp} {r o : Row} : (mS h r o).many = o 25 := rfl
theorem wI_bI (h : Hp) (a k : Nat) (v : Int32) : wI h a k v = bI h a (ru (hI h a) k v) := by
  show sI h (u2 (hI h) a k v) = sI h (uf (hI h) a (ru (hI h a) k v))
  rw [u2_uf]
  rfl
theorem uf_comm {f : Nat → Row} {a b : Nat} {x y : Row} (h : a ≠ b) : uf (uf f a x) b y = uf (uf f b y) a x := by
  funext c
  unfold uf
  by_cases h1 : c = a
  · subst h1; simp [h]
  · by_cases h2 : c = b
    · subst h2; simp [h1]
    · simp [h1, h2]
theorem MH_bI (h : Hp) (r o : Row) (a : Nat) (g : Row) (h1 : a ≠ 66) (h2 : a ≠ 67) : bI (MH h r o) a g = MH (bI h a g) r o := by
  show sI h (uf (uf (uf (hI h) 67 r) 66 o) a g) = sI h (uf (uf (uf (hI h) a g) 67 r) 66 o)
  rw [uf_comm (a := 66) (b := a) (Ne.symm h1), uf_comm (a := 67) (b := a) (Ne.symm h2)]
theorem MH_bI67 (h : Hp) (r o : Row) (g : Row) : bI (MH h r o) 67 g = MH h g o := by
  show sI h (uf (uf (uf (hI h) 67 r) 66 o) 67 g) = sI h (uf (uf (hI h) 67 g) 66 o)
  rw [uf_comm (a := 66) (b := 67) (by decide)]
  have e : uf (uf (hI h) 67 r) 67 g = uf (hI h) 67 g := by
    funext c
    unfold uf
    by_cases q : c = 67 <;> simp [q]
  rw [e]
theorem MH_bI' (h : Hp) (r o : Row) (a k : Nat) (v : Int32) (h1 : a ≠ 66) (h2 : a ≠ 67) : wI (MH h r o) a k v = MH (bI h a (ru (hI h a) k v)) r o := by
  rw [MH_b h r o a k v h1 h2, wI_bI]
theorem bI_bI (h : Hp) (a : Nat) (f g : Row) : bI (bI h a f) a g = bI h a g := by
  show sI h (uf (uf (hI h) a f) a g) = sI h (uf (hI h) a g)
  have e : uf (uf (hI h) a f) a g = uf (hI h) a g := by
    funext c
    unfold uf
    by_cases q : c = a <;> simp [q]
  rw [e]
theorem bI_s (h : Hp) (a : Nat) (f : Row) : hI (bI h a f) a = f := uf_s _ _ _
theorem bI_n {h : Hp} {a b : Nat} {f : Row} (q : b ≠ a) : hI (bI h a f) b = hI h b := uf_n _ _ _ _ q
/-- only the reference's cells differ -/
def FrM (h h' : Hp) : Prop := ∃ f, h' = sI h f ∧ ∀ a, a < 66 ∨ 77 < a → f a = hI h a
theorem FrM.r {h : Hp} : FrM h h := ⟨hI h, (sI_self h).symm, fun _ _ => rfl⟩
theorem FrM.b {h h' : Hp} (k : FrM h h') {a : Nat} {g : Row} (h1 : 66 ≤ a ∧ a ≤ 77) : FrM h (bI h' a g) := by
  obtain ⟨f, rfl, hf⟩ := k
  refine ⟨uf f a g, rfl, fun b hb => ?_⟩
  rw [uf_n _ _ _ _ (by omega)]
  exact hf b hb
theorem FrM.m {h h' : Hp} (k : FrM h h') {r o : Row} : FrM h (MH h' r o) := by
  obtain ⟨f, rfl, hf⟩ := k
  refine ⟨uf (uf f 67 r) 66 o, rfl, fun b hb => ?_⟩
  rw [uf_n _ _ _ _ (by omega), uf_n _ _ _ _ (by omega)]
  exact hf b hb
theorem FrM.lay {h h' : Hp} (k : FrM h h') (hm : LayM (hS h) (hR h)) : LayM (hS h') (hR h') := by
  obtain ⟨f, rfl, hf⟩ := k
  exact hm
/-- what an act of the reference leaves -/
def RA (h : Hp) (q : Int32 × MSt) : gQ := fun out h' => out = .inl (some (.int q.1)) ∧ ∃ h1 r1 o1, h' = MH h1 r1 o1 ∧ mS h1 r1 o1 = q.2 ∧ o1 15 = -1 ∧ FrM h h1
theorem RA.mk {h h1 : Hp} {r1 o o1 : Row} {v : Int32} {q : Int32 × MSt} (j : Jo o o1) (ho : o 15 = -1) (f : FrM h h1) (e : mS h1 r1 o = q.2) (ev : v = q.1) : RA h q (.inl (some (.int v))) (MH h1 r1 o1) :=
  ⟨by rw [ev], h1, r1, o1, rfl, (mS_J j).trans e, j.2.2.1.trans ho, f⟩
theorem RA.mk' {h h1 : Hp} {r1 o1 : Row} {v : Int32} {q : Int32 × MSt} (ho : o1 15 = -1) (f : FrM h h1) (e : mS h1 r1 o1 = q.2) (ev : v = q.1) : RA h q (.inl (some (.int v))) (MH h1 r1 o1) :=
  ⟨by rw [ev], h1, r1, o1, rfl, e, ho, f⟩
theorem iP {α : Type} {c : Prop} {inst : Decidable c} {x y : α} (h : c) : @ite α c inst x y = x := if_pos h
theorem iN {α : Type} {c : Prop} {inst : Decidable c} {x y : α} (h : ¬ c) : @ite α c inst x y = y := if_neg h
theorem ifT {α : Type} {b : Bool} {inst : Decidable (b = true)} {x y : α} (h : b = true) : @ite α (b = true) inst x y = x := if_pos h
theorem ifF {α : Type} {b : Bool} {inst : Decidable (b = true)} {x y : α} (h : b = false) : @ite α (b = true) inst x y = y := if_neg (by rw [h]; decide)
def toN (v : Int32) : Nat := v.toNatClampNeg
theorem toN_nI {k : Nat} (h : k < 2147483648) : toN (nI k) = k := nI_clamp h
/-- what holds of a row -/
def WF (r : Row) : Prop := (r 2 = nI (np r)) ∧ (np r ≤ 8) ∧ (RowT r) ∧ (RowK r) ∧ (∀ p, p < 8 → ∃ k, pv r p 3 = nI k ∧ k ≤ 999) ∧ (∀ p, p < 8 → ∃ k, pv r p 4 = nI k ∧ k ≤ 99) ∧ (∀ k, k < 64 → ∃ j, r (47 + k) = nI j ∧ j ≤ 99) ∧ (∀ p, p < 8 → ∃ k, pv r p 2 = nI k ∧ k ≤ 15) ∧ (∃ k, r 3 = nI k ∧ k ≤ 50) ∧ (∃ k, r 4 = nI k ∧ k ≤ 20) ∧ (∀ k, k < 50 → ∃ j, r (111 + k) = nI j ∧ j ≤ 255) ∧ (∀ k, k < 100 → ∃ j, r (181 + k) = nI j ∧ j ≤ 255)
theorem WF.n {r : Row} (w : WF r) : r 2 = nI (np r) := w.1
theorem WF.n8 {r : Row} (w : WF r) : np r ≤ 8 := w.2.1
theorem WF.T {r : Row} (w : WF r) : RowT r := w.2.2.1
theorem WF.K {r : Row} (w : WF r) : RowK r := w.2.2.2.1
theorem WF.W {r : Row} (w : WF r) : ∀ p, p < 8 → ∃ k, pv r p 3 = nI k ∧ k ≤ 999 := w.2.2.2.2.1
theorem WF.H {r : Row} (w : WF r) : ∀ p, p < 8 → ∃ k, pv r p 4 = nI k ∧ k ≤ 99 := w.2.2.2.2.2.1
theorem WF.D {r : Row} (w : WF r) : ∀ k, k < 64 → ∃ j, r (47 + k) = nI j ∧ j ≤ 99 := w.2.2.2.2.2.2.1
theorem WF.G {r : Row} (w : WF r) : ∀ p, p < 8 → ∃ k, pv r p 2 = nI k ∧ k ≤ 15 := w.2.2.2.2.2.2.2.1
theorem WF.A {r : Row} (w : WF r) : ∃ k, r 3 = nI k ∧ k ≤ 50 := w.2.2.2.2.2.2.2.2.1
theorem WF.Z {r : Row} (w : WF r) : ∃ k, r 4 = nI k ∧ k ≤ 20 := w.2.2.2.2.2.2.2.2.2.1
theorem WF.B {r : Row} (w : WF r) : ∀ k, k < 50 → ∃ j, r (111 + k) = nI j ∧ j ≤ 255 := w.2.2.2.2.2.2.2.2.2.2.1
theorem WF.C {r : Row} (w : WF r) : ∀ k, k < 100 → ∃ j, r (181 + k) = nI j ∧ j ≤ 255 := w.2.2.2.2.2.2.2.2.2.2.2
theorem one_of {r : Row} {v : Int32} (w : WF r) (h : inB v 0 (r 2 - 1) = true) : ∃ k, k < np r ∧ v = nI k := by
  rw [w.n] at h
  exact inB_n1 (by have := w.n8; omega) h
def errA (S : MSt) (e : Int32) (k : Nat) : Int32 × MSt := (e, S.s_found (ru S.found k (S.found k + nI 1)))
def cpR (n : Nat) (f t : Row) : Row := fun k => if k < n then f k else t k
theorem cpR_0 {f t : Row} : cpR 0 f t = t := rfl
theorem cpR_s {n : Nat} {f t : Row} : ru (cpR n f t) n (f n) = cpR (n + 1) f t := by
  funext k
  unfold ru cpR
  by_cases h : k = n
  · subst h; rw [if_pos rfl, if_pos (by omega)]
  · rw [if_neg h]
    by_cases h2 : k < n
    · rw [if_pos h2, if_pos (by omega)]
    · rw [if_neg h2, if_neg (by omega)]
def zeroD (r : Row) (p : Nat) : Nat → Row
  | 0 => r
  | k + 1 => ru (ru (zeroD r p k) (47 + 8 * p + k) (nI 0)) (47 + 8 * k + p) (nI 0)
def newP (r : Row) (km tr : Int32) : Row := ru (zeroD (spv (spv (spv (spv (spv r (np r) 0 (km / nI 10)) (np r) 1 (irem km (nI 10))) (np r) 2 tr) (np r) 3 (nI 0)) (np r) 4 (nI 0)) (np r) 8) 2 (nI (np r + 1))
def aPerson (S : MSt) (km tr : Int32) : Int32 × MSt :=
  if inB km (nI 0) (nI 69) = true then (if inB tr (nI 0) (nI 15) = true then (if np S.r = 8 then errA S (-1000000004) 4 else (nI (np S.r), S.s_r (newP S.r km tr))) else errA S (-1000000001) 1) else errA S (-1000000001) 1
def ofV (r : Row) (p w : Nat) : Int32 := if w = 5 then fillV (kindN r p) (pv r p 1) else if w = 6 then drinkV (kindN r p) else if w = 7 then b2 (givenB r p) else pv r p w
def aOfPerson (S : MSt) (p w : Int32) : Int32 × MSt :=
  if inB p 0 (S.r 2 - 1) = true then (if inB w (nI 0) (nI 7) = true then (ofV S.r (toN p) (toN w), S) else errA S (-1000000001) 1) else errA S (-1000000001) 1
def chgB (w v : Int32) : Bool := if w = 0 then inB v (nI 0) (nI 15) else if w = nI 1 then inB v (nI 0) (nI 999) else if w = nI 2 then inB v (nI 0) (nI 99) else false
def aChange (S : MSt) (p w v : Int32) : Int32 × MSt :=
  if inB p 0 (S.r 2 - 1) = true then (if chgB w v = true then (S.r (7 + 5 * toN p + 2 + toN w), S.s_r (ru S.r (7 + 5 * toN p + 2 + toN w) v)) else errA S (-1000000001) 1) else errA S (-1000000001) 1
def twoB (r : Row) (a b : Int32) : Bool := inB a 0 (r 2 - 1) && inB b 0 (r 2 - 1) && !decide (a = b)
def aOwe (S : MSt) (a b v : Int32) : Int32 × MSt :=
  if twoB S.r a b = true then (if inB v (nI 0) (nI 99) = true then (S.r (47 + 8 * toN a + toN b), S.s_r (ru S.r (47 + 8 * toN a + toN b) v)) else errA S (-1000000001) 1) else errA S (-1000000001) 1
def aOwes (S : MSt) (a b : Int32) : Int32 × MSt := if twoB S.r a b = true then (dv S.r (toN a) (toN b), S) else errA S (-1000000001) 1
def aBecome (S : MSt) (p km : Int32) : Int32 × MSt :=
  if inB p 0 (S.r 2 - 1) = true then (if inB km (nI 0) (nI 69) = true then (pv S.r (toN p) 0, S.s_r (ru (spv S.r (toN p) 1 (irem km (nI 10))) (7 + 5 * toN p) (km / nI 10))) else errA S (-1000000001) 1) else errA S (-1000000001) 1
def aboveV (k : Nat) : Int32 := if k = 0 then (-1) else if 3 < k then nI (k - 3) else nI 0
/-- is kind k one of kind q -/
def isOfB (k q : Nat) : Bool := k == q || (k == 4 && q == 1) || (k == 5 && q == 2) || (k == 6 && q == 3) || q == 0
def aAs (S : MSt) (p q : Int32) : Int32 × MSt :=
  if inB p 0 (S.r 2 - 1) = true then (if inB q (nI 0) (nI 6) = true then (if isOfB (kindN S.r (toN p)) (toN q) = true then (pv S.r (toN p) 1, S) else errA S (-1000000005) 5) else errA S (-1000000001) 1) else errA S (-1000000001) 1
def aLaw (S : MSt) (u a b c : Int32) : Int32 × MSt := if inB u (nI 0) (nI 1) = true then (lawV S.r (toN u) a b c, S) else errA S (-1000000001) 1
theorem areTwo_f1 {r : Row} {a b : Int32} (h : inB a 0 (r 2 - 1) = false) : twoB r a b = false := by unfold twoB; rw [h]; rfl
theorem areTwo_f2 {r : Row} {a b : Int32} (h1 : inB a 0 (r 2 - 1) = true) (h : inB b 0 (r 2 - 1) = false) : twoB r a b = false := by unfold twoB; rw [h1, h]; rfl
theorem areTwo_f3 {r : Row} {a b : Int32} (h1 : inB a 0 (r 2 - 1) = true) (h : inB b 0 (r 2 - 1) = true) (h2 : a = b) : twoB r a b = false := by unfold twoB; rw [h1, h, decide_eq_true h2]; rfl
theorem areTwo_t {r : Row} {a b : Int32} (h1 : inB a 0 (r 2 - 1) = true) (h : inB b 0 (r 2 - 1) = true) (h2 : ¬ a = b) : twoB r a b = true := by unfold twoB; rw [h1, h, decide_eq_false h2]; rfl
theorem two_of {r : Row} {a b : Int32} (w : WF r) (h : twoB r a b = true) : ∃ i j, i < np r ∧ j < np r ∧ a = nI i ∧ b = nI j := by
  unfold twoB at h
  rw [Bool.and_eq_true, Bool.and_eq_true] at h
  obtain ⟨i, hi, e1⟩ := one_of w h.1.1
  obtain ⟨j, hj, e2⟩ := one_of w h.1.2
  exact ⟨i, j, hi, hj, e1, e2⟩
theorem zeroD_n {r : Row} {p j : Nat} (hp : p < 8) (hj : j < 47 ∨ 111 ≤ j) : ∀ k, k ≤ 8 → zeroD r p k j = r j
  | 0, _ => rfl
  | k + 1, hk => by
    show ru (ru (zeroD r p k) (47 + 8 * p + k) (nI 0)) (47 + 8 * k + p) (nI 0) j = r j
    rw [ru_n (by omega), ru_n (by omega)]
    exact zeroD_n hp hj k (by omega)
theorem bI_step {h : Hp} {a b i : Nat} {f t : Row} (hab : a ≠ b) : wI (bI h b (cpR i f t)) b i (hI (bI h b (cpR i f t)) a i) = bI h b (ru (cpR i f t) i (hI h a i)) := by
  rw [wI_bI, bI_bI, bI_s, bI_n hab]
def cpT (r : Row) (u : Nat) : Nat → Row
  | 0 => r
  | k + 1 => ru (cpT r u k) (181 + 50 * u + k) (r (111 + k))
theorem cpT_n {r : Row} {u j : Nat} (h : j < 181 ∨ 281 ≤ j) (hu : u < 2) : ∀ k, k ≤ 50 → cpT r u k j = r j
  | 0, _ => rfl
  | k + 1, hk => by
    show ru (cpT r u k) (181 + 50 * u + k) (r (111 + k)) j = r j
    rw [ru_n (by omega)]
    exact cpT_n h hu k (by omega)
def textR (r : Row) (u : Nat) : Row := ru (cpT r u 50) (5 + u) (r 3)
theorem textR_3 {r : Row} {u : Nat} (hu : u < 2) : textR r u 3 = r 3 := by
  unfold textR
  rw [ru_n (by omega)]
  exact cpT_n (by omega) hu 50 (by omega)
theorem textR_b {r t : Row} {u : Nat} (hu : u < 2) : cpR 281 (cpR 281 r t) (textR r u) = r := by
  funext k
  unfold cpR
  by_cases h : k < 281
  · rw [if_pos h, if_pos h]
  · rw [if_neg h]
    unfold textR
    rw [ru_n (by omega)]
    exact cpT_n (by omega) hu 50 (by omega)
def okT (r : Row) (u e : Nat) : Bool := (walkP (textR r u) u e (nI 1) (nI 1) (nI 1)).2.2.2 && decide ((walkP (textR r u) u e (nI 1) (nI 1) (nI 1)).2.1 = e)
def aText (S : MSt) (u : Int32) : Int32 × MSt :=
  if inB u (nI 0) (nI 1) = true then (if okT S.r (toN u) (toN (S.r 3)) = true then (nI 1, S.s_r (ru (textR S.r (toN u)) 3 (nI 0))) else ((-10) - nI (walkP (textR S.r (toN u)) (toN u) (toN (S.r 3)) (nI 1) (nI 1) (nI 1)).2.1, S.s_r (ru S.r 3 (nI 0)))) else errA S (-1000000001) 1
def wbV (wd : Int64) (k : Nat) : Int32 := ((wd >>> ((nI (8 * k)).toInt64 &&& 63)) &&& (255 : Int64)).toInt32
def feedR (r : Row) (wd : Int64) (t : Nat) : Nat → Row
  | 0 => r
  | k + 1 => ru (ru (feedR r wd t k) (111 + (t + k)) (wbV wd k)) 3 (nI (t + k + 1))
theorem feedR_3 {r : Row} {wd : Int64} {t : Nat} (h : r 3 = nI t) : ∀ k, feedR r wd t k 3 = nI (t + k)
  | 0 => h
  | k + 1 => rfl
def aFeed (S : MSt) (wd : Int64) (c : Int32) : Int32 × MSt :=
  if inB c (nI 1) (nI 8) = true then (if 50 < toN (S.r 3) + toN c then errA S (-1000000004) 4 else (nI (toN (S.r 3) + toN c), S.s_r (feedR S.r wd (toN (S.r 3)) (toN c)))) else errA S (-1000000001) 1
theorem inB_p {v : Int32} {n : Nat} (hn : n < 2147483648) (h : inB v (nI 1) (nI n) = true) : ∃ k, 1 ≤ k ∧ k ≤ n ∧ v = nI k := by
  simp only [inB, Bool.and_eq_true, decide_eq_true_eq] at h
  have h0 : (0 : Int32) ≤ nI 1 := by decide
  obtain ⟨k, hk, e⟩ := inB_n hn (inB_t (Int32.le_trans h0 h.1) h.2)
  subst e
  exact ⟨k, (nI_leI (by decide) (by omega)).mp h.1, hk, rfl⟩
def zN (v : Int32) : Int32 := v * 1103515245 + nI 12345
def dwV (v : Int32) : Int32 := (v.toUInt32 >>> ((nI 8).toUInt32 &&& Int32.toUInt32 31)).toInt32
def sumWf (r : Row) (w : Nat) : Int32 := sumW r w (np r)
def aDays (S : MSt) (c : Int32) : Int32 × MSt :=
  if inB c (nI 1) (nI 60) = true then (if nI 9999 < S.r 0 + c then errA S (-1000000003) 3 else (sumW (passR S.r (-1) (toN c)) 3 (np S.r), S.s_r (passR S.r (-1) (toN c)))) else errA S (-1000000001) 1
