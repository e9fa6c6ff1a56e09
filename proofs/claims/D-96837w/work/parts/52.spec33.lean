/-! one act of both: what goes on holding -/
theorem cx_fm {h h' : Hp} {S : MSt} (x : CX h S) (f : FrM h h') : CX h' S := by
  obtain ⟨F, rfl, e⟩ := f
  have n := x.hN
  have far : ∀ a, a < 66 ∨ 77 < a → hI (sI h F) a = hI h a := fun a ha => e a ha
  have ex : ExtH h (sI h F) := ⟨Nat.le_refl _, fun a _ q1 _ q3 _ => ⟨q3, far a (by omega), rfl⟩⟩
  refine ⟨x.hx, x.hl, x.hl3, x.hl4, n, x.hold.fr (fun o ho => far _ (by omega)), ?_, x.lw.ext ex rfl rfl, fun hk => ⟨(x.kept hk).1.fr (fun o ho => far _ (by omega)), (x.kept hk).2.ext ex rfl rfl⟩, ?_, fun j q1 q2 => ?_, fun j hj => ?_, ?_, ?_⟩
  · rw [far 23 (by decide)]; exact x.tight
  · rw [far 21 (by decide)]; exact x.im
  · rw [far 58 (by decide)]; exact x.fnd j q1 q2
  · rw [far 57 (by decide)]; exact x.tr j hj
  · rw [far 56 (by decide)]; exact x.many
  · obtain ⟨A, q1, q2⟩ := x.sh
    refine ⟨A, fun s hs => ?_, q2⟩
    rcases q1 s hs with j | ⟨a, c, t, m, k1, k2, k3, k4, k5, k6, k7, k8, k9, k10, k11, k12⟩
    · exact Or.inl j
    · exact Or.inr ⟨a, c, t, m, k1, k2, k3, k4, k5, k6, k7, k8, k9, k10, k11, fun i hi => by rw [far _ (by omega)]; exact k12 i hi⟩
theorem laym_fx {h h' : Hp} (f : FrX h h') (hm : LayM (hS h) (hR h)) : LayM (hS h') (hR h') := by
  unfold LayM at hm ⊢
  simp only [(f.2 66 (by decide) (by decide)).1, (f.2 67 (by decide) (by decide)).1, (f.2 68 (by decide) (by decide)).1, (f.2 69 (by decide) (by decide)).1, (f.2 70 (by decide) (by decide)).1, (f.2 71 (by decide) (by decide)).1, (f.2 72 (by decide) (by decide)).1, (f.2 73 (by decide) (by decide)).1, (f.2 74 (by decide) (by decide)).1, (f.2 75 (by decide) (by decide)).1, (f.2 76 (by decide) (by decide)).1, (f.2 77 (by decide) (by decide)).1, (f.2 66 (by decide) (by decide)).2.2]
  exact hm
/-- between two acts: both things hold the state S -/
def LI (h : Hp) (S : MSt) : Prop := CX h S ∧ LayM (hS h) (hR h) ∧ mS h (hI h 67) (hI h 66) = S ∧ hI h 66 15 = -1
/-- within an act: the component holds S' already -/
def LJ (h : Hp) (S S' : MSt) : Prop := CX h S' ∧ LayM (hS h) (hR h) ∧ mS h (hI h 67) (hI h 66) = S ∧ hI h 66 15 = -1
theorem li_x {h h' : Hp} {S : MSt} {q : Int32 × MSt} {out} (L : LI h S) (x : RX h q out h') : out = .inl (some (.int q.1)) ∧ LJ h' S q.2 := by
  obtain ⟨l1, l2, l3, l4⟩ := L
  obtain ⟨x1, x2, f⟩ := x
  refine ⟨x1, x2, laym_fx f l2, ?_, ?_⟩
  · rw [← l3]
    unfold mS
    rw [(f.2 66 (by decide) (by decide)).2.1, (f.2 67 (by decide) (by decide)).2.1, (f.2 68 (by decide) (by decide)).2.1, (f.2 71 (by decide) (by decide)).2.1, (f.2 72 (by decide) (by decide)).2.1, (f.2 73 (by decide) (by decide)).2.1, (f.2 74 (by decide) (by decide)).2.1, (f.2 77 (by decide) (by decide)).2.1]
  · rw [(f.2 66 (by decide) (by decide)).2.1]; exact l4
theorem MH_66i (h : Hp) (r o : Row) : hI (MH h r o) 66 = o := by
  show uf (uf (hI h) 67 r) 66 o 66 = o
  rw [uf_s]
theorem MH_67i (h : Hp) (r o : Row) : hI (MH h r o) 67 = r := by
  show uf (uf (hI h) 67 r) 66 o 67 = r
  rw [uf_n _ _ _ _ (by decide), uf_s]
theorem MH_i {h : Hp} {r o : Row} {a : Nat} (h1 : a ≠ 66) (h2 : a ≠ 67) : hI (MH h r o) a = hI h a := by
  show uf (uf (hI h) 67 r) 66 o a = _
  rw [uf_n _ _ _ _ h1, uf_n _ _ _ _ h2]
theorem li_a {h h' : Hp} {S : MSt} {q : Int32 × MSt} {out} (L : LJ h S q.2) (a : RA h q out h') : out = .inl (some (.int q.1)) ∧ LI h' q.2 := by
  obtain ⟨l1, l2, l3, l4⟩ := L
  obtain ⟨a1, h1, r1, o1, rfl, e, e15, f⟩ := a
  refine ⟨a1, cx_fm l1 f.m, f.m.lay l2, ?_, ?_⟩
  · rw [MH_66i, MH_67i, ← e]
    unfold mS
    rw [MH_i (by decide) (by decide), MH_i (by decide) (by decide), MH_i (by decide) (by decide), MH_i (by decide) (by decide), MH_i (by decide) (by decide), MH_i (by decide) (by decide)]
  · rw [MH_66i]; exact e15
/-- the reference's heap as it stands -/
theorem li_mh (h : Hp) : h = MH h (hI h 67) (hI h 66) := (MH_self h).symm
theorem li_start {V : HV} : LI (c129 V) (S0 V) := ⟨c_cx, c_m, rfl, c_o15⟩
