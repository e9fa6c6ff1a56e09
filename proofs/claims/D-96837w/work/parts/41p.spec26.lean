theorem nar_z (b : Bool) : vp_nar .boolean (b2 b) = b2 b := by cases b <;> decide
theorem FrC.b60 {h : Hp} {F : Row} : FrC h (bI h 60 F) := ⟨Nat.le_refl _, fun _ _ => rfl, fun _ _ _ _ => rfl, fun a _ q => bI_n (fun e => q (by unfold EXc; omega))⟩
theorem FrX.b {h : Hp} {a : Nat} {F : Row} (q : a < 66 ∨ 77 < a) : FrX h (bI h a F) := FrX.s (fun x h1 h2 => uf_n _ _ _ _ (by omega))
theorem uv_0 {r f : Row} {z s t : Nat} : uvN r f z s t < nI 1000 := absI_lt (by
  obtain ⟨z9, e, h1, h2⟩ := apF_b (ok := fitN r f z s) (gv := fun k => givB (nI k) (nI t)) 256 (by omega)
  exact ⟨z9, e, by omega, by omega⟩)
theorem bI_60 {h : Hp} : h = bI h 60 (hI h 60) := by
  have e : uf (hI h) 60 (hI h 60) = hI h := by funext c; unfold uf; by_cases q : c = 60 <;> simp [q]
  show h = sI h (uf (hI h) 60 (hI h 60))
  rw [e]
  rfl
def uvO (ok : Nat → Bool) (t : Nat) : Int32 := absI (apF ok (fun k => givB (nI k) (nI t)) 256)
theorem uvO_N {r f : Row} {z s : Nat} : uvO (fitN r f z s) = uvN r f z s := rfl
