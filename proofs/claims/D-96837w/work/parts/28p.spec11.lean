/-! covers, rules -/
def bitF : Nat → Int32 → Nat → Nat
  | 0, _, n => n
  | k + 1, v, n => if v = 0 then n else bitF k (v &&& (v - nI 1)) (n + 1)
def doneB : Nat → Int32 → Bool
  | 0, v => decide (v = 0)
  | k + 1, v => decide (v = 0) || doneB k (v &&& (v - nI 1))
theorem bitF_le : ∀ (k : Nat) (v : Int32) (n : Nat), bitF k v n ≤ n + k
  | 0, _, n => Nat.le_refl _
  | k + 1, v, n => by
    unfold bitF
    by_cases c : v = 0
    · rw [if_pos c]; omega
    · rw [if_neg c]; have := bitF_le k (v &&& (v - nI 1)) (n + 1); omega
theorem doneB_s {k : Nat} {v : Int32} (h : doneB (k + 1) v = true) (c : ¬ v = 0) : doneB k (v &&& (v - nI 1)) = true := by
  have h2 : (decide (v = 0) || doneB k (v &&& (v - nI 1))) = true := h
  rw [decide_eq_false c] at h2
  exact h2
def bitN (s : Nat) : Nat := bitF 9 (nI s) 0
theorem bitN_le {s : Nat} : bitN s ≤ 9 := bitF_le 9 _ 0
set_option maxRecDepth 100000 in
theorem doneB_256 : ∀ s, s < 256 → doneB 9 (nI s) = true := by decide +kernel
def filS (r : Row) (s : Nat) : Nat → Int32
  | 0 => nI 0
  | k + 1 => filS r s k + (if (nI s >>> (nI k &&& 31)) &&& nI 1 = nI 1 then fillV (kindN r k) (pv r k 1) else nI 0)
theorem filS_t {r : Row} {s k : Nat} (h : (nI s >>> (nI k &&& 31)) &&& nI 1 = nI 1) : filS r s (k + 1) = filS r s k + fillV (kindN r k) (pv r k 1) := by
  show filS r s k + (if (nI s >>> (nI k &&& 31)) &&& nI 1 = nI 1 then fillV (kindN r k) (pv r k 1) else nI 0) = _
  rw [if_pos h]
theorem filS_f {r : Row} {s k : Nat} (h : ¬ (nI s >>> (nI k &&& 31)) &&& nI 1 = nI 1) : filS r s (k + 1) = filS r s k + nI 0 := by
  show filS r s k + (if (nI s >>> (nI k &&& 31)) &&& nI 1 = nI 1 then fillV (kindN r k) (pv r k 1) else nI 0) = _
  rw [if_neg h]
def drkS (r : Row) : Nat → Int32
  | 0 => nI 0
  | k + 1 => drkS r k + drinkV (kindN r k)
def coOk (r : Row) (g t : Int32) (n s : Nat) : Bool := decide (nI s &&& (g ^^^ (-1)) = 0) && !decide (filS r s n < t)
theorem coOk_f1 {r : Row} {g t : Int32} {n s : Nat} (h : ¬ nI s &&& (g ^^^ (-1)) = 0) : coOk r g t n s = false := by unfold coOk; rw [decide_eq_false h]; rfl
theorem coOk_f2 {r : Row} {g t : Int32} {n s : Nat} (h : filS r s n < t) : coOk r g t n s = false := by unfold coOk; rw [decide_eq_true h]; exact Bool.and_false _
theorem coOk_t {r : Row} {g t : Int32} {n s : Nat} (h1 : nI s &&& (g ^^^ (-1)) = 0) (h : ¬ filS r s n < t) : coOk r g t n s = true := by unfold coOk; rw [decide_eq_true h1, decide_eq_false h]; rfl
def lesB (x : Option Nat) (s : Nat) : Bool := match x with
  | none => true
  | some b => decide (bitN s < bitN b)
def covF (ok : Nat → Bool) : Nat → Option Nat
  | 0 => none
  | s + 1 => if ok s = true ∧ lesB (covF ok s) s = true then some s else covF ok s
theorem covF_n {ok : Nat → Bool} {s : Nat} (h : ok s = false) : covF ok (s + 1) = covF ok s := if_neg (fun q => by rw [h] at q; exact absurd q.1 (by decide))
theorem covF_1 {ok : Nat → Bool} {s : Nat} (h : ok s = true) (hb : covF ok s = none) : covF ok (s + 1) = some s := if_pos ⟨h, by rw [hb]; rfl⟩
theorem covF_2 {ok : Nat → Bool} {s b : Nat} (h : ok s = true) (hb : covF ok s = some b) (c : bitN s < bitN b) : covF ok (s + 1) = some s := if_pos ⟨h, by rw [hb]; exact decide_eq_true c⟩
theorem covF_3 {ok : Nat → Bool} {s b : Nat} (hb : covF ok s = some b) (c : ¬ bitN s < bitN b) : covF ok (s + 1) = covF ok s := if_neg (fun q => by rw [hb] at q; exact c (of_decide_eq_true q.2))
theorem covF_lt {ok : Nat → Bool} : ∀ {s b : Nat}, covF ok s = some b → b < s
  | 0, b, h => by cases h
  | s + 1, b, h => by
    have h2 : (if ok s = true ∧ lesB (covF ok s) s = true then some s else covF ok s) = some b := h
    by_cases c : ok s = true ∧ lesB (covF ok s) s = true
    · rw [if_pos c] at h2; cases h2; omega
    · rw [if_neg c] at h2; have := covF_lt h2; omega
def coA (S : MSt) (x : Option Nat) : Int32 × MSt := match x with
  | none => errA S (-1000000002) 2
  | some b => (nI b, S)
def coX (r : Row) : Option Nat := covF (coOk r (givenSet r (np r)) (drkS r (np r)) (np r)) (2 ^ np r)
def aCover (S : MSt) : Int32 × MSt := coA S (coX S.r)
theorem shl_n : ∀ n, n ≤ 8 → nI 1 <<< (nI n &&& 31) = nI (2 ^ n) ∧ 2 ^ n ≤ 256 := by
  intro n hn
  rcases (show n = 0 ∨ n = 1 ∨ n = 2 ∨ n = 3 ∨ n = 4 ∨ n = 5 ∨ n = 6 ∨ n = 7 ∨ n = 8 by omega) with rfl | rfl | rfl | rfl | rfl | rfl | rfl | rfl | rfl <;> decide
/-- rules: a mask and a value -/
def ruB (u : Int32) : Bool := decide ((u &&& nI 15) &&& ((u >>> (nI 4 &&& 31)) ^^^ (-1)) = 0)
def givB (u t : Int32) : Bool := decide ((u >>> (nI 4 &&& 31)) &&& t = u &&& nI 15)
def ftP (r f : Row) (s : Nat) (u : Int32) (p : Nat) : Bool := !inB (f (40 * s + p)) (nI 0) (nI 1) || (givB u (pv r p 2) == decide (f (40 * s + p) = nI 1))
theorem ftP_o {r f : Row} {s p : Nat} {u : Int32} (h : inB (f (40 * s + p)) (nI 0) (nI 1) = false) : ftP r f s u p = true := by unfold ftP; rw [h]; rfl
theorem ftP_i {r f : Row} {s p : Nat} {u : Int32} (h : inB (f (40 * s + p)) (nI 0) (nI 1) = true) : ftP r f s u p = (givB u (pv r p 2) == decide (f (40 * s + p) = nI 1)) := by unfold ftP; rw [h]; rfl
theorem ftP_11 {r f : Row} {s p : Nat} {u : Int32} (h : inB (f (40 * s + p)) (nI 0) (nI 1) = true) (c : f (40 * s + p) = nI 1) (e : b2 (givB u (pv r p 2)) = nI 1) : ftP r f s u p = true := by
  rw [ftP_i h, decide_eq_true c]
  cases hg : givB u (pv r p 2) with
  | true => rfl
  | false => rw [hg] at e; exact absurd e (by decide)
theorem ftP_10 {r f : Row} {s p : Nat} {u : Int32} (h : inB (f (40 * s + p)) (nI 0) (nI 1) = true) (c : f (40 * s + p) = nI 1) (e : ¬ b2 (givB u (pv r p 2)) = nI 1) : ftP r f s u p = false := by
  rw [ftP_i h, decide_eq_true c]
  cases hg : givB u (pv r p 2) with
  | true => rw [hg] at e; exact absurd rfl e
  | false => rfl
theorem ftP_00 {r f : Row} {s p : Nat} {u : Int32} (h : inB (f (40 * s + p)) (nI 0) (nI 1) = true) (c : ¬ f (40 * s + p) = nI 1) (e : b2 (givB u (pv r p 2)) = nI 0) : ftP r f s u p = true := by
  rw [ftP_i h, decide_eq_false c]
  cases hg : givB u (pv r p 2) with
  | false => rfl
  | true => rw [hg] at e; exact absurd e (by decide)
theorem ftP_01 {r f : Row} {s p : Nat} {u : Int32} (h : inB (f (40 * s + p)) (nI 0) (nI 1) = true) (c : ¬ f (40 * s + p) = nI 1) (e : ¬ b2 (givB u (pv r p 2)) = nI 0) : ftP r f s u p = false := by
  rw [ftP_i h, decide_eq_false c]
  cases hg : givB u (pv r p 2) with
  | true => rfl
  | false => rw [hg] at e; exact absurd rfl e
def fitA (b : Bool) (ok : Nat → Bool) : Nat → Bool
  | 0 => b
  | k + 1 => fitA b ok k && ok k
theorem fitA_f {b : Bool} {ok : Nat → Bool} {i : Nat} (h : fitA b ok i = false) : ∀ j, i ≤ j → fitA b ok j = false
  | 0, hj => by have e : i = 0 := by omega
                subst e; exact h
  | j + 1, hj => by
    by_cases e : i = j + 1
    · subst e; exact h
    · show (fitA b ok j && ok j) = false
      rw [fitA_f h j (by omega)]; rfl
theorem fitA_s {b : Bool} {ok : Nat → Bool} {i : Nat} {x : Bool} (h : fitA b ok i = true) (h2 : ok i = x) : fitA b ok (i + 1) = x := by
  show (fitA b ok i && ok i) = x
  rw [h, h2]; exact Bool.true_and x
def fitB (r f : Row) (z s : Nat) (u : Int32) : Bool := fitA (ruB u) (ftP r f s u) (min (np r) z)
def rlI (k : Nat) : Int32 := match k with
  | 0 => -1
  | k + 1 => nI k
theorem rlI_dec (k : Nat) : nI k + Int32.ofInt (-1) = rlI k := by
  match k with
  | 0 => decide
  | k + 1 =>
    show nI (k + 1) + Int32.ofInt (-1) = nI k
    rw [← nI_pred k, Int32.sub_eq_add_neg]
    rfl
def manG (ok : Nat → Bool) : Nat → Nat → Nat
  | 0, m => m
  | k + 1, m => manG ok k (if ok k = true then m + 1 else m)
theorem manG_le {ok : Nat → Bool} : ∀ k m, manG ok k m ≤ m + k
  | 0, m => Nat.le_refl _
  | k + 1, m => by
    show manG ok k (if ok k = true then m + 1 else m) ≤ m + (k + 1)
    by_cases c : ok k = true
    · rw [if_pos c]; have := manG_le (ok := ok) k (m + 1); omega
    · rw [if_neg c]; have := manG_le (ok := ok) k m; omega
def leaG (ok : Nat → Bool) : Nat → Nat → Nat
  | 0, l => l
  | k + 1, l => leaG ok k (if ok k = true then k else l)
theorem manG_t {ok : Nat → Bool} {k m : Nat} (h : ok k = true) : manG ok (k + 1) m = manG ok k (m + 1) := by
  show manG ok k (if ok k = true then m + 1 else m) = _
  rw [if_pos h]
theorem manG_f {ok : Nat → Bool} {k m : Nat} (h : ok k = false) : manG ok (k + 1) m = manG ok k m := by
  show manG ok k (if ok k = true then m + 1 else m) = _
  rw [h]; rfl
theorem leaG_t {ok : Nat → Bool} {k l : Nat} (h : ok k = true) : leaG ok (k + 1) l = leaG ok k k := by
  show leaG ok k (if ok k = true then k else l) = _
  rw [if_pos h]
theorem leaG_f {ok : Nat → Bool} {k l : Nat} (h : ok k = false) : leaG ok (k + 1) l = leaG ok k l := by
  show leaG ok k (if ok k = true then k else l) = _
  rw [h]; rfl
def apF (ok gv : Nat → Bool) : Nat → Int32
  | 0 => nI 0
  | k + 1 => apF ok gv k + (if ok k = true then (if gv k = true then nI 1 else (-1)) else nI 0)
theorem apF_1 {ok gv : Nat → Bool} {k : Nat} (h : ok k = true) (h2 : gv k = true) : apF ok gv (k + 1) = apF ok gv k + nI 1 := by
  show apF ok gv k + (if ok k = true then (if gv k = true then nI 1 else (-1)) else nI 0) = _
  rw [if_pos h, if_pos h2]
theorem apF_2 {ok gv : Nat → Bool} {k : Nat} (h : ok k = true) (h2 : gv k = false) : apF ok gv (k + 1) = apF ok gv k + (-1) := by
  show apF ok gv k + (if ok k = true then (if gv k = true then nI 1 else (-1)) else nI 0) = _
  rw [if_pos h, h2]; rfl
theorem apF_3 {ok gv : Nat → Bool} {k : Nat} (h : ok k = false) : apF ok gv (k + 1) = apF ok gv k + nI 0 := by
  show apF ok gv k + (if ok k = true then (if gv k = true then nI 1 else (-1)) else nI 0) = _
  rw [h]; rfl
def absI (x : Int32) : Int32 := if x < 0 then -x else x
def evF (u : Nat → Int32) : Nat → Nat × Int32
  | 0 => (0, nI 1000)
  | k + 1 => if u k < (evF u k).2 then (k, u k) else evF u k
theorem evF_t {u : Nat → Int32} {k : Nat} (h : u k < (evF u k).2) : evF u (k + 1) = (k, u k) := if_pos h
theorem evF_f {u : Nat → Int32} {k : Nat} (h : ¬ u k < (evF u k).2) : evF u (k + 1) = evF u k := if_neg h
theorem evF_le {u : Nat → Int32} : ∀ k, (evF u k).1 ≤ k
  | 0 => Nat.le_refl _
  | k + 1 => by
    by_cases c : u k < (evF u k).2
    · rw [evF_t c]; show k ≤ k + 1; omega
    · rw [evF_f c]; have := evF_le (u := u) k; omega
/-- does rule k fit sheet s; how uneven the rules that fit are about t -/
def fitN (r f : Row) (z s : Nat) (k : Nat) : Bool := fitB r f z s (nI k)
def uvN (r f : Row) (z s : Nat) (t : Nat) : Int32 := absI (apF (fitN r f z s) (fun k => givB (nI k) (nI t)) 256)
def aRules (S : MSt) (s q : Int32) : Int32 × MSt :=
  if inB s (nI 0) (nI 3) = true then (if inB q (nI 0) (nI 2) = true then (if S.bits (toN s) = 0 then errA S (-1000000002) 2 else if toN q = 1 then (if manG (fitN S.r S.sheets (toN (S.size (toN s))) (toN s)) 256 0 = 0 then errA S (-1000000002) 2 else (nI (leaG (fitN S.r S.sheets (toN (S.size (toN s))) (toN s)) 256 0), S)) else if toN q = 0 then (nI (manG (fitN S.r S.sheets (toN (S.size (toN s))) (toN s)) 256 0), S) else (nI (evF (uvN S.r S.sheets (toN (S.size (toN s))) (toN s)) 16).1, S)) else errA S (-1000000001) 1) else errA S (-1000000001) 1
