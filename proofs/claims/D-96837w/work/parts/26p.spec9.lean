/-! voices -/
theorem ru_ru (o : Row) (k : Nat) (v w : Int32) : ru (ru o k v) k w = ru o k w := by
  funext j
  unfold ru
  by_cases h : j = k <;> simp [h]
theorem ru_self {o : Row} {k : Nat} {v : Int32} (h : o k = v) : ru o k v = o := by
  funext j
  unfold ru
  by_cases e : j = k
  · rw [if_pos e, e, h]
  · rw [if_neg e]
/-- the trace: what ran, how many -/
abbrev TR : Type := Row × Nat
def ranT (t : TR) (b : Int32) : TR := if t.2 < 40 then (ru t.1 t.2 b, t.2 + 1) else t
theorem ranT_le {t : TR} {b : Int32} (h : t.2 ≤ 40) : (ranT t b).2 ≤ 40 := by
  unfold ranT
  by_cases c : t.2 < 40
  · rw [if_pos c]; show t.2 + 1 ≤ 40; omega
  · rw [if_neg c]; exact h
def letsV (k : Nat) (n x : Int32) (t : TR) : Int32 × TR := if k = 1 ∨ k = 4 then ((x + n) * nI 3, ranT (ranT t (nI 20)) (nI 10)) else (x + n, ranT t (nI 10))
theorem letsV_le {k : Nat} {n x : Int32} {t : TR} (h : t.2 ≤ 40) : (letsV k n x t).2.2 ≤ 40 := by
  unfold letsV
  by_cases c : k = 1 ∨ k = 4
  · rw [if_pos c]; exact ranT_le (ranT_le h)
  · rw [if_neg c]; exact ranT_le h
def lendsV (k : Nat) (n m x : Int32) (t : TR) : Int32 × TR := if k = 3 then (-(x - m), ranT (ranT t (nI 40)) (nI 12)) else if k = 6 then ((-(x - m)) ^^^ n, ranT (ranT (ranT t (nI 70)) (nI 40)) (nI 12)) else (x - m, ranT t (nI 12))
theorem lendsV_le {k : Nat} {n m x : Int32} {t : TR} (h : t.2 ≤ 40) : (lendsV k n m x t).2.2 ≤ 40 := by
  unfold lendsV
  by_cases c : k = 3
  · rw [if_pos c]; exact ranT_le (ranT_le h)
  · rw [if_neg c]
    by_cases c : k = 6
    · rw [if_pos c]; exact ranT_le (ranT_le (ranT_le h))
    · rw [if_neg c]; exact ranT_le h
def fills0V (vk : Nat) (n x : Int32) (t : TR) : Int32 × TR := ((letsV vk n x (ranT t (nI 11))).1 * nI 2, (letsV vk n x (ranT t (nI 11))).2)
def fills2V (vk : Nat) (n m x : Int32) (t : TR) : Int32 × TR := ((fills0V vk n x (ranT t (nI 30))).1 - (lendsV vk n m (nI 1) (fills0V vk n x (ranT t (nI 30))).2).1, (lendsV vk n m (nI 1) (fills0V vk n x (ranT t (nI 30))).2).2)
def fillsV (k vk : Nat) (n m x : Int32) (t : TR) : Int32 × TR := if k = 2 then fills2V vk n m x t else if k = 5 then fills2V vk n m (x + nI 1) (ranT t (nI 60)) else fills0V vk n x t
theorem fills0V_le {vk : Nat} {n x : Int32} {t : TR} (h : t.2 ≤ 40) : (fills0V vk n x t).2.2 ≤ 40 := letsV_le (ranT_le h)
theorem fills2V_le {vk : Nat} {n m x : Int32} {t : TR} (h : t.2 ≤ 40) : (fills2V vk n m x t).2.2 ≤ 40 := lendsV_le (fills0V_le (ranT_le h))
theorem fillsV_le {k vk : Nat} {n m x : Int32} {t : TR} (h : t.2 ≤ 40) : (fillsV k vk n m x t).2.2 ≤ 40 := by
  unfold fillsV
  by_cases c : k = 2
  · rw [if_pos c]; exact fills2V_le h
  · rw [if_neg c]
    by_cases c : k = 5
    · rw [if_pos c]; exact fills2V_le (ranT_le h)
    · rw [if_neg c]; exact fills0V_le h
def tells0V (vk : Nat) (n m x : Int32) (t : TR) : Int32 × TR := ((fillsV vk vk n m x (ranT t (nI 13))).1 ^^^ (lendsV vk n m x (fillsV vk vk n m x (ranT t (nI 13))).2).1, (lendsV vk n m x (fillsV vk vk n m x (ranT t (nI 13))).2).2)
theorem tells0V_le {vk : Nat} {n m x : Int32} {t : TR} (h : t.2 ≤ 40) : (tells0V vk n m x t).2.2 ≤ 40 := lendsV_le (fillsV_le (ranT_le h))
def tells4V (vk : Nat) (n m x : Int32) (t : TR) : Int32 × TR := ((tells0V vk n m x (ranT t (nI 50))).1 - (letsV vk n (nI 2) (tells0V vk n m x (ranT t (nI 50))).2).1, (letsV vk n (nI 2) (tells0V vk n m x (ranT t (nI 50))).2).2)
def tells6V (vk : Nat) (n m x : Int32) (t : TR) : Int32 × TR := ((fillsV vk vk n m x (ranT t (nI 71))).1 - (tells0V vk n m x (fillsV vk vk n m x (ranT t (nI 71))).2).1, (tells0V vk n m x (fillsV vk vk n m x (ranT t (nI 71))).2).2)
def tellsV (k vk : Nat) (n m x : Int32) (t : TR) : Int32 × TR := if k = 4 then tells4V vk n m x t else if k = 6 then tells6V vk n m x t else tells0V vk n m x t
theorem tellsV_le {k vk : Nat} {n m x : Int32} {t : TR} (h : t.2 ≤ 40) : (tellsV k vk n m x t).2.2 ≤ 40 := by
  unfold tellsV
  by_cases c : k = 4
  · rw [if_pos c]; exact letsV_le (tells0V_le (ranT_le h))
  · rw [if_neg c]
    by_cases c : k = 6
    · rw [if_pos c]; exact tells0V_le (fillsV_le (ranT_le h))
    · rw [if_neg c]; exact tells0V_le h
def voiceV (a vk : Nat) (n m x : Int32) (t : TR) : Int32 × TR := if a = 0 then letsV vk n x t else if a = 1 then fillsV vk vk n m x t else if a = 2 then lendsV vk n m x t else tellsV vk vk n m x t
theorem voiceV_le {a vk : Nat} {n m x : Int32} {t : TR} (h : t.2 ≤ 40) : (voiceV a vk n m x t).2.2 ≤ 40 := by
  unfold voiceV
  by_cases c : a = 0
  · rw [if_pos c]; exact letsV_le h
  · rw [if_neg c]
    by_cases c : a = 1
    · rw [if_pos c]; exact fillsV_le h
    · rw [if_neg c]
      by_cases c : a = 2
      · rw [if_pos c]; exact lendsV_le h
      · rw [if_neg c]; exact tellsV_le h
/-- the reference's heap with the trace t -/
def VH (h : Hp) (r o : Row) (t : TR) : Hp := MH (bI h 77 t.1) r (ru o 25 (nI t.2))
theorem VH_of {h : Hp} {r o : Row} {n : Nat} (e : o 25 = nI n) : MH h r o = VH h r o (hI h 77, n) := by
  have e2 : bI h 77 (hI h 77) = h := by
    show sI h (uf (hI h) 77 (hI h 77)) = h
    have e : uf (hI h) 77 (hI h 77) = hI h := by funext c; unfold uf; by_cases q : c = 77 <;> simp [q]
    rw [e]; rfl
  show _ = MH (bI h 77 (hI h 77)) r (ru o 25 (nI n))
  rw [e2, ru_self e]
theorem VH_ran {h : Hp} {r o : Row} {t : TR} {b : Int32} (c : t.2 < 40) : MH (bI (bI h 77 t.1) 77 (ru (hI (bI h 77 t.1) 77) t.2 b)) r (ru (ru o 25 (nI t.2)) 25 (nI (t.2 + 1))) = VH h r o (ranT t b) := by
  unfold ranT
  rw [if_pos c, bI_bI, bI_s, ru_ru]
  rfl
def vcR (S : MSt) (q : Int32 × TR) : Int32 × MSt := (q.1, (S.s_traced q.2.1).s_many (nI q.2.2))
def aVoice (S : MSt) (p a x : Int32) : Int32 × MSt :=
  if inB p 0 (S.r 2 - 1) = true then (if inB a (nI 0) (nI 3) = true then vcR S (voiceV (toN a) (kindN S.r (toN p)) p (pv S.r (toN p) 1) x (S.traced, 0)) else errA S (-1000000001) 1) else errA S (-1000000001) 1
