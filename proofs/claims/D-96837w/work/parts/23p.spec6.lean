/-! small acts -/
def netV (r : Row) (p : Nat) : Nat → Int32
  | 0 => nI 0
  | k + 1 => netV r p k + (dv r k p - dv r p k)
def aNet (S : MSt) (p : Int32) : Int32 × MSt := if inB p 0 (S.r 2 - 1) = true then (netV S.r (toN p) (np S.r), S) else errA S (-1000000001) 1
def aSeed (S : MSt) (v : Int32) : Int32 × MSt := (S.r 1, S.s_r (ru S.r 1 v))
def aTrace (S : MSt) (i : Int32) : Int32 × MSt := if inB i (nI 0) (S.many - nI 1) = true then (S.traced (toN i), S) else errA S (-1000000002) 2
def aTell (S : MSt) (v : Int32) : Int32 × MSt := if toN (S.r 4) = 20 then errA S (-1000000004) 4 else (nI (toN (S.r 4) + 1), S.s_r (ru (ru S.r (161 + toN (S.r 4)) v) 4 (nI (toN (S.r 4) + 1))))
def aTold (S : MSt) (i : Int32) : Int32 × MSt := if inB i (nI 1) (nI 5) = true then (S.found (toN i), S) else errA S (-1000000001) 1
def aRestore (S : MSt) : Int32 × MSt := if S.isK = 0 then errA S (-1000000002) 2 else (S.kept 0, S.s_r (cpR 281 S.kept S.r))
def aImage (S : MSt) : Int32 × MSt := (S.images + nI 1, ((S.s_kept (cpR 281 S.r S.kept)).s_isK (nI 1)).s_images (S.images + nI 1))
def narV (b v : Int32) : Int32 := if b = nI 8 then v.toInt8.toInt32 else if b = nI 16 then v.toInt16.toInt32 else v
def aPut (S : MSt) (s i v : Int32) : Int32 × MSt :=
  if inB s (nI 0) (nI 3) = true then (if S.bits (toN s) = 0 then errA S (-1000000002) 2 else (if inB i (nI 0) (S.size (toN s) - nI 1) = true then (nI 1, S.s_sheets (ru S.sheets (40 * toN s + toN i) (narV (S.bits (toN s)) v))) else errA S (-1000000001) 1)) else errA S (-1000000001) 1
def widB (b : Int32) : Bool := decide (b = 0) || decide (b = nI 8) || decide (b = nI 16) || decide (b = nI 32)
def zeroS (f : Row) (s : Nat) : Nat → Row
  | 0 => f
  | k + 1 => ru (zeroS f s k) (40 * s + k) (nI 0)
def okS (S : MSt) (s : Nat) (b n : Int32) : Int32 × MSt := (nI 1, ((S.s_bits (ru S.bits s b)).s_size (ru S.size s (if b = 0 then nI 0 else n))).s_sheets (zeroS S.sheets s 40))
def aSheet (S : MSt) (s b n : Int32) : Int32 × MSt :=
  if inB s (nI 0) (nI 3) = true then (if widB b = true then (if b = 0 then okS S (toN s) b n else if n < 0 then errA S (-1000000003) 3 else if nI 40 < n then errA S (-1000000001) 1 else okS S (toN s) b n) else errA S (-1000000001) 1) else errA S (-1000000001) 1
theorem MH_74 (h : Hp) (r o : Row) : MH h r o = MH (bI h 74 (hI h 74)) r o := by
  have e : bI h 74 (hI h 74) = h := by
    show sI h (uf (hI h) 74 (hI h 74)) = h
    have e : uf (hI h) 74 (hI h 74) = hI h := by funext c; unfold uf; by_cases q : c = 74 <;> simp [q]
    rw [e]; rfl
  rw [e]
