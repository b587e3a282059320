/-! ===== the pure law: acts ===== -/
set_option maxRecDepth 100000
abbrev RS : Type := Nat × SV
/-- a body ran -/
def rbF (b : Nat) (s : RS) : RS := (s.1 + 1, if s.1 < 20 then zp s.2 s.1 (nI b) else s.2)
def underB (kd k : Int32) : Bool := decide (k = 0) || decide (k = kd) || (decide (0 < k) && decide (k < nI 4) && decide (kd = k + nI 3))
def pmF (num x : Int32) (s : RS) : Int32 × RS := (x + num, rbF 1 s)
def maF (kd num x : Int32) (s : RS) : Int32 × RS := if underB kd (nI 1) then pmF num (x * nI 3) (rbF 11 s) else if kd = nI 5 then ((pmF num x (rbF 51 s)).1 ^^^ num, (pmF num x (rbF 51 s)).2) else pmF num x s
def pbF (kd num tv x : Int32) (s : RS) : Int32 × RS := ((maF kd num x (rbF 2 s)).1 - tv, (maF kd num x (rbF 2 s)).2)
def baF (kd num tv x : Int32) (s : RS) : Int32 × RS := if underB kd (nI 2) then (-(pbF kd num tv x (rbF 21 s)).1, (pbF kd num tv x (rbF 21 s)).2) else if kd = nI 6 then ((pbF kd num tv x (rbF 61 s)).1 + tv, (pbF kd num tv x (rbF 61 s)).2) else pbF kd num tv x s
def ptF (kd num tv x : Int32) (s : RS) : Int32 × RS := ((baF kd num tv x (rbF 3 s)).1 * nI 2, (baF kd num tv x (rbF 3 s)).2)
def taF (kd num tv x : Int32) (s : RS) : Int32 × RS := if underB kd (nI 3) then ((ptF kd num tv x (rbF 31 s)).1 ^^^ nI 7, (ptF kd num tv x (rbF 31 s)).2) else if kd = nI 4 then ((ptF kd num tv (x - nI 1) (rbF 41 s)).1 + (maF kd num (nI 2) (ptF kd num tv (x - nI 1) (rbF 41 s)).2).1, (maF kd num (nI 2) (ptF kd num tv (x - nI 1) (rbF 41 s)).2).2) else ptF kd num tv x s
def actF (sv : SV) (a w x : Int32) (bo : SV) : Int32 × RS := if isPlB sv a = false then (nI 0, (0, bo)) else if inB w (nI 0) (nI 2) = false then (nI 0, (0, bo)) else if w = 0 then maF (sv (12 + a.toNatClampNeg)) a x (0, bo) else if w = nI 1 then baF (sv (12 + a.toNatClampNeg)) a (sv (17 + a.toNatClampNeg)) x (0, bo) else taF (sv (12 + a.toNatClampNeg)) a (sv (17 + a.toNatClampNeg)) x (0, bo)
/-- how many bodies more -/
def rle (f : Nat) (s s' : RS) : Prop := s'.1 ≤ s.1 + f
theorem rb_le {b f : Nat} {s : RS} (h : s.1 + 1 ≤ f) : (rbF b s).1 ≤ f := h
theorem ma_le {kd num x : Int32} {s : RS} : (maF kd num x s).2.1 ≤ s.1 + 2 := by
  unfold maF pmF rbF
  split
  · exact Nat.le_refl _
  · split
    · exact Nat.le_refl _
    · exact Nat.le_succ _
theorem pb_le {kd num tv x : Int32} {s : RS} : (pbF kd num tv x s).2.1 ≤ s.1 + 3 := ma_le
theorem ba_le {kd num tv x : Int32} {s : RS} : (baF kd num tv x s).2.1 ≤ s.1 + 4 := by
  unfold baF
  split
  · exact pb_le (kd := kd) (num := num) (tv := tv) (x := x) (s := rbF 21 s)
  · split
    · exact pb_le (kd := kd) (num := num) (tv := tv) (x := x) (s := rbF 61 s)
    · exact Nat.le_trans (pb_le (kd := kd) (num := num) (tv := tv) (x := x) (s := s)) (Nat.le_succ _)
theorem pt_le {kd num tv x : Int32} {s : RS} : (ptF kd num tv x s).2.1 ≤ s.1 + 5 := ba_le
/-- memory: so many ran, these bodies -/
def mA (t : Nat) (I : ZI) (s : RS) : ZI := zp (zp I t (zp (I t) 20 (nI s.1))) (t + 10) s.2
theorem mA_f {t k : Nat} {I : ZI} {s : RS} (h : k ≠ 20) : mA t I s t k = I t k := by
  unfold mA
  rw [zp_n (by omega), zp_s, zp_n h]
theorem mA_20 {t : Nat} {I : ZI} {s : RS} : mA t I s t 20 = nI s.1 := by
  unfold mA
  rw [zp_n (by omega), zp_s, zp_s]
theorem mA_o {t a : Nat} {I : ZI} {s : RS} (h1 : a ≠ t) (h2 : a ≠ t + 10) : mA t I s a = I a := by
  unfold mA
  rw [zp_n h2, zp_n h1]
theorem mA_b {t : Nat} {I : ZI} {s : RS} : mA t I s (t + 10) = s.2 := zp_s
theorem mA_up {t : Nat} {I : ZI} {s s' : RS} : zp (zp (mA t I s) (t + 10) s'.2) t (zp (mA t I s t) 20 (nI s'.1)) = mA t I s' := by
  unfold mA
  rw [zp_zp, zp_comm (by omega : t + 10 ≠ t), zp_zp, zp_n (by omega), zp_s, zp_zp]
theorem mA_id {t : Nat} {I : ZI} {s : RS} (h1 : I t 20 = nI s.1) (h2 : I (t + 10) = s.2) : mA t I s = I := by
  unfold mA
  rw [← h1, zp_self, zp_self, ← h2, zp_self]
def traceF (s : RS) (i : Int32) : Int32 := if inB i (nI 0) ((if nI s.1 < nI 20 then nI s.1 else nI 20) - nI 1) then s.2 i.toNatClampNeg else -1
def asF (sv : SV) (a k : Int32) : Int32 := if isPlB sv a = false then -1 else if inB k (nI 0) (nI 6) = false then -1 else if underB (sv (12 + a.toNatClampNeg)) k then sv (17 + a.toNatClampNeg) else -6
