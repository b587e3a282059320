/-! ===== the pure law: what the small methods compute on the row s ===== -/
set_option maxRecDepth 100000
abbrev SV : Type := Nat → Int32
/-- v lies between -/
def inB (v lo hi : Int32) : Bool := !decide (v < lo) && !decide (hi < v)
/-- what is held: none, or an inn's number -/
def holdOK (v : Int32) : Prop := v = -1 ∨ ∃ h : Nat, h < 5 ∧ v = nI h
def tellsF (sv : SV) (w : Nat) : Int32 := if sv 11 = -1 then nI 1 else sv (w + (sv 11).toNatClampNeg)
def fewerF (sv : SV) (x : Int32) : Int32 := if x - tellsF sv 174 < nI 1 then nI 1 else x - tellsF sv 174
def moreF (sv : SV) (x : Int32) : Int32 := if nI 20 < x + tellsF sv 179 then nI 20 else x + tellsF sv 179
def pl1F (sv : SV) (w : Nat) : SV := zp sv (1 + w) (fewerF sv (sv (1 + w)))
def pl2F (sv : SV) (l : Nat) : SV := zp sv (1 + l) (moreF sv (sv (1 + l)))
def pl3F (sv : SV) : SV := zp sv 0 (sv 0 + nI 1)
def playsF (sv : SV) (w l : Nat) : SV := pl3F (pl2F (pl1F sv w) l)
def isPlB (sv : SV) (p : Int32) : Bool := inB p (nI 0) (sv 6 - nI 1)
def twoB (sv : SV) (p q : Int32) : Bool := isPlB sv p && isPlB sv q && !decide (p = q)
def feedF (sv : SV) (x : Int32) : Int32 × SV :=
  if inB x (nI 0) (nI 127) = false then (-2, sv) else if sv 10 = nI 100 then (-4, sv) else
  let s1 := zp sv (74 + (sv 10).toNatClampNeg) x
  let s2 := zp s1 10 (s1 10 + nI 1)
  (s2 10, s2)
/-- places a .. b - 1 with v -/
def zfillF (f : SV) (a b : Nat) (v : Int32) : SV := fun j => if a ≤ j ∧ j < b then v else f j
def playerF (sv : SV) (k v : Int32) : Int32 × SV :=
  if inB k (nI 0) (nI 6) = false then (-1, sv) else if inB v (nI 0) (nI 9) = false then (-2, sv) else if sv 6 = nI 5 then (-4, sv) else
  let p := (sv 6).toNatClampNeg
  let s1 := zp (zp (zp sv (12 + p) k) (17 + p) v) (1 + p) (nI 8)
  let s2 := zfillF s1 (22 + 4 * p) (22 + 4 * p + 4) (nI 4)
  (sv 6, zp s2 6 (s2 6 + nI 1))
def ofF (sv : SV) (p what : Int32) : Int32 :=
  if isPlB sv p = false then -1 else if inB what (nI 0) (nI 2) = false then -1 else if what = nI 2 then sv (1 + p.toNatClampNeg) else sv (12 + 5 * what.toNatClampNeg + p.toNatClampNeg)
def menF (sv : SV) (p m : Int32) : Int32 × SV :=
  if isPlB sv p = false then (-1, sv) else if inB m (nI 1) (nI 20) = false then (-2, sv) else (sv (1 + p.toNatClampNeg), zp sv (1 + p.toNatClampNeg) m)
def rowF (sv : SV) (p k m : Int32) : Int32 × SV :=
  if isPlB sv p = false then (-1, sv) else if inB k (nI 0) (nI 3) = false then (-1, sv) else if inB m (nI 0) (nI 9) = false then (-2, sv) else if ¬ sv (12 + p.toNatClampNeg) = nI 6 then (-3, sv) else
  (sv (22 + 4 * p.toNatClampNeg + k.toNatClampNeg), zp sv (22 + 4 * p.toNatClampNeg + k.toNatClampNeg) m)
def toldF (sv : SV) (what : Int32) : Int32 := if what = 0 then sv 0 else if what = nI 1 then tellsF sv 174 else if what = nI 2 then tellsF sv 179 else -1
def playF (sv : SV) (a b : Int32) (won : Bool) : Int32 × SV :=
  if isPlB sv a = false then (-1, sv) else if isPlB sv b = false then (-1, sv) else if a = b then (-2, sv) else if sv 0 = nI 9999 then (-3, sv) else
  let s1 := playsF sv (if won then a else b).toNatClampNeg (if won then b else a).toNatClampNeg
  (s1 (1 + a.toNatClampNeg), s1)
def bookF (sv : SV) (a b : Int32) (won : Bool) : Int32 × SV :=
  if a = -1 then (nI 0, zp sv 8 (nI 0)) else if isPlB sv a = false then (-1, sv) else if isPlB sv b = false then (-1, sv) else if a = b then (-2, sv) else if sv 8 = nI 8 then (-4, sv) else
  let k := (sv 8).toNatClampNeg
  let s1 := zp (zp (zp sv (42 + k) a) (50 + k) b) (58 + k) (zb won)
  let s2 := zp s1 8 (s1 8 + nI 1)
  (s2 8, s2)
/-- the k-th game of the book -/
def bgameF (sv : SV) (k : Nat) : SV := if sv (58 + k) = nI 1 then playsF sv (sv (42 + k)).toNatClampNeg (sv (50 + k)).toNatClampNeg else playsF sv (sv (50 + k)).toNatClampNeg (sv (42 + k)).toNatClampNeg
def taleF (sv : SV) (m : Int32) : Int32 × SV :=
  if m = -1 then (nI 0, zp sv 9 (nI 0)) else if inB m (nI 1) (nI 20) = false then (-2, sv) else if sv 9 = nI 8 then (-4, sv) else
  let s1 := zp sv (66 + (sv 9).toNatClampNeg) m
  let s2 := zp s1 9 (s1 9 + nI 1)
  (s2 9, s2)
def countF (sv : SV) (ran what : Int32) : Int32 := if what = nI 5 then ran else if inB what (nI 0) (nI 4) then sv (6 + what.toNatClampNeg) else -1
theorem cl_nI {n : Nat} (h : n < 2 ^ 31) : (nI n).toNatClampNeg = n := nI_clamp h
theorem inB_of {v : Int32} {a b : Nat} (h : inB v (nI a) (nI b) = true) (ha : a < 2 ^ 31) (hb : b < 2 ^ 31) : ∃ j : Nat, a ≤ j ∧ j ≤ b ∧ v = nI j := by
  unfold inB at h
  simp only [Bool.and_eq_true, Bool.not_eq_true', decide_eq_false_iff_not] at h
  obtain ⟨h1, h2⟩ := h
  have h0 : ¬ v < 0 := fun q => h1 (Int32.lt_of_lt_of_le q (nI_pos' ha))
  obtain ⟨j, hj, rfl⟩ := nI_of h0
  rw [nI_ltI hj ha] at h1
  rw [nI_ltI hb hj] at h2
  exact ⟨j, by omega, by omega, rfl⟩
theorem inB_nI {a b j : Nat} (h1 : a ≤ j) (h2 : j ≤ b) (hb : b < 2 ^ 31) : inB (nI j) (nI a) (nI b) = true := by
  unfold inB
  simp only [Bool.and_eq_true, Bool.not_eq_true', decide_eq_false_iff_not]
  exact ⟨nI_nlt h1 (by omega), nI_nlt h2 hb⟩
theorem isPl_of {sv : SV} {p : Int32} {np : Nat} (h : isPlB sv p = true) (hN : sv 6 = nI np) (hnp : np ≤ 5) : ∃ j : Nat, j < np ∧ p = nI j := by
  unfold isPlB at h
  rw [hN] at h
  rcases Nat.eq_zero_or_pos np with rfl | hp
  · exfalso
    unfold inB at h
    simp only [Bool.and_eq_true, Bool.not_eq_true', decide_eq_false_iff_not] at h
    obtain ⟨j, hj, rfl⟩ := nI_of (show ¬ p < 0 from h.1)
    refine h.2 (Int32.lt_of_lt_of_le (b := 0) (by decide +kernel) (nI_pos' hj))
  · rw [pk_sub hp] at h
    obtain ⟨j, h1, h2, rfl⟩ := inB_of h (by decide) (by omega)
    exact ⟨j, by omega, rfl⟩
theorem isPl_nI {sv : SV} {j np : Nat} (hj : j < np) (hN : sv 6 = nI np) (hnp : np ≤ 5) : isPlB sv (nI j) = true := by
  unfold isPlB
  rw [hN, pk_sub (by omega)]
  exact inB_nI (by omega) (by omega) (by omega)
theorem nI_L : (nI 0 = 0 ∧ nI 1 = 1 ∧ nI 2 = 2 ∧ nI 3 = 3 ∧ nI 4 = 4 ∧ nI 5 = 5 ∧ nI 6 = 6 ∧ nI 7 = 7 ∧ nI 8 = 8 ∧ nI 9 = 9 ∧ nI 10 = 10 ∧ nI 20 = 20) := by decide +kernel
