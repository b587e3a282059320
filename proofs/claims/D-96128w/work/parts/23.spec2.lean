/-! ===== the pure law: an inn's steps, pushes, odds ===== -/
set_option maxRecDepth 100000
/-- a fact's step (a number): which, how, against what -/
def factB (env : Nat → Int32) (m : Nat) : Bool := if m / 8 % 4 = 0 then decide (env (m % 8) < nI (m / 32)) else if m / 8 % 4 = 1 then decide (env (m % 8) = nI (m / 32)) else decide (nI (m / 32) < env (m % 8))
/-- one step: the truths (last first), the sum -/
def stepF (env : Nat → Int32) (st : List Bool × Int32) (s : Int32) : List Bool × Int32 :=
  if 0 ≤ s then (factB env s.toNatClampNeg :: st.1, st.2) else
  if s = -1 then ((match st.1 with | b :: r => (!b) :: r | [] => []), st.2) else
  if (-10 : Int32) < s then ((match st.1 with | b2 :: b1 :: r => (if s = -2 then b1 && b2 else b1 || b2) :: r | l => l), st.2) else
  ([], st.2 + (if st.1.headD false = false then nI 0 else if (-200 : Int32) < s then (-10) - s else s - (-200)))
def runF (env : Nat → Int32) (l : List Int32) (st : List Bool × Int32) : List Bool × Int32 := l.foldl (stepF env) st
/-- the steps fit: never more than 64 truths, none wanting -/
def depOK : List Int32 → Nat → Prop
  | [], _ => True
  | s :: r, dp => (∃ m : Nat, s = nI m ∧ m < 2 ^ 30 ∧ m % 8 < 5 ∧ dp < 64 ∧ depOK r (dp + 1)) ∨ (s = -1 ∧ 1 ≤ dp ∧ depOK r dp) ∨ ((s = -2 ∨ s = -3) ∧ 2 ≤ dp ∧ depOK r (dp - 1)) ∨ (s ≤ (-10 : Int32) ∧ dp = 1 ∧ depOK r 0)
/-- the truths' array holds these -/
def stk (tr : Nat → Int32) : List Bool → Prop
  | [] => True
  | b :: r => tr r.length = zb b ∧ stk tr r
theorem stk_put {tr : Nat → Int32} {k : Nat} {v : Int32} : ∀ {l : List Bool}, l.length ≤ k → stk tr l → stk (zp tr k v) l
  | [], _, _ => trivial
  | b :: r, h, hs => by
    simp only [List.length_cons] at h
    exact ⟨by rw [zp_n (by omega)]; exact hs.1, stk_put (by omega) hs.2⟩
def stepsF (sv : SV) : List Int32 := if sv 11 = -1 then [] else (List.range (sv (184 + (sv 11).toNatClampNeg)).toNatClampNeg).map (fun j => sv (189 + 140 * (sv 11).toNatClampNeg + j))
def zrem (x y : Int32) : Int32 := x - x / y * y
def envF (sv : SV) (p q : Nat) : Nat → Int32 := fun j => match j with
  | 0 => nI p
  | 1 => sv (12 + p)
  | 2 => sv (1 + p)
  | 3 => sv (1 + q)
  | _ => zrem (sv 0) (nI 10)
def liftF (sv : SV) (p q : Nat) : Int32 := (runF (envF sv p q) (stepsF sv) ([], nI 0)).2
theorem stepF_A {env : Nat → Int32} {st : List Bool × Int32} {m : Nat} (h : m < 2 ^ 31) : stepF env st (nI m) = (factB env m :: st.1, st.2) := by
  unfold stepF
  rw [if_pos (nI_pos' h), cl_nI h]
theorem stepF_N {env : Nat → Int32} {b : Bool} {r : List Bool} {x : Int32} : stepF env (b :: r, x) (-1) = ((!b) :: r, x) := by
  unfold stepF
  rw [if_neg (by decide +kernel), if_pos rfl]
theorem stepF_B {env : Nat → Int32} {b1 b2 : Bool} {r : List Bool} {x s : Int32} (h : s = -2 ∨ s = -3) : stepF env (b2 :: b1 :: r, x) s = ((if s = -2 then b1 && b2 else b1 || b2) :: r, x) := by
  unfold stepF
  rcases h with rfl | rfl
  · rw [if_neg (by decide +kernel), if_neg (by decide +kernel), if_pos (by decide +kernel)]
  · rw [if_neg (by decide +kernel), if_neg (by decide +kernel), if_pos (by decide +kernel)]
theorem stepF_L {env : Nat → Int32} {b : Bool} {x s : Int32} (h : s ≤ (-10 : Int32)) : stepF env ([b], x) s = ([], x + (if b = false then nI 0 else if (-200 : Int32) < s then (-10) - s else s - (-200))) := by
  unfold stepF
  have h0 : ¬ 0 ≤ s := fun q => by
    have := Int32.le_trans q h
    revert this; decide +kernel
  have h1 : ¬ s = -1 := fun q => by
    rw [q] at h
    revert h; decide +kernel
  rw [if_neg h0, if_neg h1, if_neg (fun q => Int32.lt_irrefl (Int32.lt_of_lt_of_le q h))]
  rfl
def pushF (sv : SV) (p q : Nat) : Int32 :=
  let k := sv (12 + p); let v := sv (17 + p); let m := sv (1 + p)
  let a := liftF sv p q + v
  let a := a + (if (k = nI 1 ∨ k = nI 4) ∧ m < sv (1 + q) then nI 2 else nI 0)
  let a := a + (if k = nI 4 then nI 1 else nI 0)
  let a := a - (if (k = nI 2 ∨ (k = nI 5 ∧ sv 0 < v + nI 2)) ∧ m < nI 4 then nI 9 else nI 0)
  let a := a - (if (k = nI 3 ∨ k = nI 6) ∧ sv 0 < nI 3 then nI 1 else nI 0)
  a + (if k = nI 6 then sv (22 + 4 * p + (zrem (sv 0) (nI 4)).toNatClampNeg) - nI 4 else nI 0)
def oddsRaw (sv : SV) (p q : Nat) : Int32 := nI 5 + pushF sv p q - pushF sv q p + (sv (1 + p) - sv (1 + q)) / nI 2
def clampO (x : Int32) : Int32 := if x < nI 1 then nI 1 else if nI 9 < x then nI 9 else x
def oddsF (sv : SV) (p q : Nat) : Int32 := clampO (oddsRaw sv p q)
def pushPF (sv : SV) (a b : Int32) : Int32 := if isPlB sv a = false then -10001 else if isPlB sv b = false then -10001 else if a = b then -10002 else pushF sv a.toNatClampNeg b.toNatClampNeg
def oddsPF (sv : SV) (a b : Int32) : Int32 := if isPlB sv a = false then -1 else if isPlB sv b = false then -1 else if a = b then -2 else oddsF sv a.toNatClampNeg b.toNatClampNeg
/-- what the odds need of the row -/
def oddOK (sv : SV) : Prop := holdOK (sv 11) ∧ (∀ h : Nat, h < 5 → sv 11 = nI h → ∃ m : Nat, m ≤ 140 ∧ sv (184 + h) = nI m) ∧ depOK (stepsF sv) 0 ∧ (∀ p : Nat, p < 5 → ∃ k : Nat, k ≤ 6 ∧ sv (12 + p) = nI k) ∧ ∃ gm : Nat, gm < 2 ^ 30 ∧ sv 0 = nI gm
theorem zrem_nI {a b : Nat} (ha : a < 2 ^ 31) (h0 : 0 < b) (hb : b < 2 ^ 31) : zrem (nI a) (nI b) = nI (a % b) := pk_rem ha h0 hb
theorem zscr2 {α : Type} {f : Nat → α} {a b : Nat} {x y z w : α} (h : a ≠ b) : zp (zp (zp (zp f a x) b y) a z) b w = zp (zp f a z) b w := by
  rw [zp_comm (f := zp f a x) (a := b) (b := a) (fun e => h e.symm), zp_zp, zp_zp]
