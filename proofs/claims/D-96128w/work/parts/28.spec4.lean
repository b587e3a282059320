/-! ===== the pure law: orders, tables ===== -/
set_option maxRecDepth 100000
/-- the one alone: a game won, a game lost -/
def winF (sv : SV) (p : Nat) : SV := zp (zp sv 0 (sv 0 + nI 1)) (1 + p) (fewerF sv (sv (1 + p)))
def losF (sv : SV) (p : Nat) : SV := zp (zp sv 0 (sv 0 + nI 1)) (1 + p) (moreF sv (sv (1 + p)))
def wonF (p : Nat) : List Nat → SV → Int64
  | [], _ => 0
  | q :: r, sv => (oddsF sv p q).toInt64 * (pow10 r.length + wonF p r (winF sv p)) + (nI 10 - oddsF sv p q).toInt64 * wonF p r (losF sv p)
theorem win_ag {sv : SV} {p : Nat} (hp : p < 5) : ag6 (winF sv p) sv := ag6_put (ag6_put ag6_rf (by omega)) (by omega)
theorem los_ag {sv : SV} {p : Nat} (hp : p < 5) : ag6 (losF sv p) sv := ag6_put (ag6_put ag6_rf (by omega)) (by omega)
theorem win_gok {f : Nat} {sv : SV} {p : Nat} (h : gok (f + 1) sv) : gok f (winF sv p) := by
  obtain ⟨gm, h1, h2⟩ := h
  refine ⟨gm + 1, by omega, ?_⟩
  unfold winF
  rw [zp_n (by omega), zp_s, h2]
  exact nI_1 gm
theorem los_gok {f : Nat} {sv : SV} {p : Nat} (h : gok (f + 1) sv) : gok f (losF sv p) := by
  obtain ⟨gm, h1, h2⟩ := h
  refine ⟨gm + 1, by omega, ?_⟩
  unfold losF
  rw [zp_n (by omega), zp_s, h2]
  exact nI_1 gm
theorem win_mk {sv : SV} {p : Nat} : zp (zp sv 0 (sv 0 + nI 1)) (1 + p) (fewerF (zp sv 0 (sv 0 + nI 1)) (sv (1 + p))) = winF sv p := by
  unfold winF
  rw [fewer_ag (ag6_put (a := sv) (b := sv) ag6_rf (by omega))]
theorem los_mk {sv : SV} {p : Nat} (hp : p < 5) : zp (winF sv p) (1 + p) (moreF (winF sv p) (sv (1 + p))) = losF sv p := by
  rw [more_ag (win_ag hp)]
  unfold winF losF
  rw [zp_zp]
theorem los_back {sv : SV} {p : Nat} : zp (zp (losF sv p) (1 + p) (sv (1 + p))) 0 (zp (losF sv p) (1 + p) (sv (1 + p)) 0 - nI 1) = sv := by
  unfold losF
  funext j
  by_cases h0 : j = 0
  · rw [h0, zp_s, zp_n (by omega), zp_n (by omega), zp_s]
    exact Int32.add_sub_cancel _ _
  · rw [zp_n h0]
    by_cases h1 : j = 1 + p
    · rw [h1, zp_s]
    · rw [zp_n h1, zp_n h1, zp_n h0]
/-- sets as numbers below 32 -/
def pcN (m : Nat) : Nat := m % 2 + m / 2 % 2 + m / 4 % 2 + m / 8 % 2 + m / 16 % 2
theorem bit_shr : ∀ m : Nat, m < 32 → ∀ q : Nat, q < 5 → (nI m >>> (nI q &&& 31)) &&& nI 1 = nI (m / 2 ^ q % 2) := by decide +kernel
theorem bit_off : ∀ m : Nat, m < 32 → ∀ q : Nat, q < 5 → m / 2 ^ q % 2 = 1 → nI m &&& ((nI 1 <<< (nI q &&& 31)) ^^^ (-1)) = nI (m - 2 ^ q) ∧ pcN (m - 2 ^ q) + 1 = pcN m ∧ m - 2 ^ q < m := by decide +kernel
theorem pcN_0 : ∀ m : Nat, m < 32 → ¬ m = 0 → 1 ≤ pcN m := by decide +kernel
abbrev OS : Type := SV × Int64 × SV
def ordsOf (o : SV) (k : Nat) : List Nat := (List.range k).map (fun j => (o j).toNatClampNeg)
def ordEnd (sv : SV) (p k : Nat) (s : OS) : OS := if s.2.1 < wonF p (ordsOf s.1 k) sv then (s.1, wonF p (ordsOf s.1 k) sv, fun j => if j < 4 then (if j < k then s.1 j else -5) else s.2.2 j) else s
def ordStep (rec : Nat → Nat → OS → OS) (left k : Nat) : Nat → OS → OS
  | 0, s => s
  | q + 1, s => if left / 2 ^ q % 2 = 1 then rec (left - 2 ^ q) (k + 1) (zp (ordStep rec left k q s).1 k (nI q), (ordStep rec left k q s).2) else ordStep rec left k q s
def ordF (sv : SV) (p np : Nat) : Nat → Nat → Nat → OS → OS
  | 0, _, _, s => s
  | f + 1, left, k, s => if left = 0 then ordEnd sv p k s else ordStep (ordF sv p np f) left k np s
def ordOK (k : Nat) (o : SV) : Prop := ∀ j : Nat, j < k → ∃ q : Nat, q < 5 ∧ o j = nI q
theorem ordF_keep (sv : SV) (p np : Nat) : ∀ (f left k : Nat) (s : OS) (j : Nat), j < k → (ordF sv p np f left k s).1 j = s.1 j
  | 0, _, _, _, _, _ => rfl
  | f + 1, left, k, s, j, hj => by
    unfold ordF
    by_cases h : left = 0
    · rw [if_pos h]
      unfold ordEnd
      split <;> rfl
    · rw [if_neg h]
      have key : ∀ q : Nat, (ordStep (ordF sv p np f) left k q s).1 j = s.1 j := by
        intro q
        induction q with
        | zero => rfl
        | succ q ih =>
          unfold ordStep
          split
          · rw [ordF_keep sv p np f _ _ _ j (by omega)]
            show zp _ k _ j = _
            rw [zp_n (by omega)]
            exact ih
          · exact ih
      exact key np
theorem ordStep_keep (sv : SV) (p np f left k : Nat) (s : OS) (q j : Nat) (hj : j < k) : (ordStep (ordF sv p np f) left k q s).1 j = s.1 j := by
  induction q with
  | zero => rfl
  | succ q ih =>
    unfold ordStep
    split
    · rw [ordF_keep sv p np f _ _ _ j (by omega)]
      show zp _ k _ j = _
      rw [zp_n (by omega)]
      exact ih
    · exact ih
theorem ordOK_keep {k : Nat} {o o' : SV} (h : ordOK k o) (e : ∀ j : Nat, j < k → o' j = o j) : ordOK k o' := fun j hj => by
  obtain ⟨q, h1, h2⟩ := h j hj
  exact ⟨q, h1, (e j hj).trans h2⟩
def isSetB (sv : SV) (p set : Int32) : Bool := !decide (set < 0) && decide (set >>> (sv 6 &&& 31) = 0) && decide ((set >>> (p &&& 31)) &&& nI 1 = 0)
theorem isSet_dec : ∀ np : Nat, np ≤ 5 → (nI np &&& 31).toBitVec.smod 32 = BitVec.ofNat 32 np := by decide +kernel
theorem isSet_of {sv : SV} {p set : Int32} {np : Nat} (h : isSetB sv p set = true) (hN : sv 6 = nI np) (hnp : np ≤ 5) : ∃ m : Nat, m < 2 ^ np ∧ set = nI m := by
  unfold isSetB at h
  simp only [Bool.and_eq_true, Bool.not_eq_true', decide_eq_false_iff_not, decide_eq_true_eq] at h
  obtain ⟨⟨h1, h2⟩, -⟩ := h
  obtain ⟨j, hj, rfl⟩ := nI_of h1
  refine ⟨j, ?_, rfl⟩
  rw [hN, pk_shrN hj _ np (by rw [isSet_dec np hnp, BitVec.toNat_ofNat]; exact Nat.mod_eq_of_lt (by omega))] at h2
  have h3 : j / 2 ^ np = 0 := (nI_eq (b := 0) (Nat.lt_of_le_of_lt (Nat.div_le_self _ _) hj) (by decide)).mp h2
  rcases (Nat.div_eq_zero_iff).mp h3 with h4 | h4
  · exact absurd h4 (Nat.ne_of_gt (Nat.pow_pos (n := np) (show 0 < 2 by decide)))
  · exact h4
theorem pcN_sum (m : Nat) : m / 2 ^ 0 % 2 + m / 2 ^ 1 % 2 + m / 2 ^ 2 % 2 + m / 2 ^ 3 % 2 + m / 2 ^ 4 % 2 = pcN m := by
  unfold pcN
  simp
def looksF (sv : SV) (p m : Nat) (o bo : SV) : OS := ordF sv p (sv 6).toNatClampNeg (m + 1) m 0 (o, -1, bo)
def orderF (sv : SV) (o bo : SV) (a set k : Int32) : Int32 := if isPlB sv a = false then -1 else if inB k (nI 0) (nI 3) = false then -1 else if isSetB sv a set = false then -2 else (looksF sv a.toNatClampNeg set.toNatClampNeg o bo).2.2 k.toNatClampNeg
def orderMeanF (sv : SV) (o bo : SV) (a set part : Int32) : Int64 := if isPlB sv a = false then NOL else if isSetB sv a set = false then NOL else if inB part (nI 0) (nI 1) = false then NOL else lowF (looksF sv a.toNatClampNeg set.toNatClampNeg o bo).2.1 (pow10 (pcN set.toNatClampNeg)) part
