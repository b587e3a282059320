/-! ===== the pure law: games that are tried and taken back ===== -/
set_option maxRecDepth 100000
/-- memories that agree off S -/
def zag {α : Type} (S : Nat → Prop) (I I' : Nat → α) : Prop := ∀ b : Nat, ¬ S b → I' b = I b
theorem zag.rf {α : Type} {S : Nat → Prop} {I : Nat → α} : zag S I I := fun _ _ => rfl
theorem zag.trans {α : Type} {S : Nat → Prop} {I J K : Nat → α} (h1 : zag S I J) (h2 : zag S J K) : zag S I K := fun b hb => (h2 b hb).trans (h1 b hb)
theorem zag.mono {α : Type} {S S' : Nat → Prop} {I J : Nat → α} (h : zag S I J) (hs : ∀ b, S b → S' b) : zag S' I J := fun b hb => h b (fun q => hb (hs b q))
theorem zag.put {α : Type} {S : Nat → Prop} {I J : Nat → α} {a : Nat} {r : α} (h : zag S I J) (ha : S a) : zag S I (zp J a r) := fun b hb => by
  rw [zp_n (fun e => hb (by rw [e]; exact ha))]
  exact h b hb
/-- scratch rows of the twin; and its row s; and its fields -/
def T2 (t : Nat) : Nat → Prop := fun b => b = t + 4 ∨ b = t + 5
def T3 (t : Nat) : Nat → Prop := fun b => b = t + 1 ∨ b = t + 4 ∨ b = t + 5
def T4 (t : Nat) : Nat → Prop := fun b => b = t ∨ b = t + 1 ∨ b = t + 4 ∨ b = t + 5
theorem zag.up3 {t : Nat} {I J : ZI} (h : zag (T2 t) I J) : zag (T3 t) I J := h.mono (fun _ q => Or.inr q)
theorem zag.dn2 {t : Nat} {I J : ZI} (h : zag (T3 t) I J) (e : J (t + 1) = I (t + 1)) : zag (T2 t) I J := fun b hb => by
  by_cases hb1 : b = t + 1
  · rw [hb1]; exact e
  · exact h b (fun q => by
      rcases q with q | q
      · exact hb1 q
      · exact hb q)
theorem zag.row {t : Nat} {I J : ZI} (h : zag (T2 t) I J) : J (t + 1) = I (t + 1) := h (t + 1) (fun q => by unfold T2 at q; omega)
theorem zag.fld {t : Nat} {I J : ZI} (h : zag (T2 t) I J) : J t = I t := h t (fun q => by unfold T2 at q; omega)
/-- an answer, the scratch rows open -/
def zsc (t : Nat) (v : Option Value) (n : Nat) (T : ZT) (I : ZI) (L : ZL) (R : ZR) : ZP := zex (fun I' : ZI => zag (T2 t) I I') (fun I' => zis v n T I' L R)
theorem zsc.of {t : Nat} {v : Option Value} {n : Nat} {T : ZT} {I : ZI} {L : ZL} {R : ZR} : ∀ v' n' T' I' L' R', zscr v n T I (t + 4) (t + 5) L R v' n' T' I' L' R' → zsc t v n T I L R v' n' T' I' L' R' := by
  rintro v' n' T' I' L' R' ⟨w, -, h⟩
  exact ⟨_, (zag.rf.put (Or.inl rfl)).put (Or.inr rfl), h⟩
def pow10 : Nat → Int64
  | 0 => 1
  | k + 1 => pow10 k * 10
def gcdL : Nat → Int64 → Int64 → Int64
  | 0, x, _ => x
  | f + 1, x, y => if y = 0 then x else gcdL f y (x - x / y * y)
def absL (x : Int64) : Int64 := if x < 0 then -x else x
def lowF (up low : Int64) (part : Int32) : Int64 := (if part = 0 then up else low) / gcdL (low.toInt.natAbs + 1) (absL up) low
theorem rem_less (x y : Int64) (hy : ¬ y = 0) : (x - x / y * y).toInt.natAbs < y.toInt.natAbs := by
  rw [Jvm.Kit.i64_rem, Int.natAbs_tmod]
  refine Nat.mod_lt _ ?_
  refine Int.natAbs_pos.mpr (fun q => hy ?_)
  exact Int64.toInt_inj.mp (by rw [q]; rfl)
theorem gcdL_0 {f : Nat} {x : Int64} : gcdL f x 0 = x := by
  cases f with
  | zero => rfl
  | succ f => exact if_pos rfl
theorem gcdL_s {f : Nat} {x y : Int64} (h : ¬ y = 0) : gcdL (f + 1) x y = gcdL f y (x - x / y * y) := if_neg h
/-- the game's number leaves room for f more -/
def gok (f : Nat) (sv : SV) : Prop := ∃ gm : Nat, gm + f < 2 ^ 30 ∧ sv 0 = nI gm
def ag6 (a b : SV) : Prop := ∀ j : Nat, 6 ≤ j → a j = b j
theorem tells_ag {a b : SV} (h : ag6 a b) {w : Nat} (hw : 6 ≤ w) : tellsF a w = tellsF b w := by
  unfold tellsF
  rw [h 11 (by decide)]
  split
  · rfl
  · exact h _ (by omega)
theorem steps_ag {a b : SV} (h : ag6 a b) : stepsF a = stepsF b := by
  unfold stepsF
  rw [h 11 (by decide)]
  split
  · rfl
  · rw [h _ (by omega)]
    refine List.map_congr_left fun j _ => h _ (by omega)
theorem fewer_ag {a b : SV} (h : ag6 a b) (x : Int32) : fewerF a x = fewerF b x := by
  unfold fewerF
  rw [tells_ag h (by decide)]
theorem more_ag {a b : SV} (h : ag6 a b) (x : Int32) : moreF a x = moreF b x := by
  unfold moreF
  rw [tells_ag h (by decide)]
theorem oddOK_ag {a b : SV} (h : ag6 a b) (hb : oddOK b) (hg : gok 0 a) : oddOK a := by
  obtain ⟨h1, h2, h3, h4, -⟩ := hb
  refine ⟨by rw [h 11 (by decide)]; exact h1, fun k hk e => ?_, by rw [steps_ag h]; exact h3, fun p hp => ?_, hg⟩
  · rw [h 11 (by decide)] at e
    rw [h _ (by omega)]
    exact h2 k hk e
  · rw [h _ (by omega)]
    exact h4 p hp
theorem ag6_put {a b : SV} {k : Nat} {v : Int32} (h : ag6 a b) (hk : k < 6) : ag6 (zp a k v) b := fun j hj => by
  rw [zp_n (by omega)]
  exact h j hj
theorem ag6_rf {a : SV} : ag6 a a := fun _ _ => rfl
theorem plays_ag {sv : SV} {w l : Nat} (hw : w < 5) (hl : l < 5) : ag6 (playsF sv w l) sv := by
  unfold playsF pl3F pl2F pl1F
  exact ag6_put (ag6_put (ag6_put ag6_rf (by omega)) (by omega)) (by omega)
/-- all places behind a game -/
theorem plays_at {sv : SV} {w l : Nat} (hw : w < 5) (hl : l < 5) (hwl : w ≠ l) (j : Nat) : playsF sv w l j = if j = 0 then sv 0 + nI 1 else if j = 1 + l then moreF sv (sv (1 + l)) else if j = 1 + w then fewerF sv (sv (1 + w)) else sv j := by
  unfold playsF pl3F
  by_cases h0 : j = 0
  · rw [if_pos h0, h0, zp_s]
    unfold pl2F pl1F
    rw [zp_n (by omega), zp_n (by omega)]
  · rw [if_neg h0, zp_n h0]
    unfold pl2F
    by_cases h1 : j = 1 + l
    · rw [if_pos h1, h1, zp_s]
      have e : pl1F sv w (1 + l) = sv (1 + l) := zp_n (by omega)
      rw [e]
      exact more_ag (ag6_put ag6_rf (by omega)) _
    · rw [if_neg h1, zp_n h1]
      unfold pl1F
      by_cases h2 : j = 1 + w
      · rw [if_pos h2, h2, zp_s]
      · rw [if_neg h2, zp_n h2]
theorem plays_gok {f : Nat} {sv : SV} {w l : Nat} (hw : w < 5) (hl : l < 5) (hwl : w ≠ l) (h : gok (f + 1) sv) : gok f (playsF sv w l) := by
  obtain ⟨gm, h1, h2⟩ := h
  refine ⟨gm + 1, by omega, ?_⟩
  rw [plays_at hw hl hwl, if_pos rfl, h2]
  exact nI_1 gm
theorem gok_le {f f' : Nat} {sv : SV} (h : gok f sv) (hf : f' ≤ f) : gok f' sv := by
  obtain ⟨gm, h1, h2⟩ := h
  exact ⟨gm, by omega, h2⟩
theorem plays_odd {sv : SV} {w l : Nat} (hw : w < 5) (hl : l < 5) (hwl : w ≠ l) (h : oddOK sv) (hg : gok 1 sv) : oddOK (playsF sv w l) := oddOK_ag (plays_ag hw hl) h (plays_gok hw hl hwl hg)
/-- the other one wins instead -/
theorem plays_swap {sv : SV} {p q : Nat} (hp : p < 5) (hq : q < 5) (hpq : p ≠ q) : zp (zp (playsF sv p q) (1 + p) (moreF (playsF sv p q) (sv (1 + p)))) (1 + q) (fewerF (zp (playsF sv p q) (1 + p) (moreF (playsF sv p q) (sv (1 + p)))) (sv (1 + q))) = playsF sv q p := by
  have a1 := plays_ag (sv := sv) hp hq
  rw [fewer_ag (ag6_put a1 (by omega)), more_ag a1]
  funext j
  rw [plays_at hq hp (Ne.symm hpq)]
  by_cases h0 : j = 0
  · rw [if_pos h0, zp_n (by omega), zp_n (by omega), plays_at hp hq hpq, if_pos h0]
  · rw [if_neg h0]
    by_cases h1 : j = 1 + q
    · rw [h1, zp_s, if_neg (by omega), if_pos rfl]
    · rw [zp_n h1]
      by_cases h2 : j = 1 + p
      · rw [h2, zp_s, if_pos rfl]
      · rw [zp_n h2, if_neg h2, if_neg h1, plays_at hp hq hpq, if_neg h0, if_neg h1, if_neg h2]
/-- all is taken back -/
theorem plays_back {sv : SV} {p q : Nat} (hp : p < 5) (hq : q < 5) (hpq : p ≠ q) : zp (zp (zp (playsF sv q p) (1 + p) (sv (1 + p))) (1 + q) (sv (1 + q))) 0 (zp (zp (playsF sv q p) (1 + p) (sv (1 + p))) (1 + q) (sv (1 + q)) 0 - nI 1) = sv := by
  funext j
  by_cases h0 : j = 0
  · rw [h0, zp_s, zp_n (by omega), zp_n (by omega), plays_at hq hp (Ne.symm hpq), if_pos rfl]
    exact Int32.add_sub_cancel _ _
  · rw [zp_n h0]
    by_cases h1 : j = 1 + q
    · rw [h1, zp_s]
    · rw [zp_n h1]
      by_cases h2 : j = 1 + p
      · rw [h2, zp_s]
      · rw [zp_n h2, plays_at hq hp (Ne.symm hpq), if_neg h0, if_neg h2, if_neg h1]
/-- in how many ways the one is first: a more to win, b more to lose, f = a + b -/
def firstF (p q : Nat) : Nat → Nat → Nat → SV → Int64
  | 0, _, _, _ => 0
  | f + 1, a, b, sv => if a = 0 then pow10 f else if b = 0 then 0 else (oddsF sv p q).toInt64 * firstF p q f (a - 1) b (playsF sv p q) + (nI 10 - oddsF sv p q).toInt64 * firstF p q f a (b - 1) (playsF sv q p)
/-- at best the last of f + 1 games; whether this one is lost on purpose -/
def bestF (p q : Nat) : Nat → SV → Int64 × Bool
  | 0, sv => ((oddsF sv p q).toInt64, false)
  | f + 1, sv =>
    let o := oddsF sv p q
    let w := (bestF p q f (playsF sv p q)).1
    let l := (bestF p q f (playsF sv q p)).1
    let fair := o.toInt64 * w + (nI 10 - o).toInt64 * l
    (if fair < 10 * l then 10 * l else fair, decide (fair < 10 * l))
abbrev NOL : Int64 := -9223372036854775808
def seriesF (sv : SV) (a b k part : Int32) : Int64 := if twoB sv a b = false then NOL else if inB k (nI 1) (nI 5) = false then NOL else if inB part (nI 0) (nI 1) = false then NOL else lowF (firstF a.toNatClampNeg b.toNatClampNeg (2 * k.toNatClampNeg) k.toNatClampNeg k.toNatClampNeg sv) (pow10 (2 * k.toNatClampNeg - 1)) part
def purposeF (sv : SV) (a b k part : Int32) : Int64 := if twoB sv a b = false then NOL else if inB k (nI 1) (nI 8) = false then NOL else if inB part (nI 0) (nI 1) = false then NOL else lowF (bestF a.toNatClampNeg b.toNatClampNeg (k.toNatClampNeg - 1) sv).1 (pow10 k.toNatClampNeg) part
def losesF (sv : SV) (a b k : Int32) : Int32 := if isPlB sv a = false then -1 else if isPlB sv b = false then -1 else if a = b then -2 else if inB k (nI 1) (nI 8) = false then -2 else zb (bestF a.toNatClampNeg b.toNatClampNeg (k.toNatClampNeg - 1) sv).2
theorem firstF_s (p q f a b : Nat) (sv : SV) (ha : ¬ a = 0) (hb : ¬ b = 0) : firstF p q (f + 1) a b sv = (oddsF sv p q).toInt64 * firstF p q f (a - 1) b (playsF sv p q) + (nI 10 - oddsF sv p q).toInt64 * firstF p q f a (b - 1) (playsF sv q p) := by
  rw [show firstF p q (f + 1) a b sv = (if a = 0 then pow10 f else if b = 0 then 0 else (oddsF sv p q).toInt64 * firstF p q f (a - 1) b (playsF sv p q) + (nI 10 - oddsF sv p q).toInt64 * firstF p q f a (b - 1) (playsF sv q p)) from rfl, if_neg ha, if_neg hb]
theorem firstF_a (p q f b : Nat) (sv : SV) : firstF p q (f + 1) 0 b sv = pow10 f := if_pos rfl
theorem firstF_b (p q f a : Nat) (sv : SV) (ha : ¬ a = 0) : firstF p q (f + 1) a 0 sv = 0 := by
  rw [show firstF p q (f + 1) a 0 sv = (if a = 0 then pow10 f else if (0 : Nat) = 0 then 0 else (oddsF sv p q).toInt64 * firstF p q f (a - 1) 0 (playsF sv p q) + (nI 10 - oddsF sv p q).toInt64 * firstF p q f a (0 - 1) (playsF sv q p)) from rfl, if_neg ha, if_pos rfl]
theorem bestF_s (p q f : Nat) (sv : SV) : bestF p q (f + 1) sv = (if (oddsF sv p q).toInt64 * (bestF p q f (playsF sv p q)).1 + (nI 10 - oddsF sv p q).toInt64 * (bestF p q f (playsF sv q p)).1 < 10 * (bestF p q f (playsF sv q p)).1 then 10 * (bestF p q f (playsF sv q p)).1 else (oddsF sv p q).toInt64 * (bestF p q f (playsF sv p q)).1 + (nI 10 - oddsF sv p q).toInt64 * (bestF p q f (playsF sv q p)).1, decide ((oddsF sv p q).toInt64 * (bestF p q f (playsF sv p q)).1 + (nI 10 - oddsF sv p q).toInt64 * (bestF p q f (playsF sv q p)).1 < 10 * (bestF p q f (playsF sv q p)).1)) := rfl
theorem pow10_lN : ∀ k : Nat, pow10 k = lN (10 ^ k)
  | 0 => rfl
  | k + 1 => by
    show pow10 k * 10 = _
    rw [pow10_lN k, Nat.pow_succ, ← lN_mul]
    rfl
theorem pow10_ne {k : Nat} (h : k < 18) : ¬ pow10 k = 0 := by
  rw [pow10_lN]
  have h1 : 10 ^ k ≤ 10 ^ 17 := Nat.pow_le_pow_right (by decide) (by omega)
  have h2 : 0 < 10 ^ k := Nat.pow_pos (by decide)
  rw [show (0 : Int64) = lN 0 from rfl, pk_lEQ (by omega) (by decide)]
  omega
theorem two_of {sv : SV} {p q : Int32} {np : Nat} (h : twoB sv p q = true) (hN : sv 6 = nI np) (hnp : np ≤ 5) : ∃ a b : Nat, a < np ∧ b < np ∧ a ≠ b ∧ p = nI a ∧ q = nI b := by
  unfold twoB at h
  simp only [Bool.and_eq_true, Bool.not_eq_true', decide_eq_false_iff_not] at h
  obtain ⟨⟨h1, h2⟩, h3⟩ := h
  obtain ⟨a, ha, rfl⟩ := isPl_of h1 hN hnp
  obtain ⟨b, hb, rfl⟩ := isPl_of h2 hN hnp
  exact ⟨a, b, ha, hb, fun e => h3 (by rw [e]), rfl, rfl⟩
def evenS (sv : SV) (p q : Nat) (st : Int32 × Int32) (m : Nat) : Int32 × Int32 :=
  let o := oddsF (zp sv (1 + p) (nI m)) p q - nI 5
  let off := if o < 0 then -o else o
  (if off < st.2 then nI m else st.1, if off < st.2 then off else st.2)
def evenN (sv : SV) (p q : Nat) : Nat → Int32 × Int32
  | 0 => (nI 0, nI 99)
  | m + 1 => evenS sv p q (evenN sv p q m) (m + 1)
def evenF (sv : SV) (a b : Int32) : Int32 := if isPlB sv a = false then -1 else if isPlB sv b = false then -1 else if a = b then -2 else (evenN sv a.toNatClampNeg b.toNatClampNeg 20).1
