/-! ===== the pure law: games of two, all ways at once ===== -/
set_option maxRecDepth 100000
abbrev LV : Type := Nat → Int64
def tellOK (sv : SV) (ls mo : Nat) : Prop := tellsF sv 174 = nI ls ∧ tellsF sv 179 = nI mo ∧ ls < 100 ∧ mo < 100
def fewN (ls m : Nat) : Nat := if m < ls + 1 then 1 else m - ls
def moreN (mo m : Nat) : Nat := if 20 < m + mo then 20 else m + mo
theorem tellOK_ag {a b : SV} {ls mo : Nat} (h : ag6 a b) (hb : tellOK b ls mo) : tellOK a ls mo := ⟨(tells_ag h (by decide)).trans hb.1, (tells_ag h (by decide)).trans hb.2.1, hb.2.2⟩
theorem fewN_in {ls m : Nat} (h : m ≤ 20) : 1 ≤ fewN ls m ∧ fewN ls m ≤ 20 := by
  unfold fewN
  split
  · exact ⟨by omega, by omega⟩
  · exact ⟨by omega, by omega⟩
theorem moreN_in {mo m : Nat} : moreN mo m ≤ 20 ∧ (1 ≤ m → 1 ≤ moreN mo m) := by
  unfold moreN
  split
  · exact ⟨by omega, fun _ => by omega⟩
  · exact ⟨by omega, fun _ => by omega⟩
theorem fewF_N {sv : SV} {ls mo m : Nat} (h : tellOK sv ls mo) (hm : m ≤ 20) : fewerF sv (nI m) = nI (fewN ls m) := by
  unfold fewerF fewN
  rw [h.1]
  have hls := h.2.2.1
  by_cases q : m < ls + 1
  · rw [if_pos q, if_pos]
    have key : ∀ ls : Nat, ls < 100 → ∀ m : Nat, m < 21 → m < ls + 1 → nI m - nI ls < nI 1 := by decide +kernel
    exact key ls hls m (by omega) q
  · rw [if_neg q, pk_sub (by omega), if_neg (nI_nlt (by omega) (by omega))]
theorem moreF_N {sv : SV} {ls mo m : Nat} (h : tellOK sv ls mo) (hm : m ≤ 20) : moreF sv (nI m) = nI (moreN mo m) := by
  unfold moreF moreN
  rw [h.2.1]
  have hmo := h.2.2.2
  rw [pk_add]
  by_cases q : 20 < m + mo
  · rw [if_pos q, if_pos (nI_lt q (by omega))]
  · rw [if_neg q, if_neg (nI_nlt (by omega) (by omega))]
/-- the row at the way k -/
def rowK (sv : SV) (p q k : Nat) : SV := zp (zp sv (1 + p) (nI (k / 21 % 21))) (1 + q) (nI (k % 21))
def iWon (ls mo k : Nat) : Nat := 441 * (k / 441 + 1) + 21 * fewN ls (k / 21 % 21) + moreN mo (k % 21)
def iLost (ls mo k : Nat) : Nat := 441 * (k / 441) + 21 * moreN mo (k / 21 % 21) + fewN ls (k % 21)
/-- one way goes on -/
def stepG (sv : SV) (p q : Nat) (stop : Bool) (ls mo : Nat) (O : LV) (k : Nat) (st : LV × Int64) : LV × Int64 :=
  if O k ≤ 0 then st else
  if stop = true ∧ nI (k / 21 % 21) = nI 1 then (zp st.1 k (st.1 k + 10 * O k), st.2) else
  let o := oddsF (rowK sv p q k) p q
  let A := zp st.1 (iWon ls mo k) (st.1 (iWon ls mo k) + o.toInt64 * O k)
  (zp A (iLost ls mo k) (A (iLost ls mo k) + (nI 10 - o).toInt64 * O k), st.2 + O k * (o * nI (k % 21) - (nI 10 - o) * nI (k / 21 % 21)).toInt64)
def gst (sv : SV) (p q : Nat) (stop : Bool) (ls mo : Nat) (O : LV) (pd : Int64) : Nat → LV × Int64
  | 0 => (fun _ => 0, pd * 10)
  | k + 1 => stepG sv p q stop ls mo O k (gst sv p q stop ls mo O pd k)
/-- all ways after g games: how often of ten for each game; what was paid -/
def dpF (sv : SV) (p q : Nat) (stop : Bool) (ls mo mp mq : Nat) : Nat → LV × Int64
  | 0 => (zp (fun _ => 0) (21 * mp + mq) 1, 0)
  | g + 1 => gst (zp sv 0 (sv 0 + nI g)) p q stop ls mo (dpF sv p q stop ls mo mp mq g).1 (dpF sv p q stop ls mo mp mq g).2 5733
def wonLe (g : Nat) (O : LV) : Prop := ∀ k : Nat, k < 5733 → ¬ O k = 0 → k / 441 ≤ g
theorem not_le0 {x : Int64} (h : ¬ x ≤ 0) : ¬ x = 0 := fun e => h (by rw [e]; exact Int64.le_refl _)
theorem gst_wonLe {sv : SV} {p q : Nat} {stop : Bool} {ls mo g : Nat} {O : LV} {pd : Int64} (h : wonLe g O) : ∀ k : Nat, k ≤ 5733 → ∀ j : Nat, ¬ (gst sv p q stop ls mo O pd k).1 j = 0 → j / 441 ≤ g + 1
  | 0, _, j, hj => absurd rfl hj
  | k + 1, hk, j, hj => by
    have ih := gst_wonLe (sv := sv) (p := p) (q := q) (stop := stop) (ls := ls) (mo := mo) (pd := pd) h k (by omega)
    have hj2 : ¬ (stepG sv p q stop ls mo O k (gst sv p q stop ls mo O pd k)).1 j = 0 := hj
    unfold stepG at hj2
    by_cases h0 : O k ≤ 0
    · rw [if_pos h0] at hj2
      exact ih j hj2
    · rw [if_neg h0] at hj2
      have hkg := h k (by omega) (not_le0 h0)
      have f1 := fewN_in (ls := ls) (m := k / 21 % 21) (by omega)
      have f2 := fewN_in (ls := ls) (m := k % 21) (by omega)
      have m1 := moreN_in (mo := mo) (m := k / 21 % 21)
      have m2 := moreN_in (mo := mo) (m := k % 21)
      by_cases h1 : stop = true ∧ nI (k / 21 % 21) = nI 1
      · rw [if_pos h1] at hj2
        by_cases e : j = k
        · rw [e]; omega
        · rw [show (zp (gst sv p q stop ls mo O pd k).1 k ((gst sv p q stop ls mo O pd k).1 k + 10 * O k), (gst sv p q stop ls mo O pd k).2).1 j = (gst sv p q stop ls mo O pd k).1 j from zp_n e] at hj2
          exact ih j hj2
      · rw [if_neg h1] at hj2
        by_cases e : j = iLost ls mo k
        · rw [e]
          unfold iLost
          omega
        · by_cases e2 : j = iWon ls mo k
          · rw [e2]
            unfold iWon
            omega
          · refine ih j (fun z => hj2 ?_)
            show zp (zp _ _ _) _ _ j = 0
            rw [zp_n e, zp_n e2]
            exact z
theorem dp_wonLe {sv : SV} {p q : Nat} {stop : Bool} {ls mo mp mq : Nat} (h1 : mp ≤ 20) (h2 : mq ≤ 20) : ∀ g : Nat, wonLe g (dpF sv p q stop ls mo mp mq g).1
  | 0 => fun k _ hk => by
    by_cases e : k = 21 * mp + mq
    · omega
    · exact absurd (show zp (fun _ => (0 : Int64)) (21 * mp + mq) 1 k = 0 from zp_n e) hk
  | g + 1 => fun k _ hk => gst_wonLe (dp_wonLe h1 h2 g) 5733 (Nat.le_refl _) k hk
/-- sums over the ways -/
def sumF (f : Nat → Int64) : Nat → Nat → Int64
  | _, 0 => 0
  | a, n + 1 => sumF f a n + f (a + n)
def wMen (O : LV) (k : Nat) : Int64 := (nI (k / 21 % 21)).toInt64 * O k
def wEnd (O : LV) (k : Nat) : Int64 := if nI (k / 21 % 21) = nI 1 then O k else 0
