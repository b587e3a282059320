/-! ===== the pure law: the table, the books ===== -/
set_option maxRecDepth 100000
/-- who waits, as digits -/
def digs : List Nat → Nat
  | [] => 0
  | w :: r => w * 10 ^ r.length + digs r
theorem digs_lt : ∀ {l : List Nat}, (∀ w ∈ l, w < 10) → digs l < 10 ^ l.length
  | [], _ => by decide
  | w :: r, h => by
    have h1 := h w List.mem_cons_self
    have h2 := digs_lt (l := r) (fun x hx => h x (List.mem_cons_of_mem _ hx))
    show w * 10 ^ r.length + digs r < 10 ^ (r.length + 1)
    have h3 : w * 10 ^ r.length ≤ 9 * 10 ^ r.length := Nat.mul_le_mul_right _ (by omega)
    rw [Nat.pow_succ]
    omega
theorem digs_app {q : Nat} : ∀ {l : List Nat}, digs (l ++ [q]) = 10 * digs l + q
  | [] => by
    show q * 1 + 0 = 10 * 0 + q
    omega
  | w :: r => by
    show w * 10 ^ (r ++ [q]).length + digs (r ++ [q]) = 10 * (w * 10 ^ r.length + digs r) + q
    rw [digs_app (l := r), List.length_append]
    show w * 10 ^ (r.length + 1) + _ = _
    rw [Nat.pow_succ, Nat.mul_add, ← Nat.mul_assoc w, Nat.mul_comm (w * 10 ^ r.length) 10]
    omega
theorem digs_cons {w : Nat} {r : List Nat} (h : ∀ x ∈ r, x < 10) : digs (w :: r) / 10 ^ r.length = w ∧ digs (w :: r) % 10 ^ r.length = digs r := by
  have h1 := digs_lt h
  have h0 : 0 < 10 ^ r.length := Nat.pow_pos (by decide)
  show (w * 10 ^ r.length + digs r) / 10 ^ r.length = w ∧ (w * 10 ^ r.length + digs r) % 10 ^ r.length = digs r
  rw [Nat.mul_comm]
  exact ⟨by rw [Nat.mul_add_div h0, Nat.div_eq_of_lt h1, Nat.add_zero], by rw [Nat.mul_add_mod, Nat.mod_eq_of_lt h1]⟩
/-- in how many ways one wins the last of f + 1 games, two sitting, others waiting -/
def tabF (who : Nat) : Nat → Nat → Nat → List Nat → SV → Int64
  | 0, p, q, _, sv => if who = p then (oddsF sv p q).toInt64 else if who = q then (nI 10 - oddsF sv p q).toInt64 else 0
  | f + 1, p, q, ws, sv => (oddsF sv p q).toInt64 * tabF who f p ((ws ++ [q]).headD 0) (ws ++ [q]).tail (playsF sv p q) + (nI 10 - oddsF sv p q).toInt64 * tabF who f q ((ws ++ [p]).headD 0) (ws ++ [p]).tail (playsF sv q p)
theorem tabF_s (who f p q : Nat) (ws : List Nat) (sv : SV) : tabF who (f + 1) p q ws sv = (oddsF sv p q).toInt64 * tabF who f p ((ws ++ [q]).headD 0) (ws ++ [q]).tail (playsF sv p q) + (nI 10 - oddsF sv p q).toInt64 * tabF who f q ((ws ++ [p]).headD 0) (ws ++ [p]).tail (playsF sv q p) := rfl
/-- all at the table: apart, below five -/
def tabOK (p q : Nat) (ws : List Nat) : Prop := (p :: q :: ws).Nodup ∧ ∀ w ∈ p :: q :: ws, w < 5
theorem tab_next {p q w : Nat} {ws rs : List Nat} (h : tabOK p q ws) (e : ws ++ [q] = w :: rs) : tabOK p w rs := by
  have hp : List.Perm (p :: w :: rs) (p :: q :: ws) := by
    rw [← e]
    exact List.Perm.cons _ (List.perm_append_singleton q ws)
  exact ⟨hp.nodup_iff.mpr h.1, fun x hx => h.2 x (hp.mem_iff.mp hx)⟩
theorem tab_swap {p q : Nat} {ws : List Nat} (h : tabOK p q ws) : tabOK q p ws := by
  have hp : List.Perm (q :: p :: ws) (p :: q :: ws) := List.Perm.swap _ _ _
  exact ⟨hp.nodup_iff.mpr h.1, fun x hx => h.2 x (hp.mem_iff.mp hx)⟩
theorem tab_ne {p q : Nat} {ws : List Nat} (h : tabOK p q ws) : p ≠ q ∧ p < 5 ∧ q < 5 ∧ ∀ x ∈ ws, x < 10 :=
  ⟨fun e => (List.nodup_cons.mp h.1).1 (by rw [e]; exact List.mem_cons_self), h.2 p List.mem_cons_self, h.2 q (List.mem_cons_of_mem _ List.mem_cons_self), fun x hx => by
    have := h.2 x (List.mem_cons_of_mem _ (List.mem_cons_of_mem _ hx))
    omega⟩
theorem app_cons (ws : List Nat) (q : Nat) : ∃ (w : Nat) (rs : List Nat), ws ++ [q] = w :: rs ∧ rs.length = ws.length ∧ (ws ++ [q]).headD 0 = w ∧ (ws ++ [q]).tail = rs := by
  cases ws with
  | nil => exact ⟨q, [], rfl, rfl, rfl, rfl⟩
  | cons a l => exact ⟨a, l ++ [q], rfl, by simp, rfl, rfl⟩
/-- the queue at first -/
def queueN (np : Nat) : List Nat := (List.range (np - 2)).map (· + 2)
def tableF (sv : SV) (a k part : Int32) : Int64 := if isPlB sv a = false then NOL else if inB k (nI 1) (nI 8) = false then NOL else if inB part (nI 0) (nI 1) = false then NOL else if sv 6 < nI 2 then NOL else lowF (tabF a.toNatClampNeg (k.toNatClampNeg - 1) 0 1 (queueN (sv 6).toNatClampNeg) sv) (pow10 k.toNatClampNeg) part
def waitN (k : Nat) : Nat := digs ((List.range k).map (· + 2))
theorem waitN_s (k : Nat) : waitN (k + 1) = 10 * waitN k + (k + 2) := by
  unfold waitN
  rw [List.range_succ, List.map_append]
  exact digs_app
/-- the row behind the first k games of the book -/
def bgsF (sv : SV) : Nat → SV
  | 0 => sv
  | k + 1 => bgameF (bgsF sv k) k
/-- the book's games are of two players -/
def bookOK (sv : SV) : Prop := ∃ nb : Nat, nb ≤ 8 ∧ sv 8 = nI nb ∧ ∀ k : Nat, k < nb → ∃ p q : Nat, p < 5 ∧ q < 5 ∧ p ≠ q ∧ sv (42 + k) = nI p ∧ sv (50 + k) = nI q
theorem bgame_ag {sv : SV} {k p q : Nat} (hp : p < 5) (hq : q < 5) (e1 : sv (42 + k) = nI p) (e2 : sv (50 + k) = nI q) : ag6 (bgameF sv k) sv := by
  unfold bgameF
  rw [e1, e2, cl_nI (by omega), cl_nI (by omega)]
  split
  · exact plays_ag hp hq
  · exact plays_ag hq hp
theorem bgame_gok {sv : SV} {k p q f : Nat} (hp : p < 5) (hq : q < 5) (hpq : p ≠ q) (e1 : sv (42 + k) = nI p) (e2 : sv (50 + k) = nI q) (h : gok (f + 1) sv) : gok f (bgameF sv k) := by
  unfold bgameF
  rw [e1, e2, cl_nI (by omega), cl_nI (by omega)]
  split
  · exact plays_gok hp hq hpq h
  · exact plays_gok hq hp (Ne.symm hpq) h
theorem ag6.trans {a b c : SV} (h1 : ag6 a b) (h2 : ag6 b c) : ag6 a c := fun j hj => (h1 j hj).trans (h2 j hj)
theorem bgs_ok {sv : SV} {nb : Nat} (hb : ∀ k : Nat, k < nb → ∃ p q : Nat, p < 5 ∧ q < 5 ∧ p ≠ q ∧ sv (42 + k) = nI p ∧ sv (50 + k) = nI q) : ∀ k f : Nat, k ≤ nb → gok (f + k) sv → ag6 (bgsF sv k) sv ∧ gok f (bgsF sv k)
  | 0, f, _, hg => ⟨ag6_rf, hg⟩
  | k + 1, f, hk, hg => by
    obtain ⟨p, q, hp, hq, hpq, e1, e2⟩ := hb k (by omega)
    have h1 := bgs_ok hb k (f + 1) (by omega) (by rw [show f + 1 + k = f + (k + 1) by omega]; exact hg)
    have e1' : bgsF sv k (42 + k) = nI p := (h1.1 _ (by omega)).trans e1
    have e2' : bgsF sv k (50 + k) = nI q := (h1.1 _ (by omega)).trans e2
    exact ⟨(bgame_ag hp hq e1' e2').trans h1.1, bgame_gok hp hq hpq e1' e2' h1.2⟩
theorem back6 {a sv : SV} (h : ag6 a sv) : (fun j => if j < 6 then sv j else a j) = sv := by
  funext j
  by_cases hj : j < 6
  · rw [if_pos hj]
  · rw [if_neg hj]
    exact h j (by omega)
def saysF (sv : SV) (a : Int32) : Int32 := if isPlB sv a = false then -1 else bgsF sv (sv 8).toNatClampNeg (1 + a.toNatClampNeg)
/-- how likely the first k games of the book are -/
def prodF (sv : SV) : Nat → Int64
  | 0 => 1
  | k + 1 => prodF sv k * (if sv (58 + k) = nI 1 then (oddsF (bgsF sv k) (sv (42 + k)).toNatClampNeg (sv (50 + k)).toNatClampNeg).toInt64 else (nI 10 - oddsF (bgsF sv k) (sv (42 + k)).toNatClampNeg (sv (50 + k)).toNatClampNeg).toInt64)
theorem prodF_s (sv : SV) (k : Nat) : prodF sv (k + 1) = prodF sv k * (if sv (58 + k) = nI 1 then (oddsF (bgsF sv k) (sv (42 + k)).toNatClampNeg (sv (50 + k)).toNatClampNeg).toInt64 else (nI 10 - oddsF (bgsF sv k) (sv (42 + k)).toNatClampNeg (sv (50 + k)).toNatClampNeg).toInt64) := rfl
def likeN (sv : SV) (p nb : Nat) : Nat → Int32 × Int64
  | 0 => (nI 0, -1)
  | v + 1 => (if (likeN sv p nb v).2 < prodF (zp sv (17 + p) (nI v)) nb then nI v else (likeN sv p nb v).1, if (likeN sv p nb v).2 < prodF (zp sv (17 + p) (nI v)) nb then prodF (zp sv (17 + p) (nI v)) nb else (likeN sv p nb v).2)
def likelyF (sv : SV) (a : Int32) : Int32 := if isPlB sv a = false then -1 else (likeN sv a.toNatClampNeg (sv 8).toNatClampNeg 10).1
theorem oddOK_v {sv : SV} {p : Nat} {v : Int32} (hp : p < 5) (h : oddOK sv) : oddOK (zp sv (17 + p) v) := by
  obtain ⟨h1, h2, h3, h4, gm, h5, h6⟩ := h
  have e11 : zp sv (17 + p) v 11 = sv 11 := zp_n (by omega)
  refine ⟨by rw [e11]; exact h1, fun k hk e => ?_, ?_, fun x hx => ?_, gm, h5, ?_⟩
  · rw [e11] at e
    rw [zp_n (by omega)]
    exact h2 k hk e
  · have : stepsF (zp sv (17 + p) v) = stepsF sv := by
      unfold stepsF
      rw [e11]
      split
      · rfl
      · rw [zp_n (by omega)]
        exact List.map_congr_left fun j _ => zp_n (by omega)
    rw [this]
    exact h3
  · rw [zp_n (by omega)]
    exact h4 x hx
  · rw [zp_n (by omega)]
    exact h6
/-- looked: m tales more, k done, this row -/
def lookR (sv : SV) : Nat → Nat → SV → Int32
  | 0, _, _ => -5
  | m + 1, k, row => if nI k < sv 8 ∧ (if nI k < sv 8 then bgameF row k else row) 1 = sv (66 + k) then lookR sv m (k + 1) (if nI k < sv 8 then bgameF row k else row) else nI k
def lookedF (sv : SV) : Int32 := if sv 6 = 0 then -3 else lookR sv (sv 9).toNatClampNeg 0 sv
