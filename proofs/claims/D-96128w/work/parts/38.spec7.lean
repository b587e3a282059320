/-! ===== the pure law: an inn's text ===== -/
set_option maxRecDepth 100000
/-- a test as its steps -/
abbrev Tst : Type := List Int32
abbrev tFact (w h v : Nat) : Tst := [nI (w + 8 * h + 32 * v)]
abbrev tNot (t : Tst) : Tst := t ++ [-1]
abbrev tTwo (b : Bool) (t u : Tst) : Tst := t ++ (u ++ [if b then -2 else -3])
/-- read on: wrong at a place; or up to a place, this -/
abbrev PR (α : Type) : Type := Nat ⊕ (Nat × α)
section Parse
variable (tp : Nat → Int32) (e : Nat)
def hrP (i : Nat) : Int32 := if i < e then tp i else -1
def digB (c : Int32) : Bool := inB c (nI 48) (nI 57)
def numP (i : Nat) : PR Nat :=
  if digB (hrP tp e i) then (if 0 < (hrP tp e i).toNatClampNeg - 48 ∧ digB (hrP tp e (i + 1)) = true then .inr (i + 2, 10 * ((hrP tp e i).toNatClampNeg - 48) + ((hrP tp e (i + 1)).toNatClampNeg - 48)) else .inr (i + 1, (hrP tp e i).toNatClampNeg - 48)) else .inl i
def amg (c : Int32) : List Int32 → Nat → Option Nat
  | [], _ => none
  | x :: r, k => if c = x then some k else amg c r (k + 1)
def factP (i : Nat) : PR Tst :=
  match amg (hrP tp e i) (zkB.getD 1 []) 0 with
  | none => .inl i
  | some w => match amg (hrP tp e (i + 1)) (zkB.getD 2 []) 0 with
    | none => .inl (i + 1)
    | some h => match numP tp e (i + 2) with
      | .inl p => .inl p
      | .inr (j, v) => .inr (j, tFact w h v)
def everL (fac : Nat → PR Tst) : Nat → Nat → Tst → PR Tst
  | 0, i, t => .inr (i, t)
  | f + 1, i, t => if hrP tp e i = nI 38 then (match fac (i + 1) with
      | .inl p => .inl p
      | .inr (j, u) => everL fac f j (tTwo true t u)) else .inr (i, t)
def everP (fac : Nat → PR Tst) (i : Nat) : PR Tst := match fac i with
  | .inl p => .inl p
  | .inr (j, t) => everL tp e fac (e + 1) j t
def someL (fac : Nat → PR Tst) : Nat → Nat → Tst → PR Tst
  | 0, i, t => .inr (i, t)
  | f + 1, i, t => if hrP tp e i = nI 124 then (match everP tp e fac (i + 1) with
      | .inl p => .inl p
      | .inr (j, u) => someL fac f j (tTwo false t u)) else .inr (i, t)
def someP (fac : Nat → PR Tst) (i : Nat) : PR Tst := match everP tp e fac i with
  | .inl p => .inl p
  | .inr (j, t) => someL tp e fac (e + 1) j t
/-- a factor, g openings left -/
def facP : Nat → Nat → PR Tst
  | 0, i => if hrP tp e i = nI 33 ∨ hrP tp e i = nI 40 then .inl i else factP tp e i
  | g + 1, i => if hrP tp e i = nI 33 then (match facP g (i + 1) with
      | .inl p => .inl p
      | .inr (j, t) => .inr (j, tNot t)) else if hrP tp e i = nI 40 then (match someP tp e (facP g) (i + 1) with
      | .inl p => .inl p
      | .inr (j, t) => if hrP tp e j = nI 41 then .inr (j + 1, t) else .inl j) else factP tp e i
def spellP : List Int32 → Nat → Nat ⊕ Nat
  | [], i => .inr i
  | c :: r, i => if hrP tp e i = c then spellP r (i + 1) else .inl i
/-- a clause: 0 less, 1 more, 2 lift, 3 duck; how much; the test -/
abbrev Cl : Type := Nat × Nat × Tst
def muchP (kd : Nat) (w : List Int32) (i : Nat) : PR Cl := match spellP tp e w i with
  | .inl p => .inl p
  | .inr j => match numP tp e j with
    | .inl p => .inl p
    | .inr (k, n) => if hrP tp e k = nI 32 then (match someP tp e (facP tp e 5) (k + 1) with
      | .inl p => .inl p
      | .inr (l, t) => .inr (l, (kd, n, t))) else .inl k
def tellP (kd : Nat) (w : List Int32) (i : Nat) : PR Cl := match spellP tp e w i with
  | .inl p => .inl p
  | .inr j => match numP tp e j with
    | .inl p => .inl p
    | .inr (k, n) => .inr (k, (kd, n, []))
def clauseP (i : Nat) : PR Cl :=
  if hrP tp e i = nI 108 then (if hrP tp e (i + 1) = nI 105 then muchP tp e 2 (zkB.getD 0 []) (i + 1) else tellP tp e 0 (zkB.getD 3 []) (i + 1))
  else if hrP tp e i = nI 100 then muchP tp e 3 (zkB.getD 4 []) i
  else if hrP tp e i = nI 109 then tellP tp e 1 (zkB.getD 5 []) i
  else .inl i
def innL : Nat → Nat → List Cl → PR (List Cl)
  | 0, i, l => if i = e then .inr (i, l) else .inl i
  | k + 1, i, l => if hrP tp e i = nI 59 then (match clauseP tp e (i + 1) with
      | .inl p => .inl p
      | .inr (j, c) => innL k j (l ++ [c])) else if i = e then .inr (i, l) else .inl i
def innP : PR (List Cl) := match clauseP tp e 0 with
  | .inl p => .inl p
  | .inr (j, c) => innL tp e 9 j [c]
variable {tp e}
theorem hr_lt {i n : Nat} (h : hrP tp e i = nI n) (hn : n < 2 ^ 31) : i < e := by
  unfold hrP at h
  by_cases q : i < e
  · exact q
  · rw [if_neg q] at h
    have := nI_pos' hn
    rw [← h] at this
    exact absurd this (by decide +kernel)
theorem dig_of {c : Int32} (h : digB c = true) : ∃ j : Nat, 48 ≤ j ∧ j ≤ 57 ∧ c = nI j := inB_of h (by decide) (by decide)
theorem dig_lt {i : Nat} (h : digB (hrP tp e i) = true) : i < e := by
  obtain ⟨j, h1, h2, h3⟩ := dig_of h
  exact hr_lt h3 (by omega)
theorem amg_of {c : Int32} : ∀ {l : List Int32} {k w : Nat}, amg c l k = some w → k ≤ w ∧ w < k + l.length ∧ l.getD (w - k) 0 = c
  | [], k, w, h => by cases h
  | x :: r, k, w, h => by
    unfold amg at h
    by_cases q : c = x
    · rw [if_pos q] at h
      cases h
      exact ⟨Nat.le_refl _, by simp, by rw [Nat.sub_self]; exact q.symm⟩
    · rw [if_neg q] at h
      obtain ⟨h1, h2, h3⟩ := amg_of h
      refine ⟨by omega, by simp only [List.length_cons]; omega, ?_⟩
      rw [show w - k = (w - (k + 1)) + 1 by omega]
      exact h3
theorem num_ok {i j v : Nat} (h : numP tp e i = .inr (j, v)) : i < j ∧ j ≤ e ∧ v < 100 := by
  unfold numP at h
  by_cases h1 : digB (hrP tp e i) = true
  · rw [if_pos h1] at h
    obtain ⟨a, ha1, ha2, ha3⟩ := dig_of h1
    have hl := dig_lt h1
    rw [ha3, cl_nI (by omega)] at h
    by_cases h2 : 0 < a - 48 ∧ digB (hrP tp e (i + 1)) = true
    · rw [if_pos h2] at h
      obtain ⟨b, hb1, hb2, hb3⟩ := dig_of h2.2
      have hl2 := dig_lt h2.2
      rw [hb3, cl_nI (by omega)] at h
      cases h
      exact ⟨by omega, by omega, by omega⟩
    · rw [if_neg h2] at h
      cases h
      exact ⟨by omega, by omega, by omega⟩
  · rw [if_neg h1] at h
    cases h
/-- a good end: further on, not past the end, with no more steps than signs -/
def okT (e i : Nat) (r : PR Tst) : Prop := ∀ (j : Nat) (t : Tst), r = .inr (j, t) → i < j ∧ j ≤ e ∧ t.length ≤ j - i
theorem fact_ok {i : Nat} : okT e i (factP tp e i) := fun j t h => by
  unfold factP at h
  split at h
  · cases h
  · split at h
    · cases h
    · split at h
      · cases h
      · rename_i _ _ _ _ _ _ j' v hn
        cases h
        have := num_ok hn
        exact ⟨by omega, this.2.1, by show 1 ≤ _; omega⟩
theorem everL_ok {fac : Nat → PR Tst} (hf : ∀ i : Nat, i ≤ e → okT e i (fac i)) {i0 : Nat} : ∀ (f i : Nat) (t : Tst), i0 < i → i ≤ e → t.length ≤ i - i0 → ∀ (j : Nat) (u : Tst), everL tp e fac f i t = .inr (j, u) → i0 < j ∧ j ≤ e ∧ u.length ≤ j - i0
  | 0, i, t, h1, h2, h3, j, u, h => by
    cases h
    exact ⟨h1, h2, h3⟩
  | f + 1, i, t, h1, h2, h3, j, u, h => by
    unfold everL at h
    by_cases q : hrP tp e i = nI 38
    · rw [if_pos q] at h
      have hl := hr_lt q (by decide)
      split at h
      · cases h
      · rename_i k v hv
        have h4 := hf (i + 1) (by omega) k v hv
        refine everL_ok hf f k _ (by omega) h4.2.1 ?_ j u h
        show (t ++ (v ++ [_])).length ≤ _
        simp only [List.length_append, List.length_cons, List.length_nil]
        omega
    · rw [if_neg q] at h
      cases h
      exact ⟨h1, h2, h3⟩
theorem everP_ok {fac : Nat → PR Tst} (hf : ∀ i : Nat, i ≤ e → okT e i (fac i)) {i : Nat} (hi : i ≤ e) : okT e i (everP tp e fac i) := fun j t h => by
  unfold everP at h
  split at h
  · cases h
  · rename_i k v hv
    have h4 := hf i hi k v hv
    exact everL_ok hf (e + 1) k v h4.1 h4.2.1 h4.2.2 j t h
theorem someL_ok {fac : Nat → PR Tst} (hf : ∀ i : Nat, i ≤ e → okT e i (fac i)) {i0 : Nat} : ∀ (f i : Nat) (t : Tst), i0 < i → i ≤ e → t.length ≤ i - i0 → ∀ (j : Nat) (u : Tst), someL tp e fac f i t = .inr (j, u) → i0 < j ∧ j ≤ e ∧ u.length ≤ j - i0
  | 0, i, t, h1, h2, h3, j, u, h => by
    cases h
    exact ⟨h1, h2, h3⟩
  | f + 1, i, t, h1, h2, h3, j, u, h => by
    unfold someL at h
    by_cases q : hrP tp e i = nI 124
    · rw [if_pos q] at h
      have hl := hr_lt q (by decide)
      split at h
      · cases h
      · rename_i k v hv
        have h4 := everP_ok hf (show i + 1 ≤ e by omega) k v hv
        refine someL_ok hf f k _ (by omega) h4.2.1 ?_ j u h
        show (t ++ (v ++ [_])).length ≤ _
        simp only [List.length_append, List.length_cons, List.length_nil]
        omega
    · rw [if_neg q] at h
      cases h
      exact ⟨h1, h2, h3⟩
theorem someP_ok {fac : Nat → PR Tst} (hf : ∀ i : Nat, i ≤ e → okT e i (fac i)) {i : Nat} (hi : i ≤ e) : okT e i (someP tp e fac i) := fun j t h => by
  unfold someP at h
  split at h
  · cases h
  · rename_i k v hv
    have h4 := everP_ok hf hi k v hv
    exact someL_ok hf (e + 1) k v h4.1 h4.2.1 h4.2.2 j t h
theorem facP_ok : ∀ (g i : Nat), i ≤ e → okT e i (facP tp e g i)
  | 0, i, hi => fun j t h => by
    unfold facP at h
    split at h
    · cases h
    · exact fact_ok j t h
  | g + 1, i, hi => fun j t h => by
    unfold facP at h
    by_cases q : hrP tp e i = nI 33
    · rw [if_pos q] at h
      have hl := hr_lt q (by decide)
      cases hv : facP tp e g (i + 1) with
      | inl p =>
        simp only [hv] at h
        cases h
      | inr kv =>
        obtain ⟨k, v⟩ := kv
        simp only [hv] at h
        have h4 := facP_ok g (i + 1) (by omega) k v hv
        cases h
        refine ⟨by omega, h4.2.1, ?_⟩
        show (v ++ [_]).length ≤ _
        simp only [List.length_append, List.length_cons, List.length_nil]
        omega
    · rw [if_neg q] at h
      by_cases q : hrP tp e i = nI 40
      · rw [if_pos q] at h
        have hl := hr_lt q (by decide)
        split at h
        · cases h
        · rename_i k v hv
          have h4 := someP_ok (fun i hi => facP_ok g i hi) (show i + 1 ≤ e by omega) k v hv
          split at h
          · rename_i q2
            have hl2 := hr_lt q2 (by decide)
            cases h
            exact ⟨by omega, by omega, by omega⟩
          · cases h
      · rw [if_neg q] at h
        exact fact_ok j t h
end Parse
/-- one step more, at the act's end; some steps more -/
def putS (a : Nat) (sv : SV) (s : Int32) : SV := zp (zp sv (189 + 140 * a + (sv (184 + a)).toNatClampNeg) s) (184 + a) (sv (184 + a) + nI 1)
def appS (a : Nat) : SV → List Int32 → SV
  | sv, [] => sv
  | sv, s :: r => appS a (putS a sv s) r
theorem appS_app (a : Nat) : ∀ (l m : List Int32) (sv : SV), appS a sv (l ++ m) = appS a (appS a sv l) m
  | [], _, _ => rfl
  | s :: r, m, sv => appS_app a r m (putS a sv s)
/-- the act's own places -/
def arA (a : Nat) : Nat → Prop := fun j => j = 174 + a ∨ j = 179 + a ∨ j = 184 + a ∨ (189 + 140 * a ≤ j ∧ j < 189 + 140 * a + 140)
theorem putS_c {a c : Nat} {sv : SV} {s : Int32} (hc : sv (184 + a) = nI c) (h : c < 140) : putS a sv s (184 + a) = nI (c + 1) ∧ zag (arA a) sv (putS a sv s) ∧ putS a sv s = zp (zp sv (189 + 140 * a + c) s) (184 + a) (nI (c + 1)) := by
  have e : putS a sv s = zp (zp sv (189 + 140 * a + c) s) (184 + a) (nI (c + 1)) := by
    unfold putS
    rw [hc, cl_nI (by omega), show nI c + nI 1 = nI (c + 1) from nI_1 c]
  refine ⟨by rw [e, zp_s], ?_, e⟩
  rw [e]
  exact (zag.rf.put (Or.inr (Or.inr (Or.inr ⟨by omega, by omega⟩)))).put (Or.inr (Or.inr (Or.inl rfl)))
theorem appS_c {a : Nat} : ∀ (l : List Int32) (sv : SV) (c : Nat), sv (184 + a) = nI c → c + l.length ≤ 140 → appS a sv l (184 + a) = nI (c + l.length) ∧ zag (arA a) sv (appS a sv l)
  | [], sv, c, h, _ => ⟨h, zag.rf⟩
  | s :: r, sv, c, h, hl => by
    simp only [List.length_cons] at hl
    have h1 := putS_c (s := s) h (by omega)
    have h2 := appS_c r (putS a sv s) (c + 1) h1.1 (by omega)
    exact ⟨by rw [List.length_cons, ← Nat.add_assoc, Nat.add_right_comm]; exact h2.1, h1.2.1.trans h2.2⟩
section Parse2
variable {tp : Nat → Int32} {e : Nat}
theorem spell_ok {x : Nat} (hx : x < 6) : ∀ (r k i j : Nat), k + r = zkL.getD x 0 → i ≤ e → spellP tp e ((zkB.getD x []).drop k) i = .inr j → j = i + r ∧ j ≤ e
  | 0, k, i, j, hk, hi, h => by
    rw [List.drop_eq_nil_of_le (by rw [← zkLB hx]; omega)] at h
    cases h
    exact ⟨rfl, hi⟩
  | r + 1, k, i, j, hk, hi, h => by
    have hkl : k < zkL.getD x 0 := by omega
    have hpos := zkB_pos hx hkl
    rw [drop_get (by rw [← zkLB hx]; exact hkl)] at h
    unfold spellP at h
    by_cases q : hrP tp e i = (zkB.getD x []).getD k 0
    · rw [if_pos q] at h
      obtain ⟨c, hc1, hc2⟩ := nI_of (Int32.not_lt.mpr hpos)
      have hie := hr_lt (q.trans hc2) hc1
      have := spell_ok hx r (k + 1) (i + 1) j (by omega) (by omega) h
      exact ⟨by omega, this.2⟩
    · rw [if_neg q] at h
      cases h
theorem spell_of {x : Nat} (hx : x < 6) {i j : Nat} (hi : i ≤ e) (h : spellP tp e (zkB.getD x []) i = .inr j) : j = i + zkL.getD x 0 ∧ j ≤ e := spell_ok hx (zkL.getD x 0) 0 i j (Nat.zero_add _) hi h
/-- a clause's good end -/
def okC (e i : Nat) (r : PR Cl) : Prop := ∀ (j : Nat) (c : Cl), r = .inr (j, c) → i < j ∧ j ≤ e ∧ c.2.2.length + 1 ≤ j - i ∧ c.2.1 < 100 ∧ c.1 < 4
theorem much_ok {kd x : Nat} (hx : x < 6) (hk : kd < 4) {i : Nat} (hi : i ≤ e) : okC e i (muchP tp e kd (zkB.getD x []) i) := fun j c h => by
  unfold muchP at h
  rcases hs : spellP tp e (zkB.getD x []) i with p | j1
  · simp only [hs] at h
    cases h
  · simp only [hs] at h
    have h1 := spell_of hx hi hs
    rcases hn : numP tp e j1 with p | ⟨k, n⟩
    · simp only [hn] at h
      cases h
    · simp only [hn] at h
      have h2 := num_ok hn
      by_cases q : hrP tp e k = nI 32
      · rw [if_pos q] at h
        have h3 := hr_lt q (by decide)
        rcases ht : someP tp e (facP tp e 5) (k + 1) with p | ⟨l, t⟩
        · simp only [ht] at h
          cases h
        · simp only [ht] at h
          have h4 := someP_ok (fun i hi => facP_ok 5 i hi) h3 l t ht
          cases h
          refine ⟨by omega, h4.2.1, ?_, h2.2.2, hk⟩
          show t.length + 1 ≤ j - i
          omega
      · rw [if_neg q] at h
        cases h
theorem tell_ok {kd x : Nat} (hx : x < 6) (hk : kd < 4) {i : Nat} (hi : i ≤ e) : okC e i (tellP tp e kd (zkB.getD x []) i) := fun j c h => by
  unfold tellP at h
  rcases hs : spellP tp e (zkB.getD x []) i with p | j1
  · simp only [hs] at h
    cases h
  · simp only [hs] at h
    have h1 := spell_of hx hi hs
    rcases hn : numP tp e j1 with p | ⟨k, n⟩
    · simp only [hn] at h
      cases h
    · simp only [hn] at h
      have h2 := num_ok hn
      cases h
      exact ⟨by omega, h2.2.1, by show 0 + 1 ≤ _; omega, h2.2.2, hk⟩
theorem okC_1 {i : Nat} {r : PR Cl} (h : okC e (i + 1) r) : okC e i r := fun j c q => by
  have := h j c q
  exact ⟨by omega, this.2.1, by omega, this.2.2.2⟩
theorem clause_ok {i : Nat} (hi : i ≤ e) : okC e i (clauseP tp e i) := by
  unfold clauseP
  split
  · rename_i q
    have h3 := hr_lt q (by decide)
    split
    · exact okC_1 (much_ok (by decide) (by decide) h3)
    · exact okC_1 (tell_ok (by decide) (by decide) h3)
  · split
    · exact much_ok (by decide) (by decide) hi
    · split
      · exact tell_ok (by decide) (by decide) hi
      · intro j c q
        cases q
end Parse2
/-- what a clause does to the row -/
def clF (a : Nat) (sv : SV) (c : Cl) : SV := if c.1 = 0 then zp sv (174 + a) (nI c.2.1) else if c.1 = 1 then zp sv (179 + a) (nI c.2.1) else appS a sv (c.2.2 ++ [(if c.1 = 2 then (-10 : Int32) else -200) - nI c.2.1])
theorem clF_c {a c : Nat} {sv : SV} {q : Cl} (ha : a < 5) (hc : sv (184 + a) = nI c) (h : c + q.2.2.length + 1 ≤ 140) : (∃ c' : Nat, c' ≤ c + q.2.2.length + 1 ∧ clF a sv q (184 + a) = nI c') ∧ zag (arA a) sv (clF a sv q) := by
  unfold clF
  split
  · exact ⟨⟨c, by omega, by rw [zp_n (by omega)]; exact hc⟩, zag.rf.put (Or.inl rfl)⟩
  · split
    · exact ⟨⟨c, by omega, by rw [zp_n (by omega)]; exact hc⟩, zag.rf.put (Or.inr (Or.inl rfl))⟩
    · have h1 := appS_c (q.2.2 ++ [(if q.1 = 2 then (-10 : Int32) else -200) - nI q.2.1]) sv c hc (by simp only [List.length_append, List.length_cons, List.length_nil]; omega)
      exact ⟨⟨_, by simp only [List.length_append, List.length_cons, List.length_nil]; omega, h1.1⟩, h1.2⟩
/-- the row as a reading begins -/
def row0F (a : Nat) (sv : SV) : SV := zp (zp (zp (zp sv 10 (nI 0)) (174 + a) (nI 1)) (179 + a) (nI 1)) (184 + a) (nI 0)
def clsF (a : Nat) (sv : SV) (cs : List Cl) : SV := cs.foldl (clF a) (row0F a sv)
def innF (a : Nat) (sv : SV) (cs : List Cl) : SV := zp (zp (clsF a sv cs) 7 (nI (a + 1))) 11 (nI a)
abbrev tapeF (sv : SV) : Nat → Int32 := fun j => sv (74 + j)
def innR (sv : SV) : PR (List Cl) := innP (tapeF sv) (sv 10).toNatClampNeg
def innV (sv : SV) : Int32 := if sv 7 = nI 5 then -4 else match innR sv with
  | .inl p => (-10) - nI p
  | .inr _ => sv 7
/-- the row behind: wrong (the act's own places are left as they are), or an inn more -/
def innQ (sv sv' : SV) : Prop := if sv 7 = nI 5 then sv' = sv else match innR sv with
  | .inl _ => zag (fun j => arA (sv 7).toNatClampNeg j ∨ j = 10) sv sv' ∧ sv' 10 = nI 0
  | .inr q => sv' = innF (sv 7).toNatClampNeg sv q.2
