/-! ===== the twin: an inn is read ===== -/
set_option maxRecDepth 100000
/-- memory: at this place, wrong or not, so many open, this row -/
def mP (t : Nat) (I : ZI) (i : Nat) (b : Bool) (d : Nat) (row : SV) : ZI := zp (zp I t (zp (zp (zp (I t) 6 (nI i)) 8 (zb b)) 9 (nI d))) (t + 1) row
section MP
variable {t i d : Nat} {I : ZI} {b : Bool} {row : SV}
theorem mP_fl : mP t I i b d row t = zp (zp (zp (I t) 6 (nI i)) 8 (zb b)) 9 (nI d) := by
  unfold mP
  rw [zp_n (by omega), zp_s]
theorem mP_5 : mP t I i b d row t 5 = I t 5 := by rw [mP_fl, zp_n (by omega), zp_n (by omega), zp_n (by omega)]
theorem mP_7 : mP t I i b d row t 7 = I t 7 := by rw [mP_fl, zp_n (by omega), zp_n (by omega), zp_n (by omega)]
theorem mP_6 : mP t I i b d row t 6 = nI i := by rw [mP_fl, zp_n (by omega), zp_n (by omega), zp_s]
theorem mP_8 : mP t I i b d row t 8 = zb b := by rw [mP_fl, zp_n (by omega), zp_s]
theorem mP_9 : mP t I i b d row t 9 = nI d := by rw [mP_fl, zp_s]
theorem mP_r : mP t I i b d row (t + 1) = row := zp_s
theorem mP_u6 {i' : Nat} : zp (mP t I i b d row) t (zp (mP t I i b d row t) 6 (nI i')) = mP t I i' b d row := by
  rw [mP_fl, zp_comm (a := 9) (b := 6) (by omega), zp_comm (a := 8) (b := 6) (by omega), zp_zp]
  unfold mP
  rw [zp_comm (a := t + 1) (b := t) (by omega), zp_zp]
theorem mP_u8 {b' : Bool} : zp (mP t I i b d row) t (zp (mP t I i b d row t) 8 (zb b')) = mP t I i b' d row := by
  rw [mP_fl, zp_comm (a := 9) (b := 8) (by omega), zp_zp]
  unfold mP
  rw [zp_comm (a := t + 1) (b := t) (by omega), zp_zp]
theorem mP_u8t : zp (mP t I i b d row) t (zp (mP t I i b d row t) 8 (nI 1)) = mP t I i true d row := mP_u8 (b' := true)
theorem mP_u8f : zp (mP t I i b d row) t (zp (mP t I i b d row t) 8 (nI 0)) = mP t I i false d row := mP_u8 (b' := false)
theorem mP_u9 {d' : Nat} : zp (mP t I i b d row) t (zp (mP t I i b d row t) 9 (nI d')) = mP t I i b d' row := by
  rw [mP_fl, zp_zp]
  unfold mP
  rw [zp_comm (a := t + 1) (b := t) (by omega), zp_zp]
theorem mP_ur {row' : SV} : zp (mP t I i b d row) (t + 1) row' = mP t I i b d row' := zp_zp
end MP
/-- a place to read on from -/
def PS (a e : Nat) (tp : Nat → Int32) (row : SV) (i : Nat) : Prop := i ≤ e ∧ (∀ j : Nat, j < 100 → row (74 + j) = tp j) ∧ ∃ c : Nat, c ≤ i ∧ row (184 + a) = nI c
theorem PS.step {a e : Nat} {tp : Nat → Int32} {row : SV} {i : Nat} (h : PS a e tp row i) (hl : i < e) : PS a e tp row (i + 1) := by
  obtain ⟨h1, h2, c, h3, h4⟩ := h
  exact ⟨hl, h2, c, by omega, h4⟩
theorem PS.up {a e : Nat} {tp : Nat → Int32} {row : SV} {i j : Nat} (h : PS a e tp row i) (h1 : i ≤ j) (h2 : j ≤ e) : PS a e tp row j := by
  obtain ⟨-, h4, c, h5, h6⟩ := h
  exact ⟨h2, h4, c, by omega, h6⟩
theorem PS.app {a e : Nat} {tp : Nat → Int32} {row : SV} {i j : Nat} {l : List Int32} (h : PS a e tp row i) (he : e ≤ 100) (h1 : i ≤ j) (h2 : j ≤ e) (hl : l.length ≤ j - i) : PS a e tp (appS a row l) j ∧ zag (arA a) row (appS a row l) := by
  obtain ⟨h3, h4, c, h5, h6⟩ := h
  have h7 := appS_c l row c h6 (by omega)
  refine ⟨⟨h2, fun k hk => ?_, c + l.length, by omega, h7.1⟩, h7.2⟩
  rw [h7.2 (74 + k) (fun q => by unfold arA at q; omega)]
  exact h4 k hk
def prI {α : Type} : PR α → Nat
  | .inl p => p
  | .inr q => q.1
def prB {α : Type} : PR α → Bool
  | .inl _ => true
  | .inr _ => false
def numV : PR Nat → Nat
  | .inl _ => 0
  | .inr q => q.2
def spI : Nat ⊕ Nat → Nat
  | .inl p => p
  | .inr j => j
def spB : Nat ⊕ Nat → Bool
  | .inl _ => true
  | .inr _ => false
/-- how a test's reading ends -/
def tPost (t : Nat) (I : ZI) (d a : Nat) (row : SV) (w : ZI) : PR Tst → Prop
  | .inl p => ∃ row' : SV, zag (arA a) row row' ∧ w = mP t I p true d row'
  | .inr q => w = mP t I q.1 false d (appS a row q.2)
abbrev zpp (t : Nat) (n : Nat) (T : ZT) (I : ZI) (L : ZL) (R : ZR) (d a : Nat) (row : SV) (r : PR Tst) : ZP := zex (fun w : ZI => tPost t I d a row w r) (fun w => zis none n T w L R)
set_option maxHeartbeats 4000000 in
theorem c_X4_here {E : ZE} {n : Nat} {T : ZT} {I : ZI} {L : ZL} {R : ZR} {t : Nat} (hL : TL T R t) {tp : Nat → Int32} {a e : Nat} (ha : I t 5 = nI a) (ha5 : a < 5) (he : I t 7 = nI e) (he100 : e ≤ 100) {i d : Nat} {row : SV} {b : Bool} (hp : PS a e tp row i) : zM E yX4_here cX4_here 1 (some (Jvm.ClassFile.FieldType.int)) 0 0 0 [.ref t] n T (mP t I i b d row) L R (zis (some (.int (hrP tp e i))) n T (mP t I i b d row) L R) := by
  refine zM.of (lv0 := [some (.ref t)]) pn_X4 (Nat.le_of_ble_eq_true rfl) rfl fun G g r hin hlt hbn => ?_
  have g : zGd E G cX4_here RX4 1 0 0 0 := g
  have hL0 := hL
  obtain ⟨hT, h1, ht1, h2, ht2, h3, ht3, h10, ht4, h11, ht5, ht6, ht7, h16, ht8, h17, ht9, h19, ht10⟩ := hL0
  obtain ⟨hi, htp, -⟩ := hp
  refine z_al0 g dX4_here_0 ?_
  refine zg4_6 g q1248 (Or.inl rfl) (by assumption) dX4_here_1 ?_
  rw [mP_6]
  refine z_al0 g dX4_here_4 ?_
  refine zg4_7 g q1249 (Or.inl rfl) (by assumption) dX4_here_5 ?_
  rw [mP_7, he]
  refine z_icmp_ge (tgt := 26) g dX4_here_8 (by decide) (fun c8 => ?_) (fun c8 => ?_)
  · skip
    have c8 : ¬ i < e := fun q => nI_ge q (by omega) c8
    refine z_iconst g dX4_here_26 zki_m1 ?_
    refine z_iret g r (by omega) (by omega) dX4_here_27 ?_
    exact ⟨by first | (unfold hrP; rw [if_pos c8, mP_r, htp i (by omega)]; done) | (unfold hrP; rw [if_neg c8]; done), rfl, rfl, rfl, rfl, rfl⟩
  · skip
    have c8 : i < e := Nat.lt_of_not_le fun q => c8 (nI_le q (by omega))
    refine z_al0 g dX4_here_11 ?_
    refine zg4_1 g q1243 (Or.inl rfl) (by assumption) dX4_here_12 (by assumption) ?_
    refine z_bipush g dX4_here_15 zkb_74 ?_
    refine z_al0 g dX4_here_17 ?_
    refine zg4_6 g q1248 (Or.inl rfl) (by assumption) dX4_here_18 ?_
    rw [mP_6]
    first | with_reducible refine z_iaddN g dX4_here_21 ?_ | refine z_iadd g dX4_here_21 ?_
    refine z_iald (k := 0) g rfl (by assumption) (by omega) (by omega) dX4_here_22 ?_
    refine z_goto (tgt := 27) g dX4_here_23 (by decide) ?_
    refine z_iret g r (by omega) (by omega) dX4_here_27 ?_
    exact ⟨by first | (unfold hrP; rw [if_pos c8, mP_r, htp i (by omega)]; done) | (unfold hrP; rw [if_neg c8]; done), rfl, rfl, rfl, rfl, rfl⟩

set_option maxHeartbeats 4000000 in
theorem c_X4_must_w {E : ZE} {n : Nat} {T : ZT} {I : ZI} {L : ZL} {R : ZR} {t : Nat} (hL : TL T R t) {i d : Nat} {row : SV} {c : Int32} : zM E yX4_must cX4_must 2 none 1 0 0 [.ref t, .int c] n T (mP t I i true d row) L R (zis (none) n T (mP t I i true d row) L R) := by
  refine zM.of (lv0 := [some (.ref t), some (.int c)]) pn_X4 (Nat.le_of_ble_eq_true rfl) rfl fun G g r hin hlt hbn => ?_
  have g : zGd E G cX4_must RX4 2 1 0 0 := g
  have hL0 := hL
  obtain ⟨hT, h1, ht1, h2, ht2, h3, ht3, h10, ht4, h11, ht5, ht6, ht7, h16, ht8, h17, ht9, h19, ht10⟩ := hL0
  refine z_al0 g dX4_must_0 ?_
  refine z_al0 g dX4_must_1 ?_
  refine zg4_8 g q1250 (Or.inl rfl) (by assumption) dX4_must_2 ?_
  rw [mP_8]
  refine z_if_ne_t (tgt := 16) g dX4_must_5 (by decide) (by decide +kernel) ?_
  refine z_iconst g dX4_must_16 zki_1 ?_
  refine z_goto (tgt := 21) g dX4_must_17 (by decide) ?_
  refine zs4_8 g q1250 (Or.inl rfl) (by assumption) dX4_must_21 zfit_1 ?_
  first | refine z_mem rfl rfl mP_u8t rfl rfl ?_ | refine z_mem rfl rfl mP_u8f rfl rfl ?_ | skip
  refine z_al0 g dX4_must_24 ?_
  refine z_dup g dX4_must_25 rfl ?_
  refine zg4_6 g q1248 (Or.inl rfl) (by assumption) dX4_must_26 ?_
  rw [mP_6]
  refine z_al0 g dX4_must_29 ?_
  refine zg4_8 g q1250 (Or.inl rfl) (by assumption) dX4_must_30 ?_
  rw [mP_8]
  refine z_if_eq_f (tgt := 40) g dX4_must_33 (by decide) (by decide +kernel) ?_
  refine z_iconst g dX4_must_36 zki_0 ?_
  refine z_goto (tgt := 41) g dX4_must_37 (by decide) ?_
  first | with_reducible refine z_iaddN g dX4_must_41 ?_ | refine z_iadd g dX4_must_41 ?_
  refine zs4_6 g q1248 (Or.inl rfl) (by assumption) dX4_must_42 ?_
  refine z_mem rfl rfl mP_u6 rfl rfl ?_
  refine z_vret g r (by omega) (by omega) dX4_must_45 ?_
  exact zis.rf

set_option maxHeartbeats 4000000 in
theorem c_X4_must {E : ZE} {n : Nat} {T : ZT} {I : ZI} {L : ZL} {R : ZR} {t : Nat} (hL : TL T R t) {tp : Nat → Int32} {a e : Nat} (ha : I t 5 = nI a) (ha5 : a < 5) (he : I t 7 = nI e) (he100 : e ≤ 100) {i d : Nat} {row : SV} (hp : PS a e tp row i) {c : Int32} (hc : 0 ≤ c) : zM E yX4_must cX4_must 2 none 1 0 0 [.ref t, .int c] n T (mP t I i false d row) L R (zis (none) n T (if hrP tp e i = c then (mP t I (i + 1) false d row) else (mP t I i true d row)) L R) := by
  refine zM.of (lv0 := [some (.ref t), some (.int c)]) pn_X4 (Nat.le_of_ble_eq_true rfl) rfl fun G g r hin hlt hbn => ?_
  have g : zGd E G cX4_must RX4 2 1 0 0 := g
  have hL0 := hL
  obtain ⟨hT, h1, ht1, h2, ht2, h3, ht3, h10, ht4, h11, ht5, ht6, ht7, h16, ht8, h17, ht9, h19, ht10⟩ := hL0
  have hie : hrP tp e i = c → i < e := fun q => by
    obtain ⟨k, hk, rfl⟩ := nI_of (Int32.not_lt.mpr hc)
    exact hr_lt q hk
  refine z_al0 g dX4_must_0 ?_
  refine z_al0 g dX4_must_1 ?_
  refine zg4_8 g q1250 (Or.inl rfl) (by assumption) dX4_must_2 ?_
  rw [mP_8]
  refine z_if_ne_f (tgt := 16) g dX4_must_5 (by decide) (rfl) ?_
  refine z_al0 g dX4_must_8 ?_
  refine z_callV0 g ck_X4_here q1330 q1332 qs38 cls4 (by assumption) (c_X4_here hL ha ha5 he he100 hp) rfl (Nat.le_of_ble_eq_true rfl) (by omega) (by omega) (by omega) dX4_must_9 (z_ans1 ?_)
  refine z_il1 g dX4_must_12 ?_
  refine z_icmp_eq (tgt := 20) g dX4_must_13 (by decide) (fun c13 => ?_) (fun c13 => ?_)
  · skip
    refine z_iconst g dX4_must_20 zki_0 ?_
    refine zs4_8 g q1250 (Or.inl rfl) (by assumption) dX4_must_21 zfit_0 ?_
    first | refine z_mem rfl rfl mP_u8t rfl rfl ?_ | refine z_mem rfl rfl mP_u8f rfl rfl ?_ | skip
    refine z_al0 g dX4_must_24 ?_
    refine z_dup g dX4_must_25 rfl ?_
    refine zg4_6 g q1248 (Or.inl rfl) (by assumption) dX4_must_26 ?_
    rw [mP_6]
    refine z_al0 g dX4_must_29 ?_
    refine zg4_8 g q1250 (Or.inl rfl) (by assumption) dX4_must_30 ?_
    rw [mP_8]
    refine z_if_eq_t (tgt := 40) g dX4_must_33 (by decide) (by decide +kernel) ?_
    refine z_iconst g dX4_must_40 zki_1 ?_
    first | with_reducible refine z_iaddN g dX4_must_41 ?_ | refine z_iadd g dX4_must_41 ?_
    refine zs4_6 g q1248 (Or.inl rfl) (by assumption) dX4_must_42 ?_
    refine z_mem rfl rfl mP_u6 rfl rfl ?_
    refine z_vret g r (by omega) (by omega) dX4_must_45 ?_
    exact ⟨rfl, rfl, rfl, by first | (rw [if_pos c13]; done) | (rw [if_neg c13, Nat.add_zero]; done), rfl, rfl⟩
  · skip
    refine z_iconst g dX4_must_16 zki_1 ?_
    refine z_goto (tgt := 21) g dX4_must_17 (by decide) ?_
    refine zs4_8 g q1250 (Or.inl rfl) (by assumption) dX4_must_21 zfit_1 ?_
    first | refine z_mem rfl rfl mP_u8t rfl rfl ?_ | refine z_mem rfl rfl mP_u8f rfl rfl ?_ | skip
    refine z_al0 g dX4_must_24 ?_
    refine z_dup g dX4_must_25 rfl ?_
    refine zg4_6 g q1248 (Or.inl rfl) (by assumption) dX4_must_26 ?_
    rw [mP_6]
    refine z_al0 g dX4_must_29 ?_
    refine zg4_8 g q1250 (Or.inl rfl) (by assumption) dX4_must_30 ?_
    rw [mP_8]
    refine z_if_eq_f (tgt := 40) g dX4_must_33 (by decide) (by decide +kernel) ?_
    refine z_iconst g dX4_must_36 zki_0 ?_
    refine z_goto (tgt := 41) g dX4_must_37 (by decide) ?_
    first | with_reducible refine z_iaddN g dX4_must_41 ?_ | refine z_iadd g dX4_must_41 ?_
    refine zs4_6 g q1248 (Or.inl rfl) (by assumption) dX4_must_42 ?_
    refine z_mem rfl rfl mP_u6 rfl rfl ?_
    refine z_vret g r (by omega) (by omega) dX4_must_45 ?_
    exact ⟨rfl, rfl, rfl, by first | (rw [if_pos c13]; done) | (rw [if_neg c13, Nat.add_zero]; done), rfl, rfl⟩

set_option maxHeartbeats 4000000 in
theorem c_X4_spells_w {E : ZE} {n : Nat} {T : ZT} {I : ZI} {L : ZL} {R : ZR} {t : Nat} (hL : TL T R t) {i d : Nat} {row : SV} {adK adV : Nat → Nat} (hS : zSt E adK adV) {x : Nat} (hx : x < 6) : zM E yX4_spells cX4_spells 3 none 5 0 0 [.ref t, .ref (adK x)] n T (mP t I i true d row) L R (zis (none) n T (mP t I i true d row) L R) := by
  refine zM.of (lv0 := [some (.ref t), some (.ref (adK x)), none]) pn_X4 (Nat.le_of_ble_eq_true rfl) rfl fun G g r hin hlt hbn => ?_
  have g : zGd E G cX4_spells RX4 3 5 0 0 := g
  have hL0 := hL
  obtain ⟨hT, h1, ht1, h2, ht2, h3, ht3, h10, ht4, h11, ht5, ht6, ht7, h16, ht8, h17, ht9, h19, ht10⟩ := hL0
  have loop : ∀ r k : Nat, k + r = zkL.getD x 0 → Z E G 0 0 n T (mP t I i true d row) L R 2 [some (.ref t), some (.ref (adK x)), some (.int (nI k))] [] := by
    intro r
    induction r with
    | zero =>
      intro k hk
      have hk2 : nI (zkL.getD x 0) = nI k := by rw [← hk]; rfl
      refine z_il2 g dX4_spells_2 ?_
      refine z_al1 g dX4_spells_3 ?_
      refine z_callT0 g ck_J8_length q1351 q1352 q1353 hS hx (c_J8_length hS hx) rfl (Nat.le_of_ble_eq_true rfl) (by omega) (by omega) (by omega) dX4_spells_4 (z_ans1 ?_)
      rw [hk2]
      refine z_icmp_ge_t (tgt := 25) g dX4_spells_7 (by decide) (Int32.le_refl _) ?_
      refine z_vret g r (by omega) (by omega) dX4_spells_25 ?_
      exact zis.rf
    | succ r ih =>
      intro k hk
      have hl5 := zlen_le hx
      have hkl : k < zkL.getD x 0 := by omega
      refine z_il2 g dX4_spells_2 ?_
      refine z_al1 g dX4_spells_3 ?_
      refine z_callT0 g ck_J8_length q1351 q1352 q1353 hS hx (c_J8_length hS hx) rfl (Nat.le_of_ble_eq_true rfl) (by omega) (by omega) (by omega) dX4_spells_4 (z_ans1 ?_)
      refine z_icmp_ge_f (tgt := 25) g dX4_spells_7 (by decide) (nI_ge hkl (by omega)) ?_
      refine z_al0 g dX4_spells_10 ?_
      refine z_al1 g dX4_spells_11 ?_
      refine z_il2 g dX4_spells_12 ?_
      refine z_callT1 g ck_J8_charAt q1361 q1362 q1363 hS hx (c_J8_charAt hS hx hkl) rfl (Nat.le_of_ble_eq_true rfl) (by omega) (by omega) (by omega) dX4_spells_13 (z_ans1 ?_)
      refine z_callV1 g ck_X4_must q1338 q1340 qs40 cls4 (by assumption) (c_X4_must_w hL) rfl (Nat.le_of_ble_eq_true rfl) (by omega) (by omega) (by omega) dX4_spells_16 (z_ans0 ?_)
      first | with_reducible refine z_inc2 g dX4_spells_19 (zinc1 _) rfl ?_ | refine z_inc2 g dX4_spells_19 rfl rfl ?_
      refine z_goto (tgt := 2) g dX4_spells_22 (by decide) ?_
      exact ih (k + 1) (by omega)
  refine z_iconst g dX4_spells_0 zki_0 ?_
  refine z_is2 g dX4_spells_1 rfl ?_
  exact loop (zkL.getD x 0) 0 (Nat.zero_add _)

set_option maxHeartbeats 4000000 in
theorem c_X4_spells {E : ZE} {n : Nat} {T : ZT} {I : ZI} {L : ZL} {R : ZR} {t : Nat} (hL : TL T R t) {tp : Nat → Int32} {a e : Nat} (ha : I t 5 = nI a) (ha5 : a < 5) (he : I t 7 = nI e) (he100 : e ≤ 100) {i0 d : Nat} {row : SV} (hp : PS a e tp row i0) {adK adV : Nat → Nat} (hS : zSt E adK adV) {x : Nat} (hx : x < 6) : zM E yX4_spells cX4_spells 3 none 5 0 0 [.ref t, .ref (adK x)] n T (mP t I i0 false d row) L R (zis (none) n T (mP t I (spI (spellP tp e (zkB.getD x []) i0)) (spB (spellP tp e (zkB.getD x []) i0)) d row) L R) := by
  refine zM.of (lv0 := [some (.ref t), some (.ref (adK x)), none]) pn_X4 (Nat.le_of_ble_eq_true rfl) rfl fun G g r hin hlt hbn => ?_
  have g : zGd E G cX4_spells RX4 3 5 0 0 := g
  have hL0 := hL
  obtain ⟨hT, h1, ht1, h2, ht2, h3, ht3, h10, ht4, h11, ht5, ht6, ht7, h16, ht8, h17, ht9, h19, ht10⟩ := hL0
  have fin : ∀ (b : Bool) (p : Nat), p = spI (spellP tp e (zkB.getD x []) i0) → b = spB (spellP tp e (zkB.getD x []) i0) → ∀ lv : List (Option Value), Z E G 0 0 n T (mP t I p b d row) L R 25 lv [] := by
    intro b p q1 q2 lv
    subst q1
    subst q2
    refine z_vret g r (by omega) (by omega) dX4_spells_25 ?_
    exact zis.rf
  have wl : ∀ (p : Nat), p = spI (spellP tp e (zkB.getD x []) i0) → true = spB (spellP tp e (zkB.getD x []) i0) → ∀ r k : Nat, k + r = zkL.getD x 0 → Z E G 0 0 n T (mP t I p true d row) L R 2 [some (.ref t), some (.ref (adK x)), some (.int (nI k))] [] := by
    intro p q1 q2 r
    induction r with
    | zero =>
      intro k hk
      have hk2 : nI (zkL.getD x 0) = nI k := by rw [← hk]; rfl
      refine z_il2 g dX4_spells_2 ?_
      refine z_al1 g dX4_spells_3 ?_
      refine z_callT0 g ck_J8_length q1351 q1352 q1353 hS hx (c_J8_length hS hx) rfl (Nat.le_of_ble_eq_true rfl) (by omega) (by omega) (by omega) dX4_spells_4 (z_ans1 ?_)
      rw [hk2]
      refine z_icmp_ge_t (tgt := 25) g dX4_spells_7 (by decide) (Int32.le_refl _) ?_
      exact fin true p q1 q2 _
    | succ r ih =>
      intro k hk
      have hl5 := zlen_le hx
      have hkl : k < zkL.getD x 0 := by omega
      refine z_il2 g dX4_spells_2 ?_
      refine z_al1 g dX4_spells_3 ?_
      refine z_callT0 g ck_J8_length q1351 q1352 q1353 hS hx (c_J8_length hS hx) rfl (Nat.le_of_ble_eq_true rfl) (by omega) (by omega) (by omega) dX4_spells_4 (z_ans1 ?_)
      refine z_icmp_ge_f (tgt := 25) g dX4_spells_7 (by decide) (nI_ge hkl (by omega)) ?_
      refine z_al0 g dX4_spells_10 ?_
      refine z_al1 g dX4_spells_11 ?_
      refine z_il2 g dX4_spells_12 ?_
      refine z_callT1 g ck_J8_charAt q1361 q1362 q1363 hS hx (c_J8_charAt hS hx hkl) rfl (Nat.le_of_ble_eq_true rfl) (by omega) (by omega) (by omega) dX4_spells_13 (z_ans1 ?_)
      refine z_callV1 g ck_X4_must q1338 q1340 qs40 cls4 (by assumption) (c_X4_must_w hL) rfl (Nat.le_of_ble_eq_true rfl) (by omega) (by omega) (by omega) dX4_spells_16 (z_ans0 ?_)
      first | with_reducible refine z_inc2 g dX4_spells_19 (zinc1 _) rfl ?_ | refine z_inc2 g dX4_spells_19 rfl rfl ?_
      refine z_goto (tgt := 2) g dX4_spells_22 (by decide) ?_
      exact ih (k + 1) (by omega)
  have loop : ∀ r k i : Nat, k + r = zkL.getD x 0 → PS a e tp row i → spellP tp e ((zkB.getD x []).drop k) i = (spellP tp e (zkB.getD x []) i0) → Z E G 0 0 n T (mP t I i false d row) L R 2 [some (.ref t), some (.ref (adK x)), some (.int (nI k))] [] := by
    intro r
    induction r with
    | zero =>
      intro k i hk hp hs
      have hk2 : nI (zkL.getD x 0) = nI k := by rw [← hk]; rfl
      rw [List.drop_eq_nil_of_le (by rw [← zkLB hx]; omega)] at hs
      refine z_il2 g dX4_spells_2 ?_
      refine z_al1 g dX4_spells_3 ?_
      refine z_callT0 g ck_J8_length q1351 q1352 q1353 hS hx (c_J8_length hS hx) rfl (Nat.le_of_ble_eq_true rfl) (by omega) (by omega) (by omega) dX4_spells_4 (z_ans1 ?_)
      rw [hk2]
      refine z_icmp_ge_t (tgt := 25) g dX4_spells_7 (by decide) (Int32.le_refl _) ?_
      exact fin false i (by rw [← hs]; rfl) (by rw [← hs]; rfl) _
    | succ r ih =>
      intro k i hk hp hs
      have hl5 := zlen_le hx
      have hkl : k < zkL.getD x 0 := by omega
      have hc0 := zkB_pos hx hkl
      rw [drop_get (by rw [← zkLB hx]; exact hkl), show ∀ (c : Int32) (r : List Int32), spellP tp e (c :: r) i = if hrP tp e i = c then spellP tp e r (i + 1) else .inl i from fun _ _ => rfl] at hs
      by_cases hq : hrP tp e i = (zkB.getD x []).getD k 0
      · skip
        refine z_il2 g dX4_spells_2 ?_
        refine z_al1 g dX4_spells_3 ?_
        refine z_callT0 g ck_J8_length q1351 q1352 q1353 hS hx (c_J8_length hS hx) rfl (Nat.le_of_ble_eq_true rfl) (by omega) (by omega) (by omega) dX4_spells_4 (z_ans1 ?_)
        refine z_icmp_ge_f (tgt := 25) g dX4_spells_7 (by decide) (nI_ge hkl (by omega)) ?_
        refine z_al0 g dX4_spells_10 ?_
        refine z_al1 g dX4_spells_11 ?_
        refine z_il2 g dX4_spells_12 ?_
        refine z_callT1 g ck_J8_charAt q1361 q1362 q1363 hS hx (c_J8_charAt hS hx hkl) rfl (Nat.le_of_ble_eq_true rfl) (by omega) (by omega) (by omega) dX4_spells_13 (z_ans1 ?_)
        refine z_callV1 g ck_X4_must q1338 q1340 qs40 cls4 (by assumption) (c_X4_must hL ha ha5 he he100 hp hc0) rfl (Nat.le_of_ble_eq_true rfl) (by omega) (by omega) (by omega) dX4_spells_16 (z_ans0 ?_)
        rw [if_pos hq]
        first | with_reducible refine z_inc2 g dX4_spells_19 (zinc1 _) rfl ?_ | refine z_inc2 g dX4_spells_19 rfl rfl ?_
        refine z_goto (tgt := 2) g dX4_spells_22 (by decide) ?_
        obtain ⟨q, hq1, hq2⟩ := nI_of (Int32.not_lt.mpr hc0)
        exact ih (k + 1) (i + 1) (by omega) (hp.step (hr_lt (hq.trans hq2) hq1)) (by rw [if_pos hq] at hs; exact hs)
      · skip
        refine z_il2 g dX4_spells_2 ?_
        refine z_al1 g dX4_spells_3 ?_
        refine z_callT0 g ck_J8_length q1351 q1352 q1353 hS hx (c_J8_length hS hx) rfl (Nat.le_of_ble_eq_true rfl) (by omega) (by omega) (by omega) dX4_spells_4 (z_ans1 ?_)
        refine z_icmp_ge_f (tgt := 25) g dX4_spells_7 (by decide) (nI_ge hkl (by omega)) ?_
        refine z_al0 g dX4_spells_10 ?_
        refine z_al1 g dX4_spells_11 ?_
        refine z_il2 g dX4_spells_12 ?_
        refine z_callT1 g ck_J8_charAt q1361 q1362 q1363 hS hx (c_J8_charAt hS hx hkl) rfl (Nat.le_of_ble_eq_true rfl) (by omega) (by omega) (by omega) dX4_spells_13 (z_ans1 ?_)
        refine z_callV1 g ck_X4_must q1338 q1340 qs40 cls4 (by assumption) (c_X4_must hL ha ha5 he he100 hp hc0) rfl (Nat.le_of_ble_eq_true rfl) (by omega) (by omega) (by omega) dX4_spells_16 (z_ans0 ?_)
        rw [if_neg hq]
        rw [if_neg hq] at hs
        first | with_reducible refine z_inc2 g dX4_spells_19 (zinc1 _) rfl ?_ | refine z_inc2 g dX4_spells_19 rfl rfl ?_
        refine z_goto (tgt := 2) g dX4_spells_22 (by decide) ?_
        exact wl i (by rw [← hs]; rfl) (by rw [← hs]; rfl) r (k + 1) (by omega)
  refine z_iconst g dX4_spells_0 zki_0 ?_
  refine z_is2 g dX4_spells_1 rfl ?_
  exact loop (zkL.getD x 0) 0 i0 (Nat.zero_add _) hp rfl

set_option maxHeartbeats 4000000 in
theorem c_X4_figures_w {E : ZE} {n : Nat} {T : ZT} {I : ZI} {L : ZL} {R : ZR} {t : Nat} (hL : TL T R t) {i d : Nat} {row : SV} : zM E yX4_figures cX4_figures 3 (some (Jvm.ClassFile.FieldType.int)) 1 0 0 [.ref t] n T (mP t I i true d row) L R (zis (some (.int (nI 0))) n T (mP t I i true d row) L R) := by
  refine zM.of (lv0 := [some (.ref t), none, none]) pn_X4 (Nat.le_of_ble_eq_true rfl) rfl fun G g r hin hlt hbn => ?_
  have g : zGd E G cX4_figures RX4 3 1 0 0 := g
  have hL0 := hL
  obtain ⟨hT, h1, ht1, h2, ht2, h3, ht3, h10, ht4, h11, ht5, ht6, ht7, h16, ht8, h17, ht9, h19, ht10⟩ := hL0
  refine z_al0 g dX4_figures_0 ?_
  refine z_al0 g dX4_figures_1 ?_
  refine zg4_8 g q1250 (Or.inl rfl) (by assumption) dX4_figures_2 ?_
  rw [mP_8]
  refine z_if_ne_t (tgt := 22) g dX4_figures_5 (by decide) (by decide +kernel) ?_
  refine z_iconst g dX4_figures_22 zki_1 ?_
  refine z_goto (tgt := 27) g dX4_figures_23 (by decide) ?_
  refine zs4_8 g q1250 (Or.inl rfl) (by assumption) dX4_figures_27 zfit_1 ?_
  first | refine z_mem rfl rfl mP_u8t rfl rfl ?_ | refine z_mem rfl rfl mP_u8f rfl rfl ?_ | skip
  refine z_iconst g dX4_figures_30 zki_0 ?_
  refine z_is1 g dX4_figures_31 rfl ?_
  refine z_iconst g dX4_figures_32 zki_0 ?_
  refine z_is2 g dX4_figures_33 rfl ?_
  refine z_il2 g dX4_figures_34 ?_
  refine z_iconst g dX4_figures_35 zki_2 ?_
  refine z_icmp_ge_f (tgt := 97) g dX4_figures_36 (by decide) (by decide +kernel) ?_
  refine z_al0 g dX4_figures_39 ?_
  refine zg4_8 g q1250 (Or.inl rfl) (by assumption) dX4_figures_40 ?_
  rw [mP_8]
  refine z_if_ne_t (tgt := 97) g dX4_figures_43 (by decide) (by decide +kernel) ?_
  refine z_il1 g dX4_figures_97 ?_
  refine z_iret g r (by omega) (by omega) dX4_figures_98 ?_
  exact zis.rf

set_option maxHeartbeats 4000000 in
theorem c_X4_figures {E : ZE} {n : Nat} {T : ZT} {I : ZI} {L : ZL} {R : ZR} {t : Nat} (hL : TL T R t) {tp : Nat → Int32} {a e : Nat} (ha : I t 5 = nI a) (ha5 : a < 5) (he : I t 7 = nI e) (he100 : e ≤ 100) {i d : Nat} {row : SV} (hp : PS a e tp row i) : zM E yX4_figures cX4_figures 3 (some (Jvm.ClassFile.FieldType.int)) 1 0 0 [.ref t] n T (mP t I i false d row) L R (zis (some (.int (nI (numV (numP tp e i))))) n T (mP t I (prI (numP tp e i)) (prB (numP tp e i)) d row) L R) := by
  refine zM.of (lv0 := [some (.ref t), none, none]) pn_X4 (Nat.le_of_ble_eq_true rfl) rfl fun G g r hin hlt hbn => ?_
  have g : zGd E G cX4_figures RX4 3 1 0 0 := g
  have hL0 := hL
  obtain ⟨hT, h1, ht1, h2, ht2, h3, ht3, h10, ht4, h11, ht5, ht6, ht7, h16, ht8, h17, ht9, h19, ht10⟩ := hL0
  have end2 : ∀ j v : Nat, (numP tp e i) = .inr (j, v) → Z E G 0 0 n T (mP t I j false d row) L R 34 [some (.ref t), some (.int (nI v)), some (.int (nI 2))] [] := by
    intro j v hr
    refine z_il2 g dX4_figures_34 ?_
    refine z_iconst g dX4_figures_35 zki_2 ?_
    refine z_icmp_ge_t (tgt := 97) g dX4_figures_36 (by decide) (by decide +kernel) ?_
    refine z_il1 g dX4_figures_97 ?_
    refine z_iret g r (by omega) (by omega) dX4_figures_98 ?_
    rw [hr]
    exact zis.rf
  by_cases d0 : digB (hrP tp e i) = true
  · obtain ⟨x, x1, x2, x3⟩ := dig_of d0
    have hie := dig_lt d0
    have hp1 := hp.step hie
    have one : Z E G 0 0 n T (mP t I (i + 1) false d row) L R 34 [some (.ref t), some (.int (nI (x - 48))), some (.int (nI 1))] [] := by
      by_cases d1 : digB (hrP tp e (i + 1)) = true
      · obtain ⟨y, y1, y2, y3⟩ := dig_of d1
        have hie2 := dig_lt d1
        by_cases hv : 0 < x - 48
        · skip
          refine z_il2 g dX4_figures_34 ?_
          refine z_iconst g dX4_figures_35 zki_2 ?_
          refine z_icmp_ge_f (tgt := 97) g dX4_figures_36 (by decide) (by decide +kernel) ?_
          refine z_al0 g dX4_figures_39 ?_
          refine zg4_8 g q1250 (Or.inl rfl) (by assumption) dX4_figures_40 ?_
          rw [mP_8]
          refine z_if_ne_f (tgt := 97) g dX4_figures_43 (by decide) (rfl) ?_
          refine z_al0 g dX4_figures_46 ?_
          refine z_callV0 g ck_X4_here q1330 q1332 qs38 cls4 (by assumption) (c_X4_here hL ha ha5 he he100 hp1) rfl (Nat.le_of_ble_eq_true rfl) (by omega) (by omega) (by omega) dX4_figures_47 (z_ans1 ?_)
          refine z_bipush g dX4_figures_50 zkb_48 ?_
          refine z_bipush g dX4_figures_52 zkb_57 ?_
          refine z_callS3 g ck_X4_in q1319 q1320 c_X4_in rfl (Nat.le_of_ble_eq_true rfl) (by omega) (by omega) (by omega) dX4_figures_54 (z_ans1 ?_)
          refine z_if_eq_f (tgt := 97) g dX4_figures_57 (by decide) (by rw [show inB (hrP tp e (i + 1)) (nI 48) (nI 57) = true from d1]; decide +kernel) ?_
          refine z_il2 g dX4_figures_60 ?_
          refine z_if_eq_f (tgt := 68) g dX4_figures_61 (by decide) (by decide +kernel) ?_
          refine z_il1 g dX4_figures_64 ?_
          refine z_if_le_f (tgt := 97) g dX4_figures_65 (by decide) (nI_nle hv (by omega)) ?_
          refine z_bipush g dX4_figures_68 zkb_10 ?_
          refine z_il1 g dX4_figures_70 ?_
          first | with_reducible refine z_imulN g dX4_figures_71 ?_ | refine z_imul g dX4_figures_71 ?_
          refine z_al0 g dX4_figures_72 ?_
          refine z_callV0 g ck_X4_here q1330 q1332 qs38 cls4 (by assumption) (c_X4_here hL ha ha5 he he100 hp1) rfl (Nat.le_of_ble_eq_true rfl) (by omega) (by omega) (by omega) dX4_figures_73 (z_ans1 ?_)
          rw [y3]
          first | with_reducible refine z_iaddN g dX4_figures_76 ?_ | refine z_iadd g dX4_figures_76 ?_
          refine z_bipush g dX4_figures_77 zkb_48 ?_
          first | with_reducible refine z_isubN g dX4_figures_79 (by omega) ?_ | refine z_isub g dX4_figures_79 ?_
          refine z_top (show _ = nI (10 * (x - 48) + (y - 48)) from by rw [show 10 * (x - 48) + y - 48 = 10 * (x - 48) + (y - 48) by omega]) ?_
          refine z_is1 g dX4_figures_80 rfl ?_
          refine z_al0 g dX4_figures_81 ?_
          refine z_dup g dX4_figures_82 rfl ?_
          refine zg4_6 g q1248 (Or.inl rfl) (by assumption) dX4_figures_83 ?_
          rw [mP_6]
          refine z_iconst g dX4_figures_86 zki_1 ?_
          first | with_reducible refine z_iaddN g dX4_figures_87 ?_ | refine z_iadd g dX4_figures_87 ?_
          refine zs4_6 g q1248 (Or.inl rfl) (by assumption) dX4_figures_88 ?_
          refine z_mem rfl rfl mP_u6 rfl rfl ?_
          first | with_reducible refine z_inc2 g dX4_figures_91 (zinc1 _) rfl ?_ | refine z_inc2 g dX4_figures_91 rfl rfl ?_
          refine z_goto (tgt := 34) g dX4_figures_94 (by decide) ?_
          exact end2 (i + 2) (10 * (x - 48) + (y - 48)) (by unfold numP; rw [if_pos d0, if_pos ⟨by rw [x3, cl_nI (by omega)]; exact hv, d1⟩, x3, y3, cl_nI (by omega), cl_nI (by omega)])
        · skip
          refine z_il2 g dX4_figures_34 ?_
          refine z_iconst g dX4_figures_35 zki_2 ?_
          refine z_icmp_ge_f (tgt := 97) g dX4_figures_36 (by decide) (by decide +kernel) ?_
          refine z_al0 g dX4_figures_39 ?_
          refine zg4_8 g q1250 (Or.inl rfl) (by assumption) dX4_figures_40 ?_
          rw [mP_8]
          refine z_if_ne_f (tgt := 97) g dX4_figures_43 (by decide) (rfl) ?_
          refine z_al0 g dX4_figures_46 ?_
          refine z_callV0 g ck_X4_here q1330 q1332 qs38 cls4 (by assumption) (c_X4_here hL ha ha5 he he100 hp1) rfl (Nat.le_of_ble_eq_true rfl) (by omega) (by omega) (by omega) dX4_figures_47 (z_ans1 ?_)
          refine z_bipush g dX4_figures_50 zkb_48 ?_
          refine z_bipush g dX4_figures_52 zkb_57 ?_
          refine z_callS3 g ck_X4_in q1319 q1320 c_X4_in rfl (Nat.le_of_ble_eq_true rfl) (by omega) (by omega) (by omega) dX4_figures_54 (z_ans1 ?_)
          refine z_if_eq_f (tgt := 97) g dX4_figures_57 (by decide) (by rw [show inB (hrP tp e (i + 1)) (nI 48) (nI 57) = true from d1]; decide +kernel) ?_
          refine z_il2 g dX4_figures_60 ?_
          refine z_if_eq_f (tgt := 68) g dX4_figures_61 (by decide) (by decide +kernel) ?_
          refine z_il1 g dX4_figures_64 ?_
          refine z_if_le_t (tgt := 97) g dX4_figures_65 (by decide) (by rw [show x - 48 = 0 by omega]; decide +kernel) ?_
          refine z_il1 g dX4_figures_97 ?_
          refine z_iret g r (by omega) (by omega) dX4_figures_98 ?_
          have hr : (numP tp e i) = .inr (i + 1, x - 48) := by unfold numP; rw [if_pos d0, if_neg (fun q => hv (by rw [x3, cl_nI (by omega)] at q; exact q.1)), x3, cl_nI (by omega)]
          rw [hr]
          exact zis.rf
      · skip
        refine z_il2 g dX4_figures_34 ?_
        refine z_iconst g dX4_figures_35 zki_2 ?_
        refine z_icmp_ge_f (tgt := 97) g dX4_figures_36 (by decide) (by decide +kernel) ?_
        refine z_al0 g dX4_figures_39 ?_
        refine zg4_8 g q1250 (Or.inl rfl) (by assumption) dX4_figures_40 ?_
        rw [mP_8]
        refine z_if_ne_f (tgt := 97) g dX4_figures_43 (by decide) (rfl) ?_
        refine z_al0 g dX4_figures_46 ?_
        refine z_callV0 g ck_X4_here q1330 q1332 qs38 cls4 (by assumption) (c_X4_here hL ha ha5 he he100 hp1) rfl (Nat.le_of_ble_eq_true rfl) (by omega) (by omega) (by omega) dX4_figures_47 (z_ans1 ?_)
        refine z_bipush g dX4_figures_50 zkb_48 ?_
        refine z_bipush g dX4_figures_52 zkb_57 ?_
        refine z_callS3 g ck_X4_in q1319 q1320 c_X4_in rfl (Nat.le_of_ble_eq_true rfl) (by omega) (by omega) (by omega) dX4_figures_54 (z_ans1 ?_)
        refine z_if_eq_t (tgt := 97) g dX4_figures_57 (by decide) (by rw [show inB (hrP tp e (i + 1)) (nI 48) (nI 57) = false from Bool.eq_false_iff.mpr d1]; decide +kernel) ?_
        refine z_il1 g dX4_figures_97 ?_
        refine z_iret g r (by omega) (by omega) dX4_figures_98 ?_
        have hr : (numP tp e i) = .inr (i + 1, x - 48) := by unfold numP; rw [if_pos d0, if_neg (fun q => d1 q.2), x3, cl_nI (by omega)]
        rw [hr]
        exact zis.rf
    have zero : Z E G 0 0 n T (mP t I i false d row) L R 34 [some (.ref t), some (.int (nI 0)), some (.int (nI 0))] [] := by
      refine z_il2 g dX4_figures_34 ?_
      refine z_iconst g dX4_figures_35 zki_2 ?_
      refine z_icmp_ge_f (tgt := 97) g dX4_figures_36 (by decide) (by decide +kernel) ?_
      refine z_al0 g dX4_figures_39 ?_
      refine zg4_8 g q1250 (Or.inl rfl) (by assumption) dX4_figures_40 ?_
      rw [mP_8]
      refine z_if_ne_f (tgt := 97) g dX4_figures_43 (by decide) (rfl) ?_
      refine z_al0 g dX4_figures_46 ?_
      refine z_callV0 g ck_X4_here q1330 q1332 qs38 cls4 (by assumption) (c_X4_here hL ha ha5 he he100 hp) rfl (Nat.le_of_ble_eq_true rfl) (by omega) (by omega) (by omega) dX4_figures_47 (z_ans1 ?_)
      refine z_bipush g dX4_figures_50 zkb_48 ?_
      refine z_bipush g dX4_figures_52 zkb_57 ?_
      refine z_callS3 g ck_X4_in q1319 q1320 c_X4_in rfl (Nat.le_of_ble_eq_true rfl) (by omega) (by omega) (by omega) dX4_figures_54 (z_ans1 ?_)
      refine z_if_eq_f (tgt := 97) g dX4_figures_57 (by decide) (by rw [show inB (hrP tp e i) (nI 48) (nI 57) = true from d0]; decide +kernel) ?_
      refine z_il2 g dX4_figures_60 ?_
      refine z_if_eq_t (tgt := 68) g dX4_figures_61 (by decide) (rfl) ?_
      refine z_bipush g dX4_figures_68 zkb_10 ?_
      refine z_il1 g dX4_figures_70 ?_
      first | with_reducible refine z_imulN g dX4_figures_71 ?_ | refine z_imul g dX4_figures_71 ?_
      refine z_al0 g dX4_figures_72 ?_
      refine z_callV0 g ck_X4_here q1330 q1332 qs38 cls4 (by assumption) (c_X4_here hL ha ha5 he he100 hp) rfl (Nat.le_of_ble_eq_true rfl) (by omega) (by omega) (by omega) dX4_figures_73 (z_ans1 ?_)
      rw [x3]
      first | with_reducible refine z_iaddN g dX4_figures_76 ?_ | refine z_iadd g dX4_figures_76 ?_
      refine z_bipush g dX4_figures_77 zkb_48 ?_
      first | with_reducible refine z_isubN g dX4_figures_79 (by omega) ?_ | refine z_isub g dX4_figures_79 ?_
      refine z_top (show _ = nI (x - 48) from by rw [show 10 * 0 + x - 48 = x - 48 by omega]) ?_
      refine z_is1 g dX4_figures_80 rfl ?_
      refine z_al0 g dX4_figures_81 ?_
      refine z_dup g dX4_figures_82 rfl ?_
      refine zg4_6 g q1248 (Or.inl rfl) (by assumption) dX4_figures_83 ?_
      rw [mP_6]
      refine z_iconst g dX4_figures_86 zki_1 ?_
      first | with_reducible refine z_iaddN g dX4_figures_87 ?_ | refine z_iadd g dX4_figures_87 ?_
      refine zs4_6 g q1248 (Or.inl rfl) (by assumption) dX4_figures_88 ?_
      refine z_mem rfl rfl mP_u6 rfl rfl ?_
      first | with_reducible refine z_inc2 g dX4_figures_91 (zinc1 _) rfl ?_ | refine z_inc2 g dX4_figures_91 rfl rfl ?_
      refine z_goto (tgt := 34) g dX4_figures_94 (by decide) ?_
      exact one
    refine z_al0 g dX4_figures_0 ?_
    refine z_al0 g dX4_figures_1 ?_
    refine zg4_8 g q1250 (Or.inl rfl) (by assumption) dX4_figures_2 ?_
    rw [mP_8]
    refine z_if_ne_f (tgt := 22) g dX4_figures_5 (by decide) (rfl) ?_
    refine z_al0 g dX4_figures_8 ?_
    refine z_callV0 g ck_X4_here q1330 q1332 qs38 cls4 (by assumption) (c_X4_here hL ha ha5 he he100 hp) rfl (Nat.le_of_ble_eq_true rfl) (by omega) (by omega) (by omega) dX4_figures_9 (z_ans1 ?_)
    refine z_bipush g dX4_figures_12 zkb_48 ?_
    refine z_bipush g dX4_figures_14 zkb_57 ?_
    refine z_callS3 g ck_X4_in q1319 q1320 c_X4_in rfl (Nat.le_of_ble_eq_true rfl) (by omega) (by omega) (by omega) dX4_figures_16 (z_ans1 ?_)
    refine z_if_ne_t (tgt := 26) g dX4_figures_19 (by decide) (by rw [show inB (hrP tp e i) (nI 48) (nI 57) = true from d0]; decide +kernel) ?_
    refine z_iconst g dX4_figures_26 zki_0 ?_
    refine zs4_8 g q1250 (Or.inl rfl) (by assumption) dX4_figures_27 zfit_0 ?_
    first | refine z_mem rfl rfl mP_u8t rfl rfl ?_ | refine z_mem rfl rfl mP_u8f rfl rfl ?_ | skip
    refine z_iconst g dX4_figures_30 zki_0 ?_
    refine z_is1 g dX4_figures_31 rfl ?_
    refine z_iconst g dX4_figures_32 zki_0 ?_
    refine z_is2 g dX4_figures_33 rfl ?_
    exact zero
  · skip
    refine z_al0 g dX4_figures_0 ?_
    refine z_al0 g dX4_figures_1 ?_
    refine zg4_8 g q1250 (Or.inl rfl) (by assumption) dX4_figures_2 ?_
    rw [mP_8]
    refine z_if_ne_f (tgt := 22) g dX4_figures_5 (by decide) (rfl) ?_
    refine z_al0 g dX4_figures_8 ?_
    refine z_callV0 g ck_X4_here q1330 q1332 qs38 cls4 (by assumption) (c_X4_here hL ha ha5 he he100 hp) rfl (Nat.le_of_ble_eq_true rfl) (by omega) (by omega) (by omega) dX4_figures_9 (z_ans1 ?_)
    refine z_bipush g dX4_figures_12 zkb_48 ?_
    refine z_bipush g dX4_figures_14 zkb_57 ?_
    refine z_callS3 g ck_X4_in q1319 q1320 c_X4_in rfl (Nat.le_of_ble_eq_true rfl) (by omega) (by omega) (by omega) dX4_figures_16 (z_ans1 ?_)
    refine z_if_ne_f (tgt := 26) g dX4_figures_19 (by decide) (by rw [show inB (hrP tp e i) (nI 48) (nI 57) = false from Bool.eq_false_iff.mpr d0]; decide +kernel) ?_
    refine z_iconst g dX4_figures_22 zki_1 ?_
    refine z_goto (tgt := 27) g dX4_figures_23 (by decide) ?_
    refine zs4_8 g q1250 (Or.inl rfl) (by assumption) dX4_figures_27 zfit_1 ?_
    first | refine z_mem rfl rfl mP_u8t rfl rfl ?_ | refine z_mem rfl rfl mP_u8f rfl rfl ?_ | skip
    refine z_iconst g dX4_figures_30 zki_0 ?_
    refine z_is1 g dX4_figures_31 rfl ?_
    refine z_iconst g dX4_figures_32 zki_0 ?_
    refine z_is2 g dX4_figures_33 rfl ?_
    refine z_il2 g dX4_figures_34 ?_
    refine z_iconst g dX4_figures_35 zki_2 ?_
    refine z_icmp_ge_f (tgt := 97) g dX4_figures_36 (by decide) (by decide +kernel) ?_
    refine z_al0 g dX4_figures_39 ?_
    refine zg4_8 g q1250 (Or.inl rfl) (by assumption) dX4_figures_40 ?_
    rw [mP_8]
    refine z_if_ne_t (tgt := 97) g dX4_figures_43 (by decide) (by decide +kernel) ?_
    refine z_il1 g dX4_figures_97 ?_
    refine z_iret g r (by omega) (by omega) dX4_figures_98 ?_
    have hr : (numP tp e i) = .inl i := if_neg d0
    rw [hr]
    exact zis.rf

def amV : Option Nat → Int32
  | none => -1
  | some w => nI w
def amI (i : Nat) : Option Nat → Nat
  | none => i
  | some _ => i + 1
set_option maxHeartbeats 4000000 in
theorem c_X4_among {E : ZE} {n : Nat} {T : ZT} {I : ZI} {L : ZL} {R : ZR} {t : Nat} (hL : TL T R t) {tp : Nat → Int32} {a e : Nat} (ha : I t 5 = nI a) (ha5 : a < 5) (he : I t 7 = nI e) (he100 : e ≤ 100) {i d : Nat} {row : SV} (hp : PS a e tp row i) {adK adV : Nat → Nat} (hS : zSt E adK adV) {x : Nat} (hx : x < 6) : zM E yX4_among cX4_among 3 (some (Jvm.ClassFile.FieldType.int)) 5 0 0 [.ref t, .ref (adK x)] n T (mP t I i false d row) L R (zis (some (.int (amV (amg (hrP tp e i) (zkB.getD x []) 0)))) n T (mP t I (amI i (amg (hrP tp e i) (zkB.getD x []) 0)) false d row) L R) := by
  refine zM.of (lv0 := [some (.ref t), some (.ref (adK x)), none]) pn_X4 (Nat.le_of_ble_eq_true rfl) rfl fun G g r hin hlt hbn => ?_
  have g : zGd E G cX4_among RX4 3 5 0 0 := g
  have hL0 := hL
  obtain ⟨hT, h1, ht1, h2, ht2, h3, ht3, h10, ht4, h11, ht5, ht6, ht7, h16, ht8, h17, ht9, h19, ht10⟩ := hL0
  have loop : ∀ m k : Nat, k + m = zkL.getD x 0 → amg (hrP tp e i) ((zkB.getD x []).drop k) k = (amg (hrP tp e i) (zkB.getD x []) 0) → Z E G 0 0 n T (mP t I i false d row) L R 2 [some (.ref t), some (.ref (adK x)), some (.int (nI k))] [] := by
    intro m
    induction m with
    | zero =>
      intro k hk hs
      have hk2 : nI (zkL.getD x 0) = nI k := by rw [← hk]; rfl
      rw [List.drop_eq_nil_of_le (by rw [← zkLB hx]; omega)] at hs
      refine z_il2 g dX4_among_2 ?_
      refine z_al1 g dX4_among_3 ?_
      refine z_callT0 g ck_J8_length q1351 q1352 q1353 hS hx (c_J8_length hS hx) rfl (Nat.le_of_ble_eq_true rfl) (by omega) (by omega) (by omega) dX4_among_4 (z_ans1 ?_)
      rw [hk2]
      refine z_icmp_ge_t (tgt := 40) g dX4_among_7 (by decide) (Int32.le_refl _) ?_
      refine z_iconst g dX4_among_40 zki_m1 ?_
      refine z_iret g r (by omega) (by omega) dX4_among_41 ?_
      rw [← hs]
      exact zis.rf
    | succ m ih =>
      intro k hk hs
      have hl5 := zlen_le hx
      have hkl : k < zkL.getD x 0 := by omega
      rw [drop_get (by rw [← zkLB hx]; exact hkl), show ∀ (c y : Int32) (r : List Int32), amg c (y :: r) k = if c = y then some k else amg c r (k + 1) from fun _ _ _ => rfl] at hs
      refine z_il2 g dX4_among_2 ?_
      refine z_al1 g dX4_among_3 ?_
      refine z_callT0 g ck_J8_length q1351 q1352 q1353 hS hx (c_J8_length hS hx) rfl (Nat.le_of_ble_eq_true rfl) (by omega) (by omega) (by omega) dX4_among_4 (z_ans1 ?_)
      refine z_icmp_ge_f (tgt := 40) g dX4_among_7 (by decide) (nI_ge hkl (by omega)) ?_
      refine z_al0 g dX4_among_10 ?_
      refine z_callV0 g ck_X4_here q1330 q1332 qs38 cls4 (by assumption) (c_X4_here hL ha ha5 he he100 hp) rfl (Nat.le_of_ble_eq_true rfl) (by omega) (by omega) (by omega) dX4_among_11 (z_ans1 ?_)
      refine z_al1 g dX4_among_14 ?_
      refine z_il2 g dX4_among_15 ?_
      refine z_callT1 g ck_J8_charAt q1361 q1362 q1363 hS hx (c_J8_charAt hS hx hkl) rfl (Nat.le_of_ble_eq_true rfl) (by omega) (by omega) (by omega) dX4_among_16 (z_ans1 ?_)
      refine z_icmp_ne (tgt := 34) g dX4_among_19 (by decide) (fun c19 => ?_) (fun c19 => ?_)
      · skip
        first | with_reducible refine z_inc2 g dX4_among_34 (zinc1 _) rfl ?_ | refine z_inc2 g dX4_among_34 rfl rfl ?_
        refine z_goto (tgt := 2) g dX4_among_37 (by decide) ?_
        exact ih (k + 1) (by omega) (by rw [if_neg c19] at hs; exact hs)
      · skip
        refine z_al0 g dX4_among_22 ?_
        refine z_dup g dX4_among_23 rfl ?_
        refine zg4_6 g q1248 (Or.inl rfl) (by assumption) dX4_among_24 ?_
        rw [mP_6]
        refine z_iconst g dX4_among_27 zki_1 ?_
        first | with_reducible refine z_iaddN g dX4_among_28 ?_ | refine z_iadd g dX4_among_28 ?_
        refine zs4_6 g q1248 (Or.inl rfl) (by assumption) dX4_among_29 ?_
        refine z_mem rfl rfl mP_u6 rfl rfl ?_
        refine z_il2 g dX4_among_32 ?_
        refine z_iret g r (by omega) (by omega) dX4_among_33 ?_
        rw [if_pos c19] at hs
        rw [← hs]
        exact zis.rf
  refine z_iconst g dX4_among_0 zki_0 ?_
  refine z_is2 g dX4_among_1 rfl ?_
  exact loop (zkL.getD x 0) 0 (Nat.zero_add _) rfl

set_option maxHeartbeats 4000000 in
theorem c_X4_emits_w {E : ZE} {n : Nat} {T : ZT} {I : ZI} {L : ZL} {R : ZR} {t : Nat} (hL : TL T R t) {i d : Nat} {row : SV} {c : Int32} : zM E yX4_emits cX4_emits 2 none 0 0 0 [.ref t, .int c] n T (mP t I i true d row) L R (zis (none) n T (mP t I i true d row) L R) := by
  refine zM.of (lv0 := [some (.ref t), some (.int c)]) pn_X4 (Nat.le_of_ble_eq_true rfl) rfl fun G g r hin hlt hbn => ?_
  have g : zGd E G cX4_emits RX4 2 0 0 0 := g
  have hL0 := hL
  obtain ⟨hT, h1, ht1, h2, ht2, h3, ht3, h10, ht4, h11, ht5, ht6, ht7, h16, ht8, h17, ht9, h19, ht10⟩ := hL0
  refine z_al0 g dX4_emits_0 ?_
  refine zg4_8 g q1250 (Or.inl rfl) (by assumption) dX4_emits_1 ?_
  rw [mP_8]
  refine z_if_ne_t (tgt := 56) g dX4_emits_4 (by decide) (by decide +kernel) ?_
  refine z_vret g r (by omega) (by omega) dX4_emits_56 ?_
  exact zis.rf

set_option maxHeartbeats 4000000 in
theorem c_X4_emits {E : ZE} {n : Nat} {T : ZT} {I : ZI} {L : ZL} {R : ZR} {t : Nat} (hL : TL T R t) {tp : Nat → Int32} {a e : Nat} (ha : I t 5 = nI a) (ha5 : a < 5) (he : I t 7 = nI e) (he100 : e ≤ 100) {i d : Nat} {row : SV} (hp : PS a e tp row i) {s : Int32} : zM E yX4_emits cX4_emits 2 none 0 0 0 [.ref t, .int s] n T (mP t I i false d row) L R (zis (none) n T (mP t I i false d (putS a row s)) L R) := by
  refine zM.of (lv0 := [some (.ref t), some (.int s)]) pn_X4 (Nat.le_of_ble_eq_true rfl) rfl fun G g r hin hlt hbn => ?_
  have g : zGd E G cX4_emits RX4 2 0 0 0 := g
  have hL0 := hL
  obtain ⟨hT, h1, ht1, h2, ht2, h3, ht3, h10, ht4, h11, ht5, ht6, ht7, h16, ht8, h17, ht9, h19, ht10⟩ := hL0
  obtain ⟨hi, htp, c, hci, hc⟩ := hp
  have hpt := (putS_c (s := s) hc (by omega)).2.2
  refine z_al0 g dX4_emits_0 ?_
  refine zg4_8 g q1250 (Or.inl rfl) (by assumption) dX4_emits_1 ?_
  rw [mP_8]
  refine z_if_ne_f (tgt := 56) g dX4_emits_4 (by decide) (rfl) ?_
  refine z_al0 g dX4_emits_7 ?_
  refine zg4_1 g q1243 (Or.inl rfl) (by assumption) dX4_emits_8 (by assumption) ?_
  refine z_sipush g dX4_emits_11 zks_189 ?_
  refine z_sipush g dX4_emits_14 zks_140 ?_
  refine z_al0 g dX4_emits_17 ?_
  refine zg4_5 g q1247 (Or.inl rfl) (by assumption) dX4_emits_18 ?_
  rw [mP_5, ha]
  first | with_reducible refine z_imulN g dX4_emits_21 ?_ | refine z_imul g dX4_emits_21 ?_
  first | with_reducible refine z_iaddN g dX4_emits_22 ?_ | refine z_iadd g dX4_emits_22 ?_
  refine z_al0 g dX4_emits_23 ?_
  refine zg4_1 g q1243 (Or.inl rfl) (by assumption) dX4_emits_24 (by assumption) ?_
  refine z_sipush g dX4_emits_27 zks_184 ?_
  refine z_al0 g dX4_emits_30 ?_
  refine zg4_5 g q1247 (Or.inl rfl) (by assumption) dX4_emits_31 ?_
  rw [mP_5, ha]
  first | with_reducible refine z_iaddN g dX4_emits_34 ?_ | refine z_iadd g dX4_emits_34 ?_
  refine z_iald (k := 0) g rfl (by assumption) (by omega) (by omega) dX4_emits_35 ?_
  refine z_top (show _ = nI c from by rw [mP_r]; exact hc) ?_
  first | with_reducible refine z_iaddN g dX4_emits_36 ?_ | refine z_iadd g dX4_emits_36 ?_
  refine z_il1 g dX4_emits_37 ?_
  refine z_iast (k := 0) g rfl (by decide) (by assumption) (by omega) (by omega) dX4_emits_38 ?_
  rw [mP_r]
  refine z_mem rfl rfl mP_ur rfl rfl ?_
  refine z_al0 g dX4_emits_39 ?_
  refine zg4_1 g q1243 (Or.inl rfl) (by assumption) dX4_emits_40 (by assumption) ?_
  refine z_sipush g dX4_emits_43 zks_184 ?_
  refine z_al0 g dX4_emits_46 ?_
  refine zg4_5 g q1247 (Or.inl rfl) (by assumption) dX4_emits_47 ?_
  rw [mP_5, ha]
  first | with_reducible refine z_iaddN g dX4_emits_50 ?_ | refine z_iadd g dX4_emits_50 ?_
  refine z_dup2 g dX4_emits_51 rfl rfl ?_
  refine z_iald (k := 0) g rfl (by assumption) (by omega) (by omega) dX4_emits_52 ?_
  refine z_top (show _ = nI c from by rw [mP_r, zp_n (by omega)]; exact hc) ?_
  refine z_iconst g dX4_emits_53 zki_1 ?_
  first | with_reducible refine z_iaddN g dX4_emits_54 ?_ | refine z_iadd g dX4_emits_54 ?_
  refine z_iast (k := 0) g rfl (by decide) (by assumption) (by omega) (by omega) dX4_emits_55 ?_
  rw [mP_r]
  refine z_mem rfl rfl mP_ur rfl rfl ?_
  refine z_vret g r (by omega) (by omega) dX4_emits_56 ?_
  exact ⟨rfl, rfl, rfl, by rw [hpt], rfl, rfl⟩

