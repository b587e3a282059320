/-! ===== the twin: clauses, inn ===== -/
set_option maxRecDepth 100000
/-- how a clause's reading ends -/
def cPost (t : Nat) (I : ZI) (a : Nat) (row : SV) (w : ZI) : PR Cl → Prop
  | .inl p => ∃ row' : SV, zag (arA a) row row' ∧ w = mP t I p true 0 row'
  | .inr q => w = mP t I q.1 false 0 (clF a row q.2)
abbrev zpc (t : Nat) (n : Nat) (T : ZT) (I : ZI) (L : ZL) (R : ZR) (a : Nat) (row : SV) (r : PR Cl) : ZP := zex (fun w : ZI => cPost t I a row w r) (fun w => zis none n T w L R)
set_option maxHeartbeats 8000000 in
theorem c_X4_much {E : ZE} {n : Nat} {T : ZT} {I : ZI} {L : ZL} {R : ZR} {t : Nat} (hL : TL T R t) {tp : Nat → Int32} {a e : Nat} (ha : I t 5 = nI a) (ha5 : a < 5) (he : I t 7 = nI e) (he100 : e ≤ 100) {i : Nat} {row : SV} (hp : PS a e tp row i) {adK adV : Nat → Nat} (hS : zSt E adK adV) {x : Nat} (hx : x < 6) {kd : Nat} {kk : Int32} (hk2 : 2 ≤ kd) (hkk : kk = if kd = 2 then (-10 : Int32) else -200) : zM E yX4_much cX4_much 4 none 27 0 0 [.ref t, .int kk, .ref (adK x)] n T (mP t I i false 0 row) L R (zpc t n T I L R a row (muchP tp e kd (zkB.getD x []) i)) := by
  rcases hs : spellP tp e (zkB.getD x []) i with p | j
  · have hr2 : muchP tp e kd (zkB.getD x []) i = .inl p := by unfold muchP; rw [hs]
    refine zM.of (lv0 := [some (.ref t), some (.int kk), some (.ref (adK x)), none]) pn_X4 (Nat.le_of_ble_eq_true rfl) rfl fun G g r hin hlt hbn => ?_
    have g : zGd E G cX4_much RX4 4 27 0 0 := g
    have hL0 := hL
    obtain ⟨hT, h1, ht1, h2, ht2, h3, ht3, h10, ht4, h11, ht5, ht6, ht7, h16, ht8, h17, ht9, h19, ht10⟩ := hL0
    refine z_al0 g dX4_much_0 ?_
    refine z_al2 g dX4_much_1 ?_
    refine z_callV1 g ck_X4_spells q1347 q1349 qs42 cls4 (by assumption) (c_X4_spells hL ha ha5 he he100 hp hS hx) rfl (Nat.le_of_ble_eq_true rfl) (by omega) (by omega) (by omega) dX4_much_2 (z_ans0 ?_)
    refine z_mem rfl rfl (show _ = mP t I p true 0 row from by rw [hs]; rfl) rfl rfl ?_
    refine z_al0 g dX4_much_5 ?_
    refine z_callV0 g ck_X4_figures q1397 q1399 qs43 cls4 (by assumption) (c_X4_figures_w hL) rfl (Nat.le_of_ble_eq_true rfl) (by omega) (by omega) (by omega) dX4_much_6 (z_ans1 ?_)
    refine z_is3 g dX4_much_9 rfl ?_
    refine z_al0 g dX4_much_10 ?_
    refine z_bipush g dX4_much_11 zkb_32 ?_
    refine z_callV1 g ck_X4_must q1338 q1340 qs40 cls4 (by assumption) (c_X4_must_w hL) rfl (Nat.le_of_ble_eq_true rfl) (by omega) (by omega) (by omega) dX4_much_13 (z_ans0 ?_)
    refine z_al0 g dX4_much_16 ?_
    refine z_callV0 g ck_X4_some q1401 q1403 qs44 cls4 (by assumption) (c_X4_some_w hL) rfl (Nat.le_of_ble_eq_true rfl) (by omega) (by omega) (by omega) dX4_much_17 (z_ans0 ?_)
    refine z_al0 g dX4_much_20 ?_
    refine z_il1 g dX4_much_21 ?_
    refine z_il3 g dX4_much_22 ?_
    first | with_reducible refine z_isubN g dX4_much_23 (by omega) ?_ | refine z_isub g dX4_much_23 ?_
    refine z_callV1 g ck_X4_emits q1413 q1415 qs47 cls4 (by assumption) (c_X4_emits_w hL) rfl (Nat.le_of_ble_eq_true rfl) (by omega) (by omega) (by omega) dX4_much_24 (z_ans0 ?_)
    refine z_vret g r (by omega) (by omega) dX4_much_27 ?_
    exact ⟨_, by rw [hr2]; exact ⟨row, zag.rf, rfl⟩, rfl, rfl, rfl, rfl, rfl, rfl⟩
  have hsj := spell_of hx hp.1 hs
  have hpj := hp.up (show i ≤ j by omega) hsj.2
  rcases hn : numP tp e j with p | ⟨k, v⟩
  · have hr2 : muchP tp e kd (zkB.getD x []) i = .inl p := by unfold muchP; rw [hs]; simp only [hn]
    refine zM.of (lv0 := [some (.ref t), some (.int kk), some (.ref (adK x)), none]) pn_X4 (Nat.le_of_ble_eq_true rfl) rfl fun G g r hin hlt hbn => ?_
    have g : zGd E G cX4_much RX4 4 27 0 0 := g
    have hL0 := hL
    obtain ⟨hT, h1, ht1, h2, ht2, h3, ht3, h10, ht4, h11, ht5, ht6, ht7, h16, ht8, h17, ht9, h19, ht10⟩ := hL0
    refine z_al0 g dX4_much_0 ?_
    refine z_al2 g dX4_much_1 ?_
    refine z_callV1 g ck_X4_spells q1347 q1349 qs42 cls4 (by assumption) (c_X4_spells hL ha ha5 he he100 hp hS hx) rfl (Nat.le_of_ble_eq_true rfl) (by omega) (by omega) (by omega) dX4_much_2 (z_ans0 ?_)
    refine z_mem rfl rfl (show _ = mP t I j false 0 row from by rw [hs]; rfl) rfl rfl ?_
    refine z_al0 g dX4_much_5 ?_
    refine z_callV0 g ck_X4_figures q1397 q1399 qs43 cls4 (by assumption) (c_X4_figures hL ha ha5 he he100 hpj) rfl (Nat.le_of_ble_eq_true rfl) (by omega) (by omega) (by omega) dX4_much_6 (z_ans1 ?_)
    refine z_top (show _ = nI 0 from by rw [hn]; rfl) ?_
    refine z_mem rfl rfl (show _ = mP t I p true 0 row from by rw [hn]; rfl) rfl rfl ?_
    refine z_is3 g dX4_much_9 rfl ?_
    refine z_al0 g dX4_much_10 ?_
    refine z_bipush g dX4_much_11 zkb_32 ?_
    refine z_callV1 g ck_X4_must q1338 q1340 qs40 cls4 (by assumption) (c_X4_must_w hL) rfl (Nat.le_of_ble_eq_true rfl) (by omega) (by omega) (by omega) dX4_much_13 (z_ans0 ?_)
    refine z_al0 g dX4_much_16 ?_
    refine z_callV0 g ck_X4_some q1401 q1403 qs44 cls4 (by assumption) (c_X4_some_w hL) rfl (Nat.le_of_ble_eq_true rfl) (by omega) (by omega) (by omega) dX4_much_17 (z_ans0 ?_)
    refine z_al0 g dX4_much_20 ?_
    refine z_il1 g dX4_much_21 ?_
    refine z_il3 g dX4_much_22 ?_
    first | with_reducible refine z_isubN g dX4_much_23 (by omega) ?_ | refine z_isub g dX4_much_23 ?_
    refine z_callV1 g ck_X4_emits q1413 q1415 qs47 cls4 (by assumption) (c_X4_emits_w hL) rfl (Nat.le_of_ble_eq_true rfl) (by omega) (by omega) (by omega) dX4_much_24 (z_ans0 ?_)
    refine z_vret g r (by omega) (by omega) dX4_much_27 ?_
    exact ⟨_, by rw [hr2]; exact ⟨row, zag.rf, rfl⟩, rfl, rfl, rfl, rfl, rfl, rfl⟩
  have hnk := num_ok hn
  have hpk := hpj.up (show j ≤ k by omega) hnk.2.1
  have h32 : (0 : Int32) ≤ nI 32 := by decide +kernel
  by_cases hq : hrP tp e k = nI 32
  · have hl := hr_lt hq (by decide)
    have hpk1 := hpk.step hl
    have hok : ∀ i : Nat, i ≤ e → okT e i (facP tp e 5 i) := fun i hi => facP_ok 5 i hi
    have hsome := c_X4_some (E := E) (n := n) (L := L) (i := k + 1) (d := 0) (row := row) hL ha ha5 he he100 hok (fun i row hp => c_X4_every hL ha ha5 he he100 hok (fun i row hp => c_X4_factor hL ha ha5 he he100 5 i 0 row rfl hp) hp (by decide)) hpk1 (by decide)
    rcases hv : someP tp e (facP tp e 5) (k + 1) with p | ⟨l, m⟩
    · have hr2 : muchP tp e kd (zkB.getD x []) i = .inl p := by unfold muchP; rw [hs]; simp only [hn, if_pos hq, hv]
      refine zM.of (lv0 := [some (.ref t), some (.int kk), some (.ref (adK x)), none]) pn_X4 (Nat.le_of_ble_eq_true rfl) rfl fun G g r hin hlt hbn => ?_
      have g : zGd E G cX4_much RX4 4 27 0 0 := g
      have hL0 := hL
      obtain ⟨hT, h1, ht1, h2, ht2, h3, ht3, h10, ht4, h11, ht5, ht6, ht7, h16, ht8, h17, ht9, h19, ht10⟩ := hL0
      refine z_al0 g dX4_much_0 ?_
      refine z_al2 g dX4_much_1 ?_
      refine z_callV1 g ck_X4_spells q1347 q1349 qs42 cls4 (by assumption) (c_X4_spells hL ha ha5 he he100 hp hS hx) rfl (Nat.le_of_ble_eq_true rfl) (by omega) (by omega) (by omega) dX4_much_2 (z_ans0 ?_)
      refine z_mem rfl rfl (show _ = mP t I j false 0 row from by rw [hs]; rfl) rfl rfl ?_
      refine z_al0 g dX4_much_5 ?_
      refine z_callV0 g ck_X4_figures q1397 q1399 qs43 cls4 (by assumption) (c_X4_figures hL ha ha5 he he100 hpj) rfl (Nat.le_of_ble_eq_true rfl) (by omega) (by omega) (by omega) dX4_much_6 (z_ans1 ?_)
      refine z_top (show _ = nI v from by rw [hn]; rfl) ?_
      refine z_mem rfl rfl (show _ = mP t I k false 0 row from by rw [hn]; rfl) rfl rfl ?_
      refine z_is3 g dX4_much_9 rfl ?_
      refine z_al0 g dX4_much_10 ?_
      refine z_bipush g dX4_much_11 zkb_32 ?_
      refine z_callV1 g ck_X4_must q1338 q1340 qs40 cls4 (by assumption) (c_X4_must hL ha ha5 he he100 hpk h32) rfl (Nat.le_of_ble_eq_true rfl) (by omega) (by omega) (by omega) dX4_much_13 (z_ans0 ?_)
      rw [if_pos hq]
      refine z_al0 g dX4_much_16 ?_
      refine z_callV0 g ck_X4_some q1401 q1403 qs44 cls4 (by assumption) hsome rfl (Nat.le_of_ble_eq_true rfl) (by omega) (by omega) (by omega) dX4_much_17 (z_ex fun w hw => z_ans0 ?_)
      rw [hv] at hw
      obtain ⟨row2, hz2, rfl⟩ := hw
      refine z_al0 g dX4_much_20 ?_
      refine z_il1 g dX4_much_21 ?_
      refine z_il3 g dX4_much_22 ?_
      first | with_reducible refine z_isubN g dX4_much_23 (by omega) ?_ | refine z_isub g dX4_much_23 ?_
      refine z_callV1 g ck_X4_emits q1413 q1415 qs47 cls4 (by assumption) (c_X4_emits_w hL) rfl (Nat.le_of_ble_eq_true rfl) (by omega) (by omega) (by omega) dX4_much_24 (z_ans0 ?_)
      refine z_vret g r (by omega) (by omega) dX4_much_27 ?_
      exact ⟨_, by rw [hr2]; exact ⟨row2, hz2, rfl⟩, rfl, rfl, rfl, rfl, rfl, rfl⟩
    · have hr2 : muchP tp e kd (zkB.getD x []) i = .inr (l, (kd, v, m)) := by unfold muchP; rw [hs]; simp only [hn, if_pos hq, hv]
      have h4 := someP_ok hok hl l m hv
      refine zM.of (lv0 := [some (.ref t), some (.int kk), some (.ref (adK x)), none]) pn_X4 (Nat.le_of_ble_eq_true rfl) rfl fun G g r hin hlt hbn => ?_
      have g : zGd E G cX4_much RX4 4 27 0 0 := g
      have hL0 := hL
      obtain ⟨hT, h1, ht1, h2, ht2, h3, ht3, h10, ht4, h11, ht5, ht6, ht7, h16, ht8, h17, ht9, h19, ht10⟩ := hL0
      refine z_al0 g dX4_much_0 ?_
      refine z_al2 g dX4_much_1 ?_
      refine z_callV1 g ck_X4_spells q1347 q1349 qs42 cls4 (by assumption) (c_X4_spells hL ha ha5 he he100 hp hS hx) rfl (Nat.le_of_ble_eq_true rfl) (by omega) (by omega) (by omega) dX4_much_2 (z_ans0 ?_)
      refine z_mem rfl rfl (show _ = mP t I j false 0 row from by rw [hs]; rfl) rfl rfl ?_
      refine z_al0 g dX4_much_5 ?_
      refine z_callV0 g ck_X4_figures q1397 q1399 qs43 cls4 (by assumption) (c_X4_figures hL ha ha5 he he100 hpj) rfl (Nat.le_of_ble_eq_true rfl) (by omega) (by omega) (by omega) dX4_much_6 (z_ans1 ?_)
      refine z_top (show _ = nI v from by rw [hn]; rfl) ?_
      refine z_mem rfl rfl (show _ = mP t I k false 0 row from by rw [hn]; rfl) rfl rfl ?_
      refine z_is3 g dX4_much_9 rfl ?_
      refine z_al0 g dX4_much_10 ?_
      refine z_bipush g dX4_much_11 zkb_32 ?_
      refine z_callV1 g ck_X4_must q1338 q1340 qs40 cls4 (by assumption) (c_X4_must hL ha ha5 he he100 hpk h32) rfl (Nat.le_of_ble_eq_true rfl) (by omega) (by omega) (by omega) dX4_much_13 (z_ans0 ?_)
      rw [if_pos hq]
      refine z_al0 g dX4_much_16 ?_
      refine z_callV0 g ck_X4_some q1401 q1403 qs44 cls4 (by assumption) hsome rfl (Nat.le_of_ble_eq_true rfl) (by omega) (by omega) (by omega) dX4_much_17 (z_ex fun w hw => z_ans0 ?_)
      rw [hv] at hw
      cases hw
      refine z_al0 g dX4_much_20 ?_
      refine z_il1 g dX4_much_21 ?_
      refine z_il3 g dX4_much_22 ?_
      first | with_reducible refine z_isubN g dX4_much_23 (by omega) ?_ | refine z_isub g dX4_much_23 ?_
      refine z_callV1 g ck_X4_emits q1413 q1415 qs47 cls4 (by assumption) (c_X4_emits hL ha ha5 he he100 (hpk1.app he100 (Nat.le_of_lt h4.1) h4.2.1 h4.2.2).1) rfl (Nat.le_of_ble_eq_true rfl) (by omega) (by omega) (by omega) dX4_much_24 (z_ans0 ?_)
      rw [appS_one]
      refine z_vret g r (by omega) (by omega) dX4_much_27 ?_
      exact ⟨_, by rw [hr2]; show _ = mP t I l false 0 (clF a row (kd, v, m)); unfold clF; rw [if_neg (show ¬ kd = 0 by omega), if_neg (show ¬ kd = 1 by omega), ← hkk], rfl, rfl, rfl, rfl, rfl, rfl⟩
  · have hr2 : muchP tp e kd (zkB.getD x []) i = .inl k := by unfold muchP; rw [hs]; simp only [hn, if_neg hq]
    refine zM.of (lv0 := [some (.ref t), some (.int kk), some (.ref (adK x)), none]) pn_X4 (Nat.le_of_ble_eq_true rfl) rfl fun G g r hin hlt hbn => ?_
    have g : zGd E G cX4_much RX4 4 27 0 0 := g
    have hL0 := hL
    obtain ⟨hT, h1, ht1, h2, ht2, h3, ht3, h10, ht4, h11, ht5, ht6, ht7, h16, ht8, h17, ht9, h19, ht10⟩ := hL0
    refine z_al0 g dX4_much_0 ?_
    refine z_al2 g dX4_much_1 ?_
    refine z_callV1 g ck_X4_spells q1347 q1349 qs42 cls4 (by assumption) (c_X4_spells hL ha ha5 he he100 hp hS hx) rfl (Nat.le_of_ble_eq_true rfl) (by omega) (by omega) (by omega) dX4_much_2 (z_ans0 ?_)
    refine z_mem rfl rfl (show _ = mP t I j false 0 row from by rw [hs]; rfl) rfl rfl ?_
    refine z_al0 g dX4_much_5 ?_
    refine z_callV0 g ck_X4_figures q1397 q1399 qs43 cls4 (by assumption) (c_X4_figures hL ha ha5 he he100 hpj) rfl (Nat.le_of_ble_eq_true rfl) (by omega) (by omega) (by omega) dX4_much_6 (z_ans1 ?_)
    refine z_top (show _ = nI v from by rw [hn]; rfl) ?_
    refine z_mem rfl rfl (show _ = mP t I k false 0 row from by rw [hn]; rfl) rfl rfl ?_
    refine z_is3 g dX4_much_9 rfl ?_
    refine z_al0 g dX4_much_10 ?_
    refine z_bipush g dX4_much_11 zkb_32 ?_
    refine z_callV1 g ck_X4_must q1338 q1340 qs40 cls4 (by assumption) (c_X4_must hL ha ha5 he he100 hpk h32) rfl (Nat.le_of_ble_eq_true rfl) (by omega) (by omega) (by omega) dX4_much_13 (z_ans0 ?_)
    rw [if_neg hq]
    refine z_al0 g dX4_much_16 ?_
    refine z_callV0 g ck_X4_some q1401 q1403 qs44 cls4 (by assumption) (c_X4_some_w hL) rfl (Nat.le_of_ble_eq_true rfl) (by omega) (by omega) (by omega) dX4_much_17 (z_ans0 ?_)
    refine z_al0 g dX4_much_20 ?_
    refine z_il1 g dX4_much_21 ?_
    refine z_il3 g dX4_much_22 ?_
    first | with_reducible refine z_isubN g dX4_much_23 (by omega) ?_ | refine z_isub g dX4_much_23 ?_
    refine z_callV1 g ck_X4_emits q1413 q1415 qs47 cls4 (by assumption) (c_X4_emits_w hL) rfl (Nat.le_of_ble_eq_true rfl) (by omega) (by omega) (by omega) dX4_much_24 (z_ans0 ?_)
    refine z_vret g r (by omega) (by omega) dX4_much_27 ?_
    exact ⟨_, by rw [hr2]; exact ⟨row, zag.rf, rfl⟩, rfl, rfl, rfl, rfl, rfl, rfl⟩
set_option maxHeartbeats 8000000 in
theorem c_X4_tellsHere {E : ZE} {n : Nat} {T : ZT} {I : ZI} {L : ZL} {R : ZR} {t : Nat} (hL : TL T R t) {tp : Nat → Int32} {a e : Nat} (ha : I t 5 = nI a) (ha5 : a < 5) (he : I t 7 = nI e) (he100 : e ≤ 100) {i : Nat} {row : SV} (hp : PS a e tp row i) {adK adV : Nat → Nat} (hS : zSt E adK adV) {x : Nat} (hx : x < 6) {kd wh : Nat} (hk2 : kd < 2) (hwh : wh = if kd = 0 then 174 else 179) : zM E yX4_tellsHere cX4_tellsHere 4 none 8 0 0 [.ref t, .int (nI wh), .ref (adK x)] n T (mP t I i false 0 row) L R (zpc t n T I L R a row (tellP tp e kd (zkB.getD x []) i)) := by
  rcases hs : spellP tp e (zkB.getD x []) i with p | j
  · have hr2 : tellP tp e kd (zkB.getD x []) i = .inl p := by unfold tellP; rw [hs]
    refine zM.of (lv0 := [some (.ref t), some (.int (nI wh)), some (.ref (adK x)), none]) pn_X4 (Nat.le_of_ble_eq_true rfl) rfl fun G g r hin hlt hbn => ?_
    have g : zGd E G cX4_tellsHere RX4 4 8 0 0 := g
    have hL0 := hL
    obtain ⟨hT, h1, ht1, h2, ht2, h3, ht3, h10, ht4, h11, ht5, ht6, ht7, h16, ht8, h17, ht9, h19, ht10⟩ := hL0
    refine z_al0 g dX4_tellsHere_0 ?_
    refine z_al2 g dX4_tellsHere_1 ?_
    refine z_callV1 g ck_X4_spells q1347 q1349 qs42 cls4 (by assumption) (c_X4_spells hL ha ha5 he he100 hp hS hx) rfl (Nat.le_of_ble_eq_true rfl) (by omega) (by omega) (by omega) dX4_tellsHere_2 (z_ans0 ?_)
    refine z_mem rfl rfl (show _ = mP t I p true 0 row from by rw [hs]; rfl) rfl rfl ?_
    refine z_al0 g dX4_tellsHere_5 ?_
    refine z_callV0 g ck_X4_figures q1397 q1399 qs43 cls4 (by assumption) (c_X4_figures_w hL) rfl (Nat.le_of_ble_eq_true rfl) (by omega) (by omega) (by omega) dX4_tellsHere_6 (z_ans1 ?_)
    refine z_is3 g dX4_tellsHere_9 rfl ?_
    refine z_al0 g dX4_tellsHere_10 ?_
    refine zg4_8 g q1250 (Or.inl rfl) (by assumption) dX4_tellsHere_11 ?_
    rw [mP_8]
    refine z_if_ne_t (tgt := 29) g dX4_tellsHere_14 (by decide) (by decide +kernel) ?_
    refine z_vret g r (by omega) (by omega) dX4_tellsHere_29 ?_
    exact ⟨_, by rw [hr2]; exact ⟨row, zag.rf, rfl⟩, rfl, rfl, rfl, rfl, rfl, rfl⟩
  have hsj := spell_of hx hp.1 hs
  have hpj := hp.up (show i ≤ j by omega) hsj.2
  have hw179 : wh ≤ 179 := by rw [hwh]; split <;> decide
  rcases hn : numP tp e j with p | ⟨k, v⟩
  · have hr2 : tellP tp e kd (zkB.getD x []) i = .inl p := by unfold tellP; rw [hs]; simp only [hn]
    refine zM.of (lv0 := [some (.ref t), some (.int (nI wh)), some (.ref (adK x)), none]) pn_X4 (Nat.le_of_ble_eq_true rfl) rfl fun G g r hin hlt hbn => ?_
    have g : zGd E G cX4_tellsHere RX4 4 8 0 0 := g
    have hL0 := hL
    obtain ⟨hT, h1, ht1, h2, ht2, h3, ht3, h10, ht4, h11, ht5, ht6, ht7, h16, ht8, h17, ht9, h19, ht10⟩ := hL0
    refine z_al0 g dX4_tellsHere_0 ?_
    refine z_al2 g dX4_tellsHere_1 ?_
    refine z_callV1 g ck_X4_spells q1347 q1349 qs42 cls4 (by assumption) (c_X4_spells hL ha ha5 he he100 hp hS hx) rfl (Nat.le_of_ble_eq_true rfl) (by omega) (by omega) (by omega) dX4_tellsHere_2 (z_ans0 ?_)
    refine z_mem rfl rfl (show _ = mP t I j false 0 row from by rw [hs]; rfl) rfl rfl ?_
    refine z_al0 g dX4_tellsHere_5 ?_
    refine z_callV0 g ck_X4_figures q1397 q1399 qs43 cls4 (by assumption) (c_X4_figures hL ha ha5 he he100 hpj) rfl (Nat.le_of_ble_eq_true rfl) (by omega) (by omega) (by omega) dX4_tellsHere_6 (z_ans1 ?_)
    refine z_top (show _ = nI 0 from by rw [hn]; rfl) ?_
    refine z_mem rfl rfl (show _ = mP t I p true 0 row from by rw [hn]; rfl) rfl rfl ?_
    refine z_is3 g dX4_tellsHere_9 rfl ?_
    refine z_al0 g dX4_tellsHere_10 ?_
    refine zg4_8 g q1250 (Or.inl rfl) (by assumption) dX4_tellsHere_11 ?_
    rw [mP_8]
    refine z_if_ne_t (tgt := 29) g dX4_tellsHere_14 (by decide) (by decide +kernel) ?_
    refine z_vret g r (by omega) (by omega) dX4_tellsHere_29 ?_
    exact ⟨_, by rw [hr2]; exact ⟨row, zag.rf, rfl⟩, rfl, rfl, rfl, rfl, rfl, rfl⟩
  · have hr2 : tellP tp e kd (zkB.getD x []) i = .inr (k, (kd, v, [])) := by unfold tellP; rw [hs]; simp only [hn]
    refine zM.of (lv0 := [some (.ref t), some (.int (nI wh)), some (.ref (adK x)), none]) pn_X4 (Nat.le_of_ble_eq_true rfl) rfl fun G g r hin hlt hbn => ?_
    have g : zGd E G cX4_tellsHere RX4 4 8 0 0 := g
    have hL0 := hL
    obtain ⟨hT, h1, ht1, h2, ht2, h3, ht3, h10, ht4, h11, ht5, ht6, ht7, h16, ht8, h17, ht9, h19, ht10⟩ := hL0
    refine z_al0 g dX4_tellsHere_0 ?_
    refine z_al2 g dX4_tellsHere_1 ?_
    refine z_callV1 g ck_X4_spells q1347 q1349 qs42 cls4 (by assumption) (c_X4_spells hL ha ha5 he he100 hp hS hx) rfl (Nat.le_of_ble_eq_true rfl) (by omega) (by omega) (by omega) dX4_tellsHere_2 (z_ans0 ?_)
    refine z_mem rfl rfl (show _ = mP t I j false 0 row from by rw [hs]; rfl) rfl rfl ?_
    refine z_al0 g dX4_tellsHere_5 ?_
    refine z_callV0 g ck_X4_figures q1397 q1399 qs43 cls4 (by assumption) (c_X4_figures hL ha ha5 he he100 hpj) rfl (Nat.le_of_ble_eq_true rfl) (by omega) (by omega) (by omega) dX4_tellsHere_6 (z_ans1 ?_)
    refine z_top (show _ = nI v from by rw [hn]; rfl) ?_
    refine z_mem rfl rfl (show _ = mP t I k false 0 row from by rw [hn]; rfl) rfl rfl ?_
    refine z_is3 g dX4_tellsHere_9 rfl ?_
    refine z_al0 g dX4_tellsHere_10 ?_
    refine zg4_8 g q1250 (Or.inl rfl) (by assumption) dX4_tellsHere_11 ?_
    rw [mP_8]
    refine z_if_ne_f (tgt := 29) g dX4_tellsHere_14 (by decide) (rfl) ?_
    refine z_al0 g dX4_tellsHere_17 ?_
    refine zg4_1 g q1243 (Or.inl rfl) (by assumption) dX4_tellsHere_18 (by assumption) ?_
    refine z_il1 g dX4_tellsHere_21 ?_
    refine z_al0 g dX4_tellsHere_22 ?_
    refine zg4_5 g q1247 (Or.inl rfl) (by assumption) dX4_tellsHere_23 ?_
    rw [mP_5, ha]
    first | with_reducible refine z_iaddN g dX4_tellsHere_26 ?_ | refine z_iadd g dX4_tellsHere_26 ?_
    refine z_il3 g dX4_tellsHere_27 ?_
    refine z_iast (k := 0) g rfl (by decide) (by assumption) (by omega) (by omega) dX4_tellsHere_28 ?_
    rw [mP_r]
    refine z_mem rfl rfl mP_ur rfl rfl ?_
    refine z_vret g r (by omega) (by omega) dX4_tellsHere_29 ?_
    exact ⟨_, by rw [hr2]; show _ = mP t I k false 0 (clF a row (kd, v, [])); unfold clF; rw [hwh]; rcases (show kd = 0 ∨ kd = 1 by omega) with rfl | rfl <;> rfl, rfl, rfl, rfl, rfl, rfl, rfl⟩
theorem zoff {x : Int32} (h1 : ¬ x = nI 108) (h2 : ¬ x = nI 100) (h3 : ¬ x = nI 109) : Op.lookupswitch.offset [((100 : Int), (43 : Int)), (108, 36), (109, 55)] 67 x.toInt = 67 := by
  have ne : ∀ k : Nat, k < 2 ^ 31 → ¬ x = nI k → ¬ (nI k).toInt = x.toInt := fun k _ q e => q (Int32.toInt_inj.mp e.symm)
  have e1 : ¬ (100 : Int) = x.toInt := ne 100 (by decide) h2
  have e2 : ¬ (108 : Int) = x.toInt := ne 108 (by decide) h1
  have e3 : ¬ (109 : Int) = x.toInt := ne 109 (by decide) h3
  rw [Op.lookupswitch.offset_cons, if_neg e1, Op.lookupswitch.offset_cons, if_neg e2, Op.lookupswitch.offset_cons, if_neg e3]
  rfl
set_option maxHeartbeats 8000000 in
theorem c_X4_clauseOfL {E : ZE} {n : Nat} {T : ZT} {I : ZI} {L : ZL} {R : ZR} {t : Nat} (hL : TL T R t) {tp : Nat → Int32} {a e : Nat} (ha : I t 5 = nI a) (ha5 : a < 5) (he : I t 7 = nI e) (he100 : e ≤ 100) {i : Nat} {row : SV} (hp : PS a e tp row i) (hb : hrP tp e i = nI 108) : zM E yX4_clauseOfL cX4_clauseOfL 1 none 28 0 0 [.ref t] n T (mP t I i false 0 row) L R (zpc t n T I L R a row (clauseP tp e i)) := by
  have hl := hr_lt hb (by decide)
  have hp1 := hp.step hl
  have h108 : (0 : Int32) ≤ nI 108 := by decide +kernel
  by_cases hq : hrP tp e (i + 1) = nI 105
  · have hr2 : clauseP tp e i = muchP tp e 2 (zkB.getD 0 []) (i + 1) := by unfold clauseP; rw [if_pos hb, if_pos hq]
    refine zM.of (lv0 := [some (.ref t)]) pn_X4 (Nat.le_of_ble_eq_true rfl) rfl fun G g r hin hlt hbn => ?_
    have g : zGd E G cX4_clauseOfL RX4 1 28 0 0 := g
    have hL0 := hL
    obtain ⟨hT, h1, ht1, h2, ht2, h3, ht3, h10, ht4, h11, ht5, ht6, ht7, h16, ht8, h17, ht9, h19, ht10⟩ := hL0
    obtain ⟨adK, adV, hS⟩ := zSt.ex g.ok
    refine z_al0 g dX4_clauseOfL_0 ?_
    refine z_bipush g dX4_clauseOfL_1 zkb_108 ?_
    refine z_callV1 g ck_X4_must q1338 q1340 qs40 cls4 (by assumption) (c_X4_must hL ha ha5 he he100 hp h108) rfl (Nat.le_of_ble_eq_true rfl) (by omega) (by omega) (by omega) dX4_clauseOfL_3 (z_ans0 ?_)
    rw [if_pos hb]
    refine z_al0 g dX4_clauseOfL_6 ?_
    refine z_callV0 g ck_X4_here q1330 q1332 qs38 cls4 (by assumption) (c_X4_here hL ha ha5 he he100 hp1) rfl (Nat.le_of_ble_eq_true rfl) (by omega) (by omega) (by omega) dX4_clauseOfL_7 (z_ans1 ?_)
    refine z_bipush g dX4_clauseOfL_10 zkb_105 ?_
    refine z_icmp_ne_f (tgt := 26) g dX4_clauseOfL_12 (by decide) (hq) ?_
    refine z_al0 g dX4_clauseOfL_15 ?_
    refine z_bipush g dX4_clauseOfL_16 zkb_m10 ?_
    refine z_ldcT (i := 0) g hS (by decide) q1342 rfl rfl dX4_clauseOfL_18 ?_
    refine z_callV2 g ck_X4_much q1343 q1345 qs41 cls4 (by assumption) (c_X4_much hL ha ha5 he he100 hp1 hS (show 0 < 6 by decide) (show 2 ≤ 2 by decide) rfl) rfl (Nat.le_of_ble_eq_true rfl) (by omega) (by omega) (by omega) dX4_clauseOfL_20 (z_ex fun w hw => z_ans0 ?_)
    refine z_goto (tgt := 35) g dX4_clauseOfL_23 (by decide) ?_
    refine z_vret g r (by omega) (by omega) dX4_clauseOfL_35 ?_
    exact ⟨w, by rw [hr2]; exact hw, rfl, rfl, rfl, rfl, rfl, rfl⟩
  · have hr2 : clauseP tp e i = tellP tp e 0 (zkB.getD 3 []) (i + 1) := by unfold clauseP; rw [if_pos hb, if_neg hq]
    refine zM.of (lv0 := [some (.ref t)]) pn_X4 (Nat.le_of_ble_eq_true rfl) rfl fun G g r hin hlt hbn => ?_
    have g : zGd E G cX4_clauseOfL RX4 1 28 0 0 := g
    have hL0 := hL
    obtain ⟨hT, h1, ht1, h2, ht2, h3, ht3, h10, ht4, h11, ht5, ht6, ht7, h16, ht8, h17, ht9, h19, ht10⟩ := hL0
    obtain ⟨adK, adV, hS⟩ := zSt.ex g.ok
    refine z_al0 g dX4_clauseOfL_0 ?_
    refine z_bipush g dX4_clauseOfL_1 zkb_108 ?_
    refine z_callV1 g ck_X4_must q1338 q1340 qs40 cls4 (by assumption) (c_X4_must hL ha ha5 he he100 hp h108) rfl (Nat.le_of_ble_eq_true rfl) (by omega) (by omega) (by omega) dX4_clauseOfL_3 (z_ans0 ?_)
    rw [if_pos hb]
    refine z_al0 g dX4_clauseOfL_6 ?_
    refine z_callV0 g ck_X4_here q1330 q1332 qs38 cls4 (by assumption) (c_X4_here hL ha ha5 he he100 hp1) rfl (Nat.le_of_ble_eq_true rfl) (by omega) (by omega) (by omega) dX4_clauseOfL_7 (z_ans1 ?_)
    refine z_bipush g dX4_clauseOfL_10 zkb_105 ?_
    refine z_icmp_ne_t (tgt := 26) g dX4_clauseOfL_12 (by decide) (hq) ?_
    refine z_al0 g dX4_clauseOfL_26 ?_
    refine z_sipush g dX4_clauseOfL_27 zks_174 ?_
    refine z_ldcT (i := 3) g hS (by decide) q1423 rfl rfl dX4_clauseOfL_30 ?_
    refine z_callV2 g ck_X4_tellsHere q1424 q1426 qs49 cls4 (by assumption) (c_X4_tellsHere hL ha ha5 he he100 hp1 hS (show 3 < 6 by decide) (show 0 < 2 by decide) rfl) rfl (Nat.le_of_ble_eq_true rfl) (by omega) (by omega) (by omega) dX4_clauseOfL_32 (z_ex fun w hw => z_ans0 ?_)
    refine z_vret g r (by omega) (by omega) dX4_clauseOfL_35 ?_
    exact ⟨w, by rw [hr2]; exact hw, rfl, rfl, rfl, rfl, rfl, rfl⟩
set_option maxHeartbeats 8000000 in
theorem c_X4_clauseHere {E : ZE} {n : Nat} {T : ZT} {I : ZI} {L : ZL} {R : ZR} {t : Nat} (hL : TL T R t) {tp : Nat → Int32} {a e : Nat} (ha : I t 5 = nI a) (ha5 : a < 5) (he : I t 7 = nI e) (he100 : e ≤ 100) {i : Nat} {row : SV} (hp : PS a e tp row i) : zM E yX4_clauseHere cX4_clauseHere 1 none 29 0 0 [.ref t] n T (mP t I i false 0 row) L R (zpc t n T I L R a row (clauseP tp e i)) := by
  by_cases hb : hrP tp e i = nI 108
  · skip
    refine zM.of (lv0 := [some (.ref t)]) pn_X4 (Nat.le_of_ble_eq_true rfl) rfl fun G g r hin hlt hbn => ?_
    have g : zGd E G cX4_clauseHere RX4 1 29 0 0 := g
    have hL0 := hL
    obtain ⟨hT, h1, ht1, h2, ht2, h3, ht3, h10, ht4, h11, ht5, ht6, ht7, h16, ht8, h17, ht9, h19, ht10⟩ := hL0
    obtain ⟨adK, adV, hS⟩ := zSt.ex g.ok
    refine z_al0 g dX4_clauseHere_0 ?_
    refine z_callV0 g ck_X4_here q1330 q1332 qs38 cls4 (by assumption) (c_X4_here hL ha ha5 he he100 hp) rfl (Nat.le_of_ble_eq_true rfl) (by omega) (by omega) (by omega) dX4_clauseHere_1 (z_ans1 ?_)
    rw [hb]
    refine z_lookup (off := 36) (tgt := 40) g dX4_clauseHere_4 (by decide +kernel) (by decide +kernel) (by decide) ?_
    refine z_al0 g dX4_clauseHere_40 ?_
    refine z_callV0 g ck_X4_clauseOfL q1334 q1336 qs39 cls4 (by assumption) (c_X4_clauseOfL hL ha ha5 he he100 hp hb) rfl (Nat.le_of_ble_eq_true rfl) (by omega) (by omega) (by omega) dX4_clauseHere_41 (z_ex fun w hw => z_ans0 ?_)
    refine z_goto (tgt := 76) g dX4_clauseHere_44 (by decide) ?_
    first | refine z_mem rfl rfl mP_u8t rfl rfl ?_ | refine z_mem rfl rfl mP_u8f rfl rfl ?_ | skip
    refine z_vret g r (by omega) (by omega) dX4_clauseHere_76 ?_
    exact ⟨w, hw, rfl, rfl, rfl, rfl, rfl, rfl⟩
  by_cases hb2 : hrP tp e i = nI 100
  · have hr2 : clauseP tp e i = muchP tp e 3 (zkB.getD 4 []) i := by unfold clauseP; rw [if_neg hb, if_pos hb2]
    refine zM.of (lv0 := [some (.ref t)]) pn_X4 (Nat.le_of_ble_eq_true rfl) rfl fun G g r hin hlt hbn => ?_
    have g : zGd E G cX4_clauseHere RX4 1 29 0 0 := g
    have hL0 := hL
    obtain ⟨hT, h1, ht1, h2, ht2, h3, ht3, h10, ht4, h11, ht5, ht6, ht7, h16, ht8, h17, ht9, h19, ht10⟩ := hL0
    obtain ⟨adK, adV, hS⟩ := zSt.ex g.ok
    refine z_al0 g dX4_clauseHere_0 ?_
    refine z_callV0 g ck_X4_here q1330 q1332 qs38 cls4 (by assumption) (c_X4_here hL ha ha5 he he100 hp) rfl (Nat.le_of_ble_eq_true rfl) (by omega) (by omega) (by omega) dX4_clauseHere_1 (z_ans1 ?_)
    rw [hb2]
    refine z_lookup (off := 43) (tgt := 47) g dX4_clauseHere_4 (by decide +kernel) (by decide +kernel) (by decide) ?_
    refine z_al0 g dX4_clauseHere_47 ?_
    refine z_sipush g dX4_clauseHere_48 zks_m200 ?_
    refine z_ldcT (i := 4) g hS (by decide) q1428 rfl rfl dX4_clauseHere_51 ?_
    refine z_callV2 g ck_X4_much q1343 q1345 qs41 cls4 (by assumption) (c_X4_much hL ha ha5 he he100 hp hS (show 4 < 6 by decide) (show 2 ≤ 3 by decide) rfl) rfl (Nat.le_of_ble_eq_true rfl) (by omega) (by omega) (by omega) dX4_clauseHere_53 (z_ex fun w hw => z_ans0 ?_)
    refine z_goto (tgt := 76) g dX4_clauseHere_56 (by decide) ?_
    first | refine z_mem rfl rfl mP_u8t rfl rfl ?_ | refine z_mem rfl rfl mP_u8f rfl rfl ?_ | skip
    refine z_vret g r (by omega) (by omega) dX4_clauseHere_76 ?_
    exact ⟨w, by rw [hr2]; exact hw, rfl, rfl, rfl, rfl, rfl, rfl⟩
  by_cases hb3 : hrP tp e i = nI 109
  · have hr2 : clauseP tp e i = tellP tp e 1 (zkB.getD 5 []) i := by unfold clauseP; rw [if_neg hb, if_neg hb2, if_pos hb3]
    refine zM.of (lv0 := [some (.ref t)]) pn_X4 (Nat.le_of_ble_eq_true rfl) rfl fun G g r hin hlt hbn => ?_
    have g : zGd E G cX4_clauseHere RX4 1 29 0 0 := g
    have hL0 := hL
    obtain ⟨hT, h1, ht1, h2, ht2, h3, ht3, h10, ht4, h11, ht5, ht6, ht7, h16, ht8, h17, ht9, h19, ht10⟩ := hL0
    obtain ⟨adK, adV, hS⟩ := zSt.ex g.ok
    refine z_al0 g dX4_clauseHere_0 ?_
    refine z_callV0 g ck_X4_here q1330 q1332 qs38 cls4 (by assumption) (c_X4_here hL ha ha5 he he100 hp) rfl (Nat.le_of_ble_eq_true rfl) (by omega) (by omega) (by omega) dX4_clauseHere_1 (z_ans1 ?_)
    rw [hb3]
    refine z_lookup (off := 55) (tgt := 59) g dX4_clauseHere_4 (by decide +kernel) (by decide +kernel) (by decide) ?_
    refine z_al0 g dX4_clauseHere_59 ?_
    refine z_sipush g dX4_clauseHere_60 zks_179 ?_
    refine z_ldcT (i := 5) g hS (by decide) q1429 rfl rfl dX4_clauseHere_63 ?_
    refine z_callV2 g ck_X4_tellsHere q1424 q1426 qs49 cls4 (by assumption) (c_X4_tellsHere hL ha ha5 he he100 hp hS (show 5 < 6 by decide) (show 1 < 2 by decide) rfl) rfl (Nat.le_of_ble_eq_true rfl) (by omega) (by omega) (by omega) dX4_clauseHere_65 (z_ex fun w hw => z_ans0 ?_)
    refine z_goto (tgt := 76) g dX4_clauseHere_68 (by decide) ?_
    first | refine z_mem rfl rfl mP_u8t rfl rfl ?_ | refine z_mem rfl rfl mP_u8f rfl rfl ?_ | skip
    refine z_vret g r (by omega) (by omega) dX4_clauseHere_76 ?_
    exact ⟨w, by rw [hr2]; exact hw, rfl, rfl, rfl, rfl, rfl, rfl⟩
  · have hr2 : clauseP tp e i = .inl i := by unfold clauseP; rw [if_neg hb, if_neg hb2, if_neg hb3]
    refine zM.of (lv0 := [some (.ref t)]) pn_X4 (Nat.le_of_ble_eq_true rfl) rfl fun G g r hin hlt hbn => ?_
    have g : zGd E G cX4_clauseHere RX4 1 29 0 0 := g
    have hL0 := hL
    obtain ⟨hT, h1, ht1, h2, ht2, h3, ht3, h10, ht4, h11, ht5, ht6, ht7, h16, ht8, h17, ht9, h19, ht10⟩ := hL0
    obtain ⟨adK, adV, hS⟩ := zSt.ex g.ok
    refine z_al0 g dX4_clauseHere_0 ?_
    refine z_callV0 g ck_X4_here q1330 q1332 qs38 cls4 (by assumption) (c_X4_here hL ha ha5 he he100 hp) rfl (Nat.le_of_ble_eq_true rfl) (by omega) (by omega) (by omega) dX4_clauseHere_1 (z_ans1 ?_)
    refine z_lookup (off := 67) (tgt := 71) g dX4_clauseHere_4 (by decide +kernel) (zoff hb hb2 hb3) (by decide) ?_
    refine z_al0 g dX4_clauseHere_71 ?_
    refine z_iconst g dX4_clauseHere_72 zki_1 ?_
    refine zs4_8 g q1250 (Or.inl rfl) (by assumption) dX4_clauseHere_73 zfit_1 ?_
    first | refine z_mem rfl rfl mP_u8t rfl rfl ?_ | refine z_mem rfl rfl mP_u8f rfl rfl ?_ | skip
    refine z_vret g r (by omega) (by omega) dX4_clauseHere_76 ?_
    exact ⟨_, by rw [hr2]; exact ⟨row, zag.rf, rfl⟩, rfl, rfl, rfl, rfl, rfl, rfl⟩
theorem row0_at {a : Nat} {sv : SV} (ha : a < 5) : (∀ j : Nat, j < 100 → row0F a sv (74 + j) = tapeF sv j) ∧ row0F a sv (184 + a) = nI 0 ∧ row0F a sv 10 = nI 0 ∧ (∀ j : Nat, ¬ arA a j → j ≠ 10 → row0F a sv j = sv j) := by
  unfold row0F
  refine ⟨fun j hj => ?_, zp_s, ?_, fun j hj h10 => ?_⟩
  · rw [zp_n (by omega), zp_n (by omega), zp_n (by omega), zp_n (by omega)]
  · rw [zp_n (by omega), zp_n (by omega), zp_n (by omega), zp_s]
  · unfold arA at hj
    rw [zp_n (by omega), zp_n (by omega), zp_n (by omega), zp_n h10]
set_option maxHeartbeats 8000000 in
theorem c_X4_inn {E : ZE} {n : Nat} {T : ZT} {I : ZI} {L : ZL} {R : ZR} {t : Nat} (hL : TL T R t) {m e : Nat} (h7 : I (t + 1) 7 = nI m) (hm : m ≤ 5) (h10 : I (t + 1) 10 = nI e) (he100 : e ≤ 100) : zM E yX4_inn cX4_inn 2 (some (Jvm.ClassFile.FieldType.int)) 30 0 0 [.ref t] n T I L R (zex (fun w : ZI => innQ (I (t + 1)) (w (t + 1)) ∧ zag (fun b => b = t ∨ b = t + 1) I w ∧ ∀ k : Nat, k < 5 ∨ 9 < k → w t k = I t k) (fun w => zis (some (.int (innV (I (t + 1))))) n T w L R)) := by
  refine zM.of (lv0 := [some (.ref t), none]) pn_X4 (Nat.le_of_ble_eq_true rfl) rfl fun G g r hin hlt hbn => ?_
  have g : zGd E G cX4_inn RX4 2 30 0 0 := g
  have hL0 := hL
  obtain ⟨hT, h1, ht1, h2, ht2, h3, ht3, hx10, ht4, h11, ht5, ht6, ht7, h16, ht8, h17, ht9, h19, ht10⟩ := hL0
  by_cases h5 : m = 5
  · subst h5
    refine z_al0 g dX4_inn_0 ?_
    refine zg4_1 g q1243 (Or.inl rfl) (by assumption) dX4_inn_1 (by assumption) ?_
    refine z_bipush g dX4_inn_4 zkb_7 ?_
    refine z_iald (k := 0) g rfl (by assumption) (by omega) (by omega) dX4_inn_6 ?_
    refine z_iconst g dX4_inn_7 zki_5 ?_
    refine z_icmp_ne_f (tgt := 14) g dX4_inn_8 (by decide) (h7) ?_
    refine z_bipush g dX4_inn_11 zkb_m4 ?_
    refine z_iret g r (by omega) (by omega) dX4_inn_13 ?_
    refine ⟨I, ⟨?_, zag.rf, fun _ _ => rfl⟩, ?_, rfl, rfl, rfl, rfl, rfl⟩
    · unfold innQ
      rw [if_pos h7]
    · unfold innV
      rw [if_pos h7]
  have ha5 : m < 5 := by omega
  have h75 : ¬ I (t + 1) 7 = nI 5 := fun q => h5 ((nI_eq (by omega) (by decide)).mp (h7.symm.trans q))
  have ha0 : (zp I t (zp (zp (I t) 5 (nI m)) 7 (nI e))) t 5 = nI m := by rw [zp_s, zp_n (by omega), zp_s]
  have he0 : (zp I t (zp (zp (I t) 5 (nI m)) 7 (nI e))) t 7 = nI e := by rw [zp_s, zp_s]
  obtain ⟨r01, r02, r03, r04⟩ := row0_at (sv := I (t + 1)) ha5
  have hRR : innR (I (t + 1)) = (innP (tapeF (I (t + 1))) e) := by unfold innR; rw [h10, cl_nI (by omega)]
  have hmc : (nI m).toNatClampNeg = m := cl_nI (by omega)
  have zfl : ∀ (j : Nat) (b : Bool) (row : SV), zag (fun b => b = t ∨ b = t + 1) I (mP t (zp I t (zp (zp (I t) 5 (nI m)) 7 (nI e))) j b 0 row) ∧ ∀ k : Nat, k < 5 ∨ 9 < k → (mP t (zp I t (zp (zp (I t) 5 (nI m)) 7 (nI e))) j b 0 row) t k = I t k := fun j b row => ⟨fun x hx => by
    unfold mP
    rw [zp_n (fun q => hx (Or.inr q)), zp_n (fun q => hx (Or.inl q)), zp_n (fun q => hx (Or.inl q))], fun k hk => by
    rw [mP_fl, zp_n (by omega), zp_n (by omega), zp_n (by omega), zp_s, zp_n (by omega), zp_n (by omega)]⟩
  have bad : ∀ (p : Nat) (b : Bool) (row : SV) (k : Nat), zag (arA m) (row0F m (I (t + 1))) row → (innP (tapeF (I (t + 1))) e) = .inl p → Z E G 0 0 n T (mP t (zp I t (zp (zp (I t) 5 (nI m)) 7 (nI e))) p b 0 row) L R 167 [some (.ref t), some (.int (nI k))] [] := by
    intro p b row k hz hr
    refine z_bipush g dX4_inn_167 zkb_m10 ?_
    refine z_al0 g dX4_inn_169 ?_
    refine zg4_6 g q1248 (Or.inl rfl) (by assumption) dX4_inn_170 ?_
    rw [mP_6]
    first | with_reducible refine z_isubN g dX4_inn_173 (by omega) ?_ | refine z_isub g dX4_inn_173 ?_
    refine z_iret g r (by omega) (by omega) dX4_inn_174 ?_
    refine ⟨_, ⟨?_, zfl p b row⟩, ?_, rfl, rfl, rfl, rfl, rfl⟩
    · unfold innQ
      rw [if_neg h75, hRR, hr, mP_r]
      show zag _ _ _ ∧ _
      rw [h7, hmc]
      refine ⟨fun j hj => ?_, ?_⟩
      · rw [hz j (fun q => hj (Or.inl q))]
        exact r04 j (fun q => hj (Or.inl q)) (fun q => hj (Or.inr q))
      · rw [hz 10 (fun q => by unfold arA at q; omega)]
        exact r03
    · unfold innV
      rw [if_neg h75, hRR, hr]
  have bad107 : ∀ (p : Nat) (row : SV) (k : Nat), zag (arA m) (row0F m (I (t + 1))) row → (innP (tapeF (I (t + 1))) e) = .inl p → Z E G 0 0 n T (mP t (zp I t (zp (zp (I t) 5 (nI m)) 7 (nI e))) p true 0 row) L R 107 [some (.ref t), some (.int (nI k))] [] := by
    intro p row k hz hr
    refine z_al0 g dX4_inn_107 ?_
    refine zg4_8 g q1250 (Or.inl rfl) (by assumption) dX4_inn_108 ?_
    rw [mP_8]
    refine z_if_ne_t (tgt := 149) g dX4_inn_111 (by decide) (by decide +kernel) ?_
    refine z_al0 g dX4_inn_149 ?_
    refine zg4_8 g q1250 (Or.inl rfl) (by assumption) dX4_inn_150 ?_
    rw [mP_8]
    refine z_if_ne_t (tgt := 167) g dX4_inn_153 (by decide) (by decide +kernel) ?_
    exact bad p true row k hz hr
  have fin : ∀ (j k : Nat) (l : List Cl), PS m e (tapeF (I (t + 1))) (clsF m (I (t + 1)) l) j → zag (arA m) (row0F m (I (t + 1))) (clsF m (I (t + 1)) l) → (if j = e then .inr (j, l) else .inl j) = (innP (tapeF (I (t + 1))) e) → Z E G 0 0 n T (mP t (zp I t (zp (zp (I t) 5 (nI m)) 7 (nI e))) j false 0 (clsF m (I (t + 1)) l)) L R 149 [some (.ref t), some (.int (nI k))] [] := by
    intro j k l hp hz hr
    have hj100 : j ≤ 100 := Nat.le_trans hp.1 he100
    by_cases hje : j = e
    · rw [if_pos hje] at hr
      have c7 : clsF m (I (t + 1)) l 7 = nI m := by
        rw [hz 7 (fun q => by unfold arA at q; omega), r04 7 (fun q => by unfold arA at q; omega) (by decide)]
        exact h7
      refine z_al0 g dX4_inn_149 ?_
      refine zg4_8 g q1250 (Or.inl rfl) (by assumption) dX4_inn_150 ?_
      rw [mP_8]
      refine z_if_ne_f (tgt := 167) g dX4_inn_153 (by decide) (by decide +kernel) ?_
      refine z_al0 g dX4_inn_156 ?_
      refine zg4_6 g q1248 (Or.inl rfl) (by assumption) dX4_inn_157 ?_
      rw [mP_6]
      refine z_al0 g dX4_inn_160 ?_
      refine zg4_7 g q1249 (Or.inl rfl) (by assumption) dX4_inn_161 ?_
      rw [mP_7, he0]
      refine z_icmp_eq_t (tgt := 175) g dX4_inn_164 (by decide) (by rw [hje]) ?_
      refine z_al0 g dX4_inn_175 ?_
      refine zg4_1 g q1243 (Or.inl rfl) (by assumption) dX4_inn_176 (by assumption) ?_
      refine z_bipush g dX4_inn_179 zkb_7 ?_
      refine z_dup2 g dX4_inn_181 rfl rfl ?_
      refine z_iald (k := 0) g rfl (by assumption) (by omega) (by omega) dX4_inn_182 ?_
      refine z_top (show _ = nI m from by rw [mP_r]; exact c7) ?_
      refine z_iconst g dX4_inn_183 zki_1 ?_
      first | with_reducible refine z_iaddN g dX4_inn_184 ?_ | refine z_iadd g dX4_inn_184 ?_
      refine z_iast (k := 0) g rfl (by decide) (by assumption) (by omega) (by omega) dX4_inn_185 ?_
      rw [mP_r]
      refine z_mem rfl rfl mP_ur rfl rfl ?_
      refine z_al0 g dX4_inn_186 ?_
      refine zg4_1 g q1243 (Or.inl rfl) (by assumption) dX4_inn_187 (by assumption) ?_
      refine z_bipush g dX4_inn_190 zkb_11 ?_
      refine z_al0 g dX4_inn_192 ?_
      refine zg4_5 g q1247 (Or.inl rfl) (by assumption) dX4_inn_193 ?_
      rw [mP_5, ha0]
      refine z_iast (k := 0) g rfl (by decide) (by assumption) (by omega) (by omega) dX4_inn_196 ?_
      rw [mP_r]
      refine z_mem rfl rfl mP_ur rfl rfl ?_
      refine z_al0 g dX4_inn_197 ?_
      refine zg4_5 g q1247 (Or.inl rfl) (by assumption) dX4_inn_198 ?_
      rw [mP_5, ha0]
      refine z_iret g r (by omega) (by omega) dX4_inn_201 ?_
      refine ⟨_, ⟨?_, zfl j false _⟩, ?_, rfl, rfl, rfl, rfl, rfl⟩
      · unfold innQ
        rw [if_neg h75, hRR, ← hr, mP_r]
        show _ = innF _ _ l
        rw [h7, hmc]
        rfl
      · unfold innV
        rw [if_neg h75, hRR, ← hr]
        show _ = some (Value.int (I (t + 1) 7))
        rw [h7]
    · rw [if_neg hje] at hr
      refine z_al0 g dX4_inn_149 ?_
      refine zg4_8 g q1250 (Or.inl rfl) (by assumption) dX4_inn_150 ?_
      rw [mP_8]
      refine z_if_ne_f (tgt := 167) g dX4_inn_153 (by decide) (by decide +kernel) ?_
      refine z_al0 g dX4_inn_156 ?_
      refine zg4_6 g q1248 (Or.inl rfl) (by assumption) dX4_inn_157 ?_
      rw [mP_6]
      refine z_al0 g dX4_inn_160 ?_
      refine zg4_7 g q1249 (Or.inl rfl) (by assumption) dX4_inn_161 ?_
      rw [mP_7, he0]
      refine z_icmp_eq_f (tgt := 175) g dX4_inn_164 (by decide) (fun q => hje ((nI_eq (by omega) (by omega)).mp q)) ?_
      exact bad j false _ k hz hr.symm
  have loop : ∀ (rr k j : Nat) (l : List Cl), k + rr = 10 → PS m e (tapeF (I (t + 1))) (clsF m (I (t + 1)) l) j → zag (arA m) (row0F m (I (t + 1))) (clsF m (I (t + 1)) l) → innL (tapeF (I (t + 1))) e rr j l = (innP (tapeF (I (t + 1))) e) → Z E G 0 0 n T (mP t (zp I t (zp (zp (I t) 5 (nI m)) 7 (nI e))) j false 0 (clsF m (I (t + 1)) l)) L R 107 [some (.ref t), some (.int (nI k))] [] := by
    intro rr
    induction rr with
    | zero =>
      intro k j l hk hp hz hr
      obtain rfl : k = 10 := hk
      refine z_al0 g dX4_inn_107 ?_
      refine zg4_8 g q1250 (Or.inl rfl) (by assumption) dX4_inn_108 ?_
      rw [mP_8]
      refine z_if_ne_f (tgt := 149) g dX4_inn_111 (by decide) (by decide +kernel) ?_
      refine z_il1 g dX4_inn_114 ?_
      refine z_bipush g dX4_inn_115 zkb_10 ?_
      refine z_icmp_ge_t (tgt := 149) g dX4_inn_117 (by decide) (Int32.le_refl _) ?_
      exact fin j 10 l hp hz hr
    | succ rr ih =>
      intro k j l hk hp hz hr
      by_cases hq : hrP (tapeF (I (t + 1))) e j = nI 59
      · have hl := hr_lt hq (by decide)
        have hp1 := hp.step hl
        have hr1 : (match clauseP (tapeF (I (t + 1))) e (j + 1) with
          | .inl p => .inl p
          | .inr (j, c) => innL (tapeF (I (t + 1))) e rr j (l ++ [c]) : PR (List Cl)) = (innP (tapeF (I (t + 1))) e) := by rw [← hr]; exact (if_pos hq).symm
        rcases hv : clauseP (tapeF (I (t + 1))) e (j + 1) with p | ⟨j2, c⟩
        · rw [hv] at hr1
          refine z_al0 g dX4_inn_107 ?_
          refine zg4_8 g q1250 (Or.inl rfl) (by assumption) dX4_inn_108 ?_
          rw [mP_8]
          refine z_if_ne_f (tgt := 149) g dX4_inn_111 (by decide) (by decide +kernel) ?_
          refine z_il1 g dX4_inn_114 ?_
          refine z_bipush g dX4_inn_115 zkb_10 ?_
          refine z_icmp_ge_f (tgt := 149) g dX4_inn_117 (by decide) (nI_ge (by omega) (by omega)) ?_
          refine z_al0 g dX4_inn_120 ?_
          refine z_callV0 g ck_X4_here q1330 q1332 qs38 cls4 (by assumption) (c_X4_here hL ha0 ha5 he0 he100 hp) rfl (Nat.le_of_ble_eq_true rfl) (by omega) (by omega) (by omega) dX4_inn_121 (z_ans1 ?_)
          refine z_bipush g dX4_inn_124 zkb_59 ?_
          refine z_icmp_ne_f (tgt := 149) g dX4_inn_126 (by decide) (hq) ?_
          refine z_al0 g dX4_inn_129 ?_
          refine z_dup g dX4_inn_130 rfl ?_
          refine zg4_6 g q1248 (Or.inl rfl) (by assumption) dX4_inn_131 ?_
          rw [mP_6]
          refine z_iconst g dX4_inn_134 zki_1 ?_
          first | with_reducible refine z_iaddN g dX4_inn_135 ?_ | refine z_iadd g dX4_inn_135 ?_
          refine zs4_6 g q1248 (Or.inl rfl) (by assumption) dX4_inn_136 ?_
          refine z_mem rfl rfl mP_u6 rfl rfl ?_
          refine z_al0 g dX4_inn_139 ?_
          refine z_callV0 g ck_X4_clauseHere q1326 q1328 qs37 cls4 (by assumption) (c_X4_clauseHere hL ha0 ha5 he0 he100 hp1) rfl (Nat.le_of_ble_eq_true rfl) (by omega) (by omega) (by omega) dX4_inn_140 (z_ex fun w hw => z_ans0 ?_)
          rw [hv] at hw
          obtain ⟨row2, hz2, rfl⟩ := hw
          first | with_reducible refine z_inc1 g dX4_inn_143 (zinc1 _) rfl ?_ | refine z_inc1 g dX4_inn_143 rfl rfl ?_
          refine z_goto (tgt := 107) g dX4_inn_146 (by decide) ?_
          exact bad107 p row2 (k + 1) (hz.trans hz2) hr1.symm
        · rw [hv] at hr1
          have h4 := clause_ok hl j2 c hv
          obtain ⟨-, htp, c0, hc1, hc2⟩ := hp1
          have h5c := clF_c (q := c) ha5 hc2 (by omega)
          have hcl : clsF m (I (t + 1)) (l ++ [c]) = clF m (clsF m (I (t + 1)) l) c := by unfold clsF; rw [List.foldl_append]; rfl
          refine z_al0 g dX4_inn_107 ?_
          refine zg4_8 g q1250 (Or.inl rfl) (by assumption) dX4_inn_108 ?_
          rw [mP_8]
          refine z_if_ne_f (tgt := 149) g dX4_inn_111 (by decide) (by decide +kernel) ?_
          refine z_il1 g dX4_inn_114 ?_
          refine z_bipush g dX4_inn_115 zkb_10 ?_
          refine z_icmp_ge_f (tgt := 149) g dX4_inn_117 (by decide) (nI_ge (by omega) (by omega)) ?_
          refine z_al0 g dX4_inn_120 ?_
          refine z_callV0 g ck_X4_here q1330 q1332 qs38 cls4 (by assumption) (c_X4_here hL ha0 ha5 he0 he100 hp) rfl (Nat.le_of_ble_eq_true rfl) (by omega) (by omega) (by omega) dX4_inn_121 (z_ans1 ?_)
          refine z_bipush g dX4_inn_124 zkb_59 ?_
          refine z_icmp_ne_f (tgt := 149) g dX4_inn_126 (by decide) (hq) ?_
          refine z_al0 g dX4_inn_129 ?_
          refine z_dup g dX4_inn_130 rfl ?_
          refine zg4_6 g q1248 (Or.inl rfl) (by assumption) dX4_inn_131 ?_
          rw [mP_6]
          refine z_iconst g dX4_inn_134 zki_1 ?_
          first | with_reducible refine z_iaddN g dX4_inn_135 ?_ | refine z_iadd g dX4_inn_135 ?_
          refine zs4_6 g q1248 (Or.inl rfl) (by assumption) dX4_inn_136 ?_
          refine z_mem rfl rfl mP_u6 rfl rfl ?_
          refine z_al0 g dX4_inn_139 ?_
          refine z_callV0 g ck_X4_clauseHere q1326 q1328 qs37 cls4 (by assumption) (c_X4_clauseHere hL ha0 ha5 he0 he100 (hp.step hl)) rfl (Nat.le_of_ble_eq_true rfl) (by omega) (by omega) (by omega) dX4_inn_140 (z_ex fun w hw => z_ans0 ?_)
          rw [hv] at hw
          cases hw
          first | with_reducible refine z_inc1 g dX4_inn_143 (zinc1 _) rfl ?_ | refine z_inc1 g dX4_inn_143 rfl rfl ?_
          refine z_goto (tgt := 107) g dX4_inn_146 (by decide) ?_
          rw [← hcl]
          refine ih (k + 1) j2 (l ++ [c]) (by omega) ?_ ?_ hr1
          · rw [hcl]
            obtain ⟨⟨c1, q1, q2⟩, q3⟩ := h5c
            refine ⟨h4.2.1, fun x hx => ?_, c1, by omega, q2⟩
            rw [q3 (74 + x) (fun q => by unfold arA at q; omega)]
            exact htp x hx
          · rw [hcl]
            exact hz.trans h5c.2
      · have hr1 : (if j = e then .inr (j, l) else .inl j) = (innP (tapeF (I (t + 1))) e) := by rw [← hr]; exact (if_neg hq).symm
        refine z_al0 g dX4_inn_107 ?_
        refine zg4_8 g q1250 (Or.inl rfl) (by assumption) dX4_inn_108 ?_
        rw [mP_8]
        refine z_if_ne_f (tgt := 149) g dX4_inn_111 (by decide) (by decide +kernel) ?_
        refine z_il1 g dX4_inn_114 ?_
        refine z_bipush g dX4_inn_115 zkb_10 ?_
        refine z_icmp_ge_f (tgt := 149) g dX4_inn_117 (by decide) (nI_ge (by omega) (by omega)) ?_
        refine z_al0 g dX4_inn_120 ?_
        refine z_callV0 g ck_X4_here q1330 q1332 qs38 cls4 (by assumption) (c_X4_here hL ha0 ha5 he0 he100 hp) rfl (Nat.le_of_ble_eq_true rfl) (by omega) (by omega) (by omega) dX4_inn_121 (z_ans1 ?_)
        refine z_bipush g dX4_inn_124 zkb_59 ?_
        refine z_icmp_ne_t (tgt := 149) g dX4_inn_126 (by decide) (hq) ?_
        exact fin j k l hp hz hr1
  have hp0 : PS m e (tapeF (I (t + 1))) (row0F m (I (t + 1))) 0 := ⟨Nat.zero_le _, r01, 0, Nat.le_refl _, r02⟩
  rcases hv : clauseP (tapeF (I (t + 1))) e 0 with p | ⟨j2, c⟩
  · have hr1 : (innP (tapeF (I (t + 1))) e) = .inl p := by unfold innP; rw [hv]
    refine z_al0 g dX4_inn_0 ?_
    refine zg4_1 g q1243 (Or.inl rfl) (by assumption) dX4_inn_1 (by assumption) ?_
    refine z_bipush g dX4_inn_4 zkb_7 ?_
    refine z_iald (k := 0) g rfl (by assumption) (by omega) (by omega) dX4_inn_6 ?_
    refine z_iconst g dX4_inn_7 zki_5 ?_
    refine z_icmp_ne_t (tgt := 14) g dX4_inn_8 (by decide) (h75) ?_
    refine z_al0 g dX4_inn_14 ?_
    refine z_al0 g dX4_inn_15 ?_
    refine zg4_1 g q1243 (Or.inl rfl) (by assumption) dX4_inn_16 (by assumption) ?_
    refine z_bipush g dX4_inn_19 zkb_7 ?_
    refine z_iald (k := 0) g rfl (by assumption) (by omega) (by omega) dX4_inn_21 ?_
    refine z_top h7 ?_
    refine zs4_5 g q1247 (Or.inl rfl) (by assumption) dX4_inn_22 ?_
    refine z_al0 g dX4_inn_25 ?_
    refine z_al0 g dX4_inn_26 ?_
    refine zg4_1 g q1243 (Or.inl rfl) (by assumption) dX4_inn_27 (by assumption) ?_
    refine z_bipush g dX4_inn_30 zkb_10 ?_
    refine z_iald (k := 0) g rfl (by assumption) (by omega) (by omega) dX4_inn_32 ?_
    refine z_top (show _ = nI e from by rw [zp_n (by omega)]; exact h10) ?_
    refine zs4_7 g q1249 (Or.inl rfl) (by assumption) dX4_inn_33 ?_
    refine z_mem rfl rfl (show _ = zp I t (zp (zp (I t) 5 (nI m)) 7 (nI e)) from by rw [zp_s, zp_zp]) rfl rfl ?_
    refine z_al0 g dX4_inn_36 ?_
    refine zg4_1 g q1243 (Or.inl rfl) (by assumption) dX4_inn_37 (by assumption) ?_
    refine z_bipush g dX4_inn_40 zkb_10 ?_
    refine z_iconst g dX4_inn_42 zki_0 ?_
    refine z_iast (k := 0) g rfl (by decide) (by assumption) (by omega) (by omega) dX4_inn_43 ?_
    refine z_al0 g dX4_inn_44 ?_
    refine zg4_1 g q1243 (Or.inl rfl) (by assumption) dX4_inn_45 (by assumption) ?_
    refine z_sipush g dX4_inn_48 zks_174 ?_
    refine z_al0 g dX4_inn_51 ?_
    refine zg4_5 g q1247 (Or.inl rfl) (by assumption) dX4_inn_52 ?_
    refine z_top (show _ = nI m from by rw [zp_n (by omega)]; exact ha0) ?_
    first | with_reducible refine z_iaddN g dX4_inn_55 ?_ | refine z_iadd g dX4_inn_55 ?_
    refine z_iconst g dX4_inn_56 zki_1 ?_
    refine z_iast (k := 0) g rfl (by decide) (by assumption) (by omega) (by omega) dX4_inn_57 ?_
    refine z_al0 g dX4_inn_58 ?_
    refine zg4_1 g q1243 (Or.inl rfl) (by assumption) dX4_inn_59 (by assumption) ?_
    refine z_sipush g dX4_inn_62 zks_179 ?_
    refine z_al0 g dX4_inn_65 ?_
    refine zg4_5 g q1247 (Or.inl rfl) (by assumption) dX4_inn_66 ?_
    refine z_top (show _ = nI m from by rw [zp_n (by omega), zp_n (by omega)]; exact ha0) ?_
    first | with_reducible refine z_iaddN g dX4_inn_69 ?_ | refine z_iadd g dX4_inn_69 ?_
    refine z_iconst g dX4_inn_70 zki_1 ?_
    refine z_iast (k := 0) g rfl (by decide) (by assumption) (by omega) (by omega) dX4_inn_71 ?_
    refine z_al0 g dX4_inn_72 ?_
    refine zg4_1 g q1243 (Or.inl rfl) (by assumption) dX4_inn_73 (by assumption) ?_
    refine z_sipush g dX4_inn_76 zks_184 ?_
    refine z_al0 g dX4_inn_79 ?_
    refine zg4_5 g q1247 (Or.inl rfl) (by assumption) dX4_inn_80 ?_
    refine z_top (show _ = nI m from by rw [zp_n (by omega), zp_n (by omega), zp_n (by omega)]; exact ha0) ?_
    first | with_reducible refine z_iaddN g dX4_inn_83 ?_ | refine z_iadd g dX4_inn_83 ?_
    refine z_iconst g dX4_inn_84 zki_0 ?_
    refine z_iast (k := 0) g rfl (by decide) (by assumption) (by omega) (by omega) dX4_inn_85 ?_
    refine z_mem rfl rfl (show _ = (zp (zp I t (zp (zp (I t) 5 (nI m)) 7 (nI e))) (t + 1) (row0F m (I (t + 1)))) from by simp only [zp_zp, zp_s, zp_n (show t + 1 ≠ t by omega)]; rfl) rfl rfl ?_
    refine z_al0 g dX4_inn_86 ?_
    refine z_iconst g dX4_inn_87 zki_0 ?_
    refine zs4_6 g q1248 (Or.inl rfl) (by assumption) dX4_inn_88 ?_
    refine z_al0 g dX4_inn_91 ?_
    refine z_iconst g dX4_inn_92 zki_0 ?_
    refine zs4_8 g q1250 (Or.inl rfl) (by assumption) dX4_inn_93 zfit_0 ?_
    refine z_al0 g dX4_inn_96 ?_
    refine z_iconst g dX4_inn_97 zki_0 ?_
    refine zs4_9 g q1251 (Or.inl rfl) (by assumption) dX4_inn_98 ?_
    refine z_mem rfl rfl (show _ = (mP t (zp I t (zp (zp (I t) 5 (nI m)) 7 (nI e))) 0 false 0 (row0F m (I (t + 1)))) from by unfold mP; simp only [zp_zp, zp_s, zp_n (show t ≠ t + 1 by omega)]; rw [zp_comm (a := t + 1) (b := t) (by omega), zp_zp]; rfl) rfl rfl ?_
    refine z_iconst g dX4_inn_101 zki_1 ?_
    refine z_is1 g dX4_inn_102 rfl ?_
    refine z_al0 g dX4_inn_103 ?_
    refine z_callV0 g ck_X4_clauseHere q1326 q1328 qs37 cls4 (by assumption) (c_X4_clauseHere hL ha0 ha5 he0 he100 hp0) rfl (Nat.le_of_ble_eq_true rfl) (by omega) (by omega) (by omega) dX4_inn_104 (z_ex fun w hw => z_ans0 ?_)
    rw [hv] at hw
    obtain ⟨row2, hz2, rfl⟩ := hw
    exact bad107 p row2 1 hz2 hr1
  · have hr1 : innL (tapeF (I (t + 1))) e 9 j2 [c] = (innP (tapeF (I (t + 1))) e) := by unfold innP; rw [hv]
    have h4 := clause_ok (Nat.zero_le e) j2 c hv
    have h5c := clF_c (q := c) ha5 r02 (by omega)
    refine z_al0 g dX4_inn_0 ?_
    refine zg4_1 g q1243 (Or.inl rfl) (by assumption) dX4_inn_1 (by assumption) ?_
    refine z_bipush g dX4_inn_4 zkb_7 ?_
    refine z_iald (k := 0) g rfl (by assumption) (by omega) (by omega) dX4_inn_6 ?_
    refine z_iconst g dX4_inn_7 zki_5 ?_
    refine z_icmp_ne_t (tgt := 14) g dX4_inn_8 (by decide) (h75) ?_
    refine z_al0 g dX4_inn_14 ?_
    refine z_al0 g dX4_inn_15 ?_
    refine zg4_1 g q1243 (Or.inl rfl) (by assumption) dX4_inn_16 (by assumption) ?_
    refine z_bipush g dX4_inn_19 zkb_7 ?_
    refine z_iald (k := 0) g rfl (by assumption) (by omega) (by omega) dX4_inn_21 ?_
    refine z_top h7 ?_
    refine zs4_5 g q1247 (Or.inl rfl) (by assumption) dX4_inn_22 ?_
    refine z_al0 g dX4_inn_25 ?_
    refine z_al0 g dX4_inn_26 ?_
    refine zg4_1 g q1243 (Or.inl rfl) (by assumption) dX4_inn_27 (by assumption) ?_
    refine z_bipush g dX4_inn_30 zkb_10 ?_
    refine z_iald (k := 0) g rfl (by assumption) (by omega) (by omega) dX4_inn_32 ?_
    refine z_top (show _ = nI e from by rw [zp_n (by omega)]; exact h10) ?_
    refine zs4_7 g q1249 (Or.inl rfl) (by assumption) dX4_inn_33 ?_
    refine z_mem rfl rfl (show _ = zp I t (zp (zp (I t) 5 (nI m)) 7 (nI e)) from by rw [zp_s, zp_zp]) rfl rfl ?_
    refine z_al0 g dX4_inn_36 ?_
    refine zg4_1 g q1243 (Or.inl rfl) (by assumption) dX4_inn_37 (by assumption) ?_
    refine z_bipush g dX4_inn_40 zkb_10 ?_
    refine z_iconst g dX4_inn_42 zki_0 ?_
    refine z_iast (k := 0) g rfl (by decide) (by assumption) (by omega) (by omega) dX4_inn_43 ?_
    refine z_al0 g dX4_inn_44 ?_
    refine zg4_1 g q1243 (Or.inl rfl) (by assumption) dX4_inn_45 (by assumption) ?_
    refine z_sipush g dX4_inn_48 zks_174 ?_
    refine z_al0 g dX4_inn_51 ?_
    refine zg4_5 g q1247 (Or.inl rfl) (by assumption) dX4_inn_52 ?_
    refine z_top (show _ = nI m from by rw [zp_n (by omega)]; exact ha0) ?_
    first | with_reducible refine z_iaddN g dX4_inn_55 ?_ | refine z_iadd g dX4_inn_55 ?_
    refine z_iconst g dX4_inn_56 zki_1 ?_
    refine z_iast (k := 0) g rfl (by decide) (by assumption) (by omega) (by omega) dX4_inn_57 ?_
    refine z_al0 g dX4_inn_58 ?_
    refine zg4_1 g q1243 (Or.inl rfl) (by assumption) dX4_inn_59 (by assumption) ?_
    refine z_sipush g dX4_inn_62 zks_179 ?_
    refine z_al0 g dX4_inn_65 ?_
    refine zg4_5 g q1247 (Or.inl rfl) (by assumption) dX4_inn_66 ?_
    refine z_top (show _ = nI m from by rw [zp_n (by omega), zp_n (by omega)]; exact ha0) ?_
    first | with_reducible refine z_iaddN g dX4_inn_69 ?_ | refine z_iadd g dX4_inn_69 ?_
    refine z_iconst g dX4_inn_70 zki_1 ?_
    refine z_iast (k := 0) g rfl (by decide) (by assumption) (by omega) (by omega) dX4_inn_71 ?_
    refine z_al0 g dX4_inn_72 ?_
    refine zg4_1 g q1243 (Or.inl rfl) (by assumption) dX4_inn_73 (by assumption) ?_
    refine z_sipush g dX4_inn_76 zks_184 ?_
    refine z_al0 g dX4_inn_79 ?_
    refine zg4_5 g q1247 (Or.inl rfl) (by assumption) dX4_inn_80 ?_
    refine z_top (show _ = nI m from by rw [zp_n (by omega), zp_n (by omega), zp_n (by omega)]; exact ha0) ?_
    first | with_reducible refine z_iaddN g dX4_inn_83 ?_ | refine z_iadd g dX4_inn_83 ?_
    refine z_iconst g dX4_inn_84 zki_0 ?_
    refine z_iast (k := 0) g rfl (by decide) (by assumption) (by omega) (by omega) dX4_inn_85 ?_
    refine z_mem rfl rfl (show _ = (zp (zp I t (zp (zp (I t) 5 (nI m)) 7 (nI e))) (t + 1) (row0F m (I (t + 1)))) from by simp only [zp_zp, zp_s, zp_n (show t + 1 ≠ t by omega)]; rfl) rfl rfl ?_
    refine z_al0 g dX4_inn_86 ?_
    refine z_iconst g dX4_inn_87 zki_0 ?_
    refine zs4_6 g q1248 (Or.inl rfl) (by assumption) dX4_inn_88 ?_
    refine z_al0 g dX4_inn_91 ?_
    refine z_iconst g dX4_inn_92 zki_0 ?_
    refine zs4_8 g q1250 (Or.inl rfl) (by assumption) dX4_inn_93 zfit_0 ?_
    refine z_al0 g dX4_inn_96 ?_
    refine z_iconst g dX4_inn_97 zki_0 ?_
    refine zs4_9 g q1251 (Or.inl rfl) (by assumption) dX4_inn_98 ?_
    refine z_mem rfl rfl (show _ = (mP t (zp I t (zp (zp (I t) 5 (nI m)) 7 (nI e))) 0 false 0 (row0F m (I (t + 1)))) from by unfold mP; simp only [zp_zp, zp_s, zp_n (show t ≠ t + 1 by omega)]; rw [zp_comm (a := t + 1) (b := t) (by omega), zp_zp]; rfl) rfl rfl ?_
    refine z_iconst g dX4_inn_101 zki_1 ?_
    refine z_is1 g dX4_inn_102 rfl ?_
    refine z_al0 g dX4_inn_103 ?_
    refine z_callV0 g ck_X4_clauseHere q1326 q1328 qs37 cls4 (by assumption) (c_X4_clauseHere hL ha0 ha5 he0 he100 hp0) rfl (Nat.le_of_ble_eq_true rfl) (by omega) (by omega) (by omega) dX4_inn_104 (z_ex fun w hw => z_ans0 ?_)
    rw [hv] at hw
    cases hw
    refine loop 9 1 j2 [c] rfl ?_ h5c.2 hr1
    obtain ⟨⟨c1, q1, q2⟩, q3⟩ := h5c
    refine ⟨h4.2.1, fun x hx => ?_, c1, by omega, q2⟩
    show clF m _ c (74 + x) = _
    rw [q3 (74 + x) (fun q => by unfold arA at q; omega)]
    exact r01 x hx

