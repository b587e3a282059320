/-! ===== the twin: tests are read ===== -/
set_option maxRecDepth 100000
set_option maxHeartbeats 4000000 in
theorem c_X4_factor_w {E : ZE} {n : Nat} {T : ZT} {I : ZI} {L : ZL} {R : ZR} {t : Nat} (hL : TL T R t) {i d : Nat} {row : SV} : zM E yX4_factor cX4_factor 5 none 1 0 0 [.ref t] n T (mP t I i true d row) L R (zis (none) n T (mP t I i true d row) L R) := by
  refine zM.of (lv0 := [some (.ref t), none, none, none, none]) pn_X4 (Nat.le_of_ble_eq_true rfl) rfl fun G g r hin hlt hbn => ?_
  have g : zGd E G cX4_factor RX4 5 1 0 0 := g
  have hL0 := hL
  obtain ⟨hT, h1, ht1, h2, ht2, h3, ht3, h10, ht4, h11, ht5, ht6, ht7, h16, ht8, h17, ht9, h19, ht10⟩ := hL0
  refine z_al0 g dX4_factor_0 ?_
  refine zg4_8 g q1250 (Or.inl rfl) (by assumption) dX4_factor_1 ?_
  rw [mP_8]
  refine z_if_eq_f (tgt := 8) g dX4_factor_4 (by decide) (by decide +kernel) ?_
  refine z_vret g r (by omega) (by omega) dX4_factor_7 ?_
  exact zis.rf

set_option maxHeartbeats 4000000 in
theorem c_X4_every_w {E : ZE} {n : Nat} {T : ZT} {I : ZI} {L : ZL} {R : ZR} {t : Nat} (hL : TL T R t) {i d : Nat} {row : SV} : zM E yX4_every cX4_every 1 none 3 0 0 [.ref t] n T (mP t I i true d row) L R (zis (none) n T (mP t I i true d row) L R) := by
  refine zM.of (lv0 := [some (.ref t)]) pn_X4 (Nat.le_of_ble_eq_true rfl) rfl fun G g r hin hlt hbn => ?_
  have g : zGd E G cX4_every RX4 1 3 0 0 := g
  have hL0 := hL
  obtain ⟨hT, h1, ht1, h2, ht2, h3, ht3, h10, ht4, h11, ht5, ht6, ht7, h16, ht8, h17, ht9, h19, ht10⟩ := hL0
  refine z_al0 g dX4_every_0 ?_
  refine z_callV0 g ck_X4_factor q1409 q1411 qs46 cls4 (by assumption) (c_X4_factor_w hL) rfl (Nat.le_of_ble_eq_true rfl) (by omega) (by omega) (by omega) dX4_every_1 (z_ans0 ?_)
  refine z_al0 g dX4_every_4 ?_
  refine zg4_8 g q1250 (Or.inl rfl) (by assumption) dX4_every_5 ?_
  rw [mP_8]
  refine z_if_ne_t (tgt := 43) g dX4_every_8 (by decide) (by decide +kernel) ?_
  refine z_vret g r (by omega) (by omega) dX4_every_43 ?_
  exact zis.rf

set_option maxHeartbeats 4000000 in
theorem c_X4_some_w {E : ZE} {n : Nat} {T : ZT} {I : ZI} {L : ZL} {R : ZR} {t : Nat} (hL : TL T R t) {i d : Nat} {row : SV} : zM E yX4_some cX4_some 1 none 4 0 0 [.ref t] n T (mP t I i true d row) L R (zis (none) n T (mP t I i true d row) L R) := by
  refine zM.of (lv0 := [some (.ref t)]) pn_X4 (Nat.le_of_ble_eq_true rfl) rfl fun G g r hin hlt hbn => ?_
  have g : zGd E G cX4_some RX4 1 4 0 0 := g
  have hL0 := hL
  obtain ⟨hT, h1, ht1, h2, ht2, h3, ht3, h10, ht4, h11, ht5, ht6, ht7, h16, ht8, h17, ht9, h19, ht10⟩ := hL0
  refine z_al0 g dX4_some_0 ?_
  refine z_callV0 g ck_X4_every q1405 q1407 qs45 cls4 (by assumption) (c_X4_every_w hL) rfl (Nat.le_of_ble_eq_true rfl) (by omega) (by omega) (by omega) dX4_some_1 (z_ans0 ?_)
  refine z_al0 g dX4_some_4 ?_
  refine zg4_8 g q1250 (Or.inl rfl) (by assumption) dX4_some_5 ?_
  rw [mP_8]
  refine z_if_ne_t (tgt := 43) g dX4_some_8 (by decide) (by decide +kernel) ?_
  refine z_vret g r (by omega) (by omega) dX4_some_43 ?_
  exact zis.rf

theorem appS_two (a : Nat) (row : SV) (l m : List Int32) (s : Int32) : putS a (appS a (appS a row l) m) s = appS a row (l ++ (m ++ [s])) := by
  rw [appS_app, appS_app]
  rfl
theorem appS_one (a : Nat) (row : SV) (l : List Int32) (s : Int32) : putS a (appS a row l) s = appS a row (l ++ [s]) := by
  rw [appS_app]
  rfl
set_option maxHeartbeats 4000000 in
theorem c_X4_every {E : ZE} {n : Nat} {T : ZT} {I : ZI} {L : ZL} {R : ZR} {t : Nat} (hL : TL T R t) {tp : Nat → Int32} {a e : Nat} (ha : I t 5 = nI a) (ha5 : a < 5) (he : I t 7 = nI e) (he100 : e ≤ 100) {i d : Nat} {row : SV} {fac : Nat → PR Tst} {D : Nat} (hok : ∀ i : Nat, i ≤ e → okT e i (fac i)) (hsub : ∀ (i : Nat) (row : SV), PS a e tp row i → zM E yX4_factor cX4_factor 5 none D 0 0 [.ref t] n T (mP t I i false d row) L R (zpp t n T I L R d a row (fac i))) (hp : PS a e tp row i) (hD : 2 ≤ D) : zM E yX4_every cX4_every 1 none (D + 1) 0 0 [.ref t] n T (mP t I i false d row) L R (zpp t n T I L R d a row (everP tp e fac i)) := by
  refine zM.of (lv0 := [some (.ref t)]) pn_X4 (Nat.le_of_ble_eq_true rfl) rfl fun G g r hin hlt hbn => ?_
  have g : zGd E G cX4_every RX4 1 (D + 1) 0 0 := g
  have hL0 := hL
  obtain ⟨hT, h1, ht1, h2, ht2, h3, ht3, h10, ht4, h11, ht5, ht6, ht7, h16, ht8, h17, ht9, h19, ht10⟩ := hL0
  have hgo : ∀ i : Nat, i ≤ e → okT e i (fac i) := hok
  have loop : ∀ (f j : Nat) (l : Tst), e - j < f → i < j → j ≤ e → l.length ≤ j - i → everL tp e fac f j l = (everP tp e fac i) → Z E G 0 0 n T (mP t I j false d (appS a row l)) L R 4 [some (.ref t)] [] := by
    intro f
    induction f with
    | zero => intro j l h; exact absurd h (Nat.not_lt_zero _)
    | succ f ih =>
      intro j l hf h1 h2 h3 hr
      obtain ⟨hpj, hzj⟩ := hp.app he100 (Nat.le_of_lt h1) h2 h3
      by_cases hq : hrP tp e j = nI 38
      · have hl := hr_lt hq (by decide)
        have hpj1 := hpj.step hl
        rcases hv : fac (j + 1) with p | ⟨k, m⟩
        · have hr2 : (everP tp e fac i) = .inl p := by rw [← hr, show everL tp e fac (f + 1) j l = _ from if_pos hq, hv]
          refine z_al0 g dX4_every_4 ?_
          refine zg4_8 g q1250 (Or.inl rfl) (by assumption) dX4_every_5 ?_
          rw [mP_8]
          refine z_if_ne_f (tgt := 43) g dX4_every_8 (by decide) (by decide +kernel) ?_
          refine z_al0 g dX4_every_11 ?_
          refine z_callV0 g ck_X4_here q1330 q1332 qs38 cls4 (by assumption) (c_X4_here hL ha ha5 he he100 hpj) rfl (Nat.le_of_ble_eq_true rfl) (by omega) (by omega) (by omega) dX4_every_12 (z_ans1 ?_)
          refine z_bipush g dX4_every_15 zkb_38 ?_
          refine z_icmp_ne_f (tgt := 43) g dX4_every_17 (by decide) (hq) ?_
          refine z_al0 g dX4_every_20 ?_
          refine z_dup g dX4_every_21 rfl ?_
          refine zg4_6 g q1248 (Or.inl rfl) (by assumption) dX4_every_22 ?_
          rw [mP_6]
          refine z_iconst g dX4_every_25 zki_1 ?_
          first | with_reducible refine z_iaddN g dX4_every_26 ?_ | refine z_iadd g dX4_every_26 ?_
          refine zs4_6 g q1248 (Or.inl rfl) (by assumption) dX4_every_27 ?_
          refine z_mem rfl rfl mP_u6 rfl rfl ?_
          refine z_al0 g dX4_every_30 ?_
          refine z_callV0 g ck_X4_factor q1409 q1411 qs46 cls4 (by assumption) (hsub (j + 1) (appS a row l) hpj1) rfl (Nat.le_of_ble_eq_true rfl) (by omega) (by omega) (by omega) dX4_every_31 (z_ex fun w hw => z_ans0 ?_)
          rw [hv] at hw
          obtain ⟨row2, hz2, rfl⟩ := hw
          refine z_al0 g dX4_every_34 ?_
          refine z_bipush g dX4_every_35 zkb_m2 ?_
          refine z_callV1 g ck_X4_emits q1413 q1415 qs47 cls4 (by assumption) (c_X4_emits_w hL) rfl (Nat.le_of_ble_eq_true rfl) (by omega) (by omega) (by omega) dX4_every_37 (z_ans0 ?_)
          refine z_goto (tgt := 4) g dX4_every_40 (by decide) ?_
          refine z_al0 g dX4_every_4 ?_
          refine zg4_8 g q1250 (Or.inl rfl) (by assumption) dX4_every_5 ?_
          rw [mP_8]
          refine z_if_ne_t (tgt := 43) g dX4_every_8 (by decide) (by decide +kernel) ?_
          refine z_vret g r (by omega) (by omega) dX4_every_43 ?_
          exact ⟨_, by rw [hr2]; exact ⟨row2, hzj.trans hz2, rfl⟩, rfl, rfl, rfl, rfl, rfl, rfl⟩
        · have h4 := hgo (j + 1) hl k m hv
          refine z_al0 g dX4_every_4 ?_
          refine zg4_8 g q1250 (Or.inl rfl) (by assumption) dX4_every_5 ?_
          rw [mP_8]
          refine z_if_ne_f (tgt := 43) g dX4_every_8 (by decide) (by decide +kernel) ?_
          refine z_al0 g dX4_every_11 ?_
          refine z_callV0 g ck_X4_here q1330 q1332 qs38 cls4 (by assumption) (c_X4_here hL ha ha5 he he100 hpj) rfl (Nat.le_of_ble_eq_true rfl) (by omega) (by omega) (by omega) dX4_every_12 (z_ans1 ?_)
          refine z_bipush g dX4_every_15 zkb_38 ?_
          refine z_icmp_ne_f (tgt := 43) g dX4_every_17 (by decide) (hq) ?_
          refine z_al0 g dX4_every_20 ?_
          refine z_dup g dX4_every_21 rfl ?_
          refine zg4_6 g q1248 (Or.inl rfl) (by assumption) dX4_every_22 ?_
          rw [mP_6]
          refine z_iconst g dX4_every_25 zki_1 ?_
          first | with_reducible refine z_iaddN g dX4_every_26 ?_ | refine z_iadd g dX4_every_26 ?_
          refine zs4_6 g q1248 (Or.inl rfl) (by assumption) dX4_every_27 ?_
          refine z_mem rfl rfl mP_u6 rfl rfl ?_
          refine z_al0 g dX4_every_30 ?_
          refine z_callV0 g ck_X4_factor q1409 q1411 qs46 cls4 (by assumption) (hsub (j + 1) (appS a row l) hpj1) rfl (Nat.le_of_ble_eq_true rfl) (by omega) (by omega) (by omega) dX4_every_31 (z_ex fun w hw => z_ans0 ?_)
          rw [hv] at hw
          cases hw
          refine z_al0 g dX4_every_34 ?_
          refine z_bipush g dX4_every_35 zkb_m2 ?_
          refine z_callV1 g ck_X4_emits q1413 q1415 qs47 cls4 (by assumption) (c_X4_emits hL ha ha5 he he100 (hpj1.app he100 (Nat.le_of_lt h4.1) h4.2.1 h4.2.2).1) rfl (Nat.le_of_ble_eq_true rfl) (by omega) (by omega) (by omega) dX4_every_37 (z_ans0 ?_)
          rw [appS_two]
          refine z_goto (tgt := 4) g dX4_every_40 (by decide) ?_
          exact ih k (l ++ (m ++ [(if true = true then (-2 : Int32) else -3)])) (by omega) (by omega) h4.2.1 (by simp only [List.length_append, List.length_cons, List.length_nil]; omega) (by rw [← hr, show everL tp e fac (f + 1) j l = _ from if_pos hq, hv])
      · have hr2 : (everP tp e fac i) = .inr (j, l) := by rw [← hr, show everL tp e fac (f + 1) j l = _ from if_neg hq]
        refine z_al0 g dX4_every_4 ?_
        refine zg4_8 g q1250 (Or.inl rfl) (by assumption) dX4_every_5 ?_
        rw [mP_8]
        refine z_if_ne_f (tgt := 43) g dX4_every_8 (by decide) (by decide +kernel) ?_
        refine z_al0 g dX4_every_11 ?_
        refine z_callV0 g ck_X4_here q1330 q1332 qs38 cls4 (by assumption) (c_X4_here hL ha ha5 he he100 hpj) rfl (Nat.le_of_ble_eq_true rfl) (by omega) (by omega) (by omega) dX4_every_12 (z_ans1 ?_)
        refine z_bipush g dX4_every_15 zkb_38 ?_
        refine z_icmp_ne_t (tgt := 43) g dX4_every_17 (by decide) (hq) ?_
        refine z_vret g r (by omega) (by omega) dX4_every_43 ?_
        exact ⟨_, by rw [hr2]; rfl, rfl, rfl, rfl, rfl, rfl, rfl⟩
  rcases hv : fac i with p | ⟨k, m⟩
  · have hr2 : (everP tp e fac i) = .inl p := by unfold everP; rw [hv]
    refine z_al0 g dX4_every_0 ?_
    refine z_callV0 g ck_X4_factor q1409 q1411 qs46 cls4 (by assumption) (hsub i row hp) rfl (Nat.le_of_ble_eq_true rfl) (by omega) (by omega) (by omega) dX4_every_1 (z_ex fun w hw => z_ans0 ?_)
    rw [hv] at hw
    obtain ⟨row2, hz2, rfl⟩ := hw
    refine z_al0 g dX4_every_4 ?_
    refine zg4_8 g q1250 (Or.inl rfl) (by assumption) dX4_every_5 ?_
    rw [mP_8]
    refine z_if_ne_t (tgt := 43) g dX4_every_8 (by decide) (by decide +kernel) ?_
    refine z_vret g r (by omega) (by omega) dX4_every_43 ?_
    exact ⟨_, by rw [hr2]; exact ⟨row2, hz2, rfl⟩, rfl, rfl, rfl, rfl, rfl, rfl⟩
  · have h4 := hgo i hp.1 k m hv
    refine z_al0 g dX4_every_0 ?_
    refine z_callV0 g ck_X4_factor q1409 q1411 qs46 cls4 (by assumption) (hsub i row hp) rfl (Nat.le_of_ble_eq_true rfl) (by omega) (by omega) (by omega) dX4_every_1 (z_ex fun w hw => z_ans0 ?_)
    rw [hv] at hw
    cases hw
    exact loop (e + 1) k m (by omega) h4.1 h4.2.1 h4.2.2 (by unfold everP; rw [hv])

set_option maxHeartbeats 4000000 in
theorem c_X4_some {E : ZE} {n : Nat} {T : ZT} {I : ZI} {L : ZL} {R : ZR} {t : Nat} (hL : TL T R t) {tp : Nat → Int32} {a e : Nat} (ha : I t 5 = nI a) (ha5 : a < 5) (he : I t 7 = nI e) (he100 : e ≤ 100) {i d : Nat} {row : SV} {fac : Nat → PR Tst} {D : Nat} (hok : ∀ i : Nat, i ≤ e → okT e i (fac i)) (hsub : ∀ (i : Nat) (row : SV), PS a e tp row i → zM E yX4_every cX4_every 1 none D 0 0 [.ref t] n T (mP t I i false d row) L R (zpp t n T I L R d a row ((everP tp e fac) i))) (hp : PS a e tp row i) (hD : 2 ≤ D) : zM E yX4_some cX4_some 1 none (D + 1) 0 0 [.ref t] n T (mP t I i false d row) L R (zpp t n T I L R d a row (someP tp e fac i)) := by
  refine zM.of (lv0 := [some (.ref t)]) pn_X4 (Nat.le_of_ble_eq_true rfl) rfl fun G g r hin hlt hbn => ?_
  have g : zGd E G cX4_some RX4 1 (D + 1) 0 0 := g
  have hL0 := hL
  obtain ⟨hT, h1, ht1, h2, ht2, h3, ht3, h10, ht4, h11, ht5, ht6, ht7, h16, ht8, h17, ht9, h19, ht10⟩ := hL0
  have hgo : ∀ i : Nat, i ≤ e → okT e i ((everP tp e fac) i) := (fun i hi => everP_ok hok hi)
  have loop : ∀ (f j : Nat) (l : Tst), e - j < f → i < j → j ≤ e → l.length ≤ j - i → someL tp e fac f j l = (someP tp e fac i) → Z E G 0 0 n T (mP t I j false d (appS a row l)) L R 4 [some (.ref t)] [] := by
    intro f
    induction f with
    | zero => intro j l h; exact absurd h (Nat.not_lt_zero _)
    | succ f ih =>
      intro j l hf h1 h2 h3 hr
      obtain ⟨hpj, hzj⟩ := hp.app he100 (Nat.le_of_lt h1) h2 h3
      by_cases hq : hrP tp e j = nI 124
      · have hl := hr_lt hq (by decide)
        have hpj1 := hpj.step hl
        rcases hv : (everP tp e fac) (j + 1) with p | ⟨k, m⟩
        · have hr2 : (someP tp e fac i) = .inl p := by rw [← hr, show someL tp e fac (f + 1) j l = _ from if_pos hq, hv]
          refine z_al0 g dX4_some_4 ?_
          refine zg4_8 g q1250 (Or.inl rfl) (by assumption) dX4_some_5 ?_
          rw [mP_8]
          refine z_if_ne_f (tgt := 43) g dX4_some_8 (by decide) (by decide +kernel) ?_
          refine z_al0 g dX4_some_11 ?_
          refine z_callV0 g ck_X4_here q1330 q1332 qs38 cls4 (by assumption) (c_X4_here hL ha ha5 he he100 hpj) rfl (Nat.le_of_ble_eq_true rfl) (by omega) (by omega) (by omega) dX4_some_12 (z_ans1 ?_)
          refine z_bipush g dX4_some_15 zkb_124 ?_
          refine z_icmp_ne_f (tgt := 43) g dX4_some_17 (by decide) (hq) ?_
          refine z_al0 g dX4_some_20 ?_
          refine z_dup g dX4_some_21 rfl ?_
          refine zg4_6 g q1248 (Or.inl rfl) (by assumption) dX4_some_22 ?_
          rw [mP_6]
          refine z_iconst g dX4_some_25 zki_1 ?_
          first | with_reducible refine z_iaddN g dX4_some_26 ?_ | refine z_iadd g dX4_some_26 ?_
          refine zs4_6 g q1248 (Or.inl rfl) (by assumption) dX4_some_27 ?_
          refine z_mem rfl rfl mP_u6 rfl rfl ?_
          refine z_al0 g dX4_some_30 ?_
          refine z_callV0 g ck_X4_every q1405 q1407 qs45 cls4 (by assumption) (hsub (j + 1) (appS a row l) hpj1) rfl (Nat.le_of_ble_eq_true rfl) (by omega) (by omega) (by omega) dX4_some_31 (z_ex fun w hw => z_ans0 ?_)
          rw [hv] at hw
          obtain ⟨row2, hz2, rfl⟩ := hw
          refine z_al0 g dX4_some_34 ?_
          refine z_bipush g dX4_some_35 zkb_m3 ?_
          refine z_callV1 g ck_X4_emits q1413 q1415 qs47 cls4 (by assumption) (c_X4_emits_w hL) rfl (Nat.le_of_ble_eq_true rfl) (by omega) (by omega) (by omega) dX4_some_37 (z_ans0 ?_)
          refine z_goto (tgt := 4) g dX4_some_40 (by decide) ?_
          refine z_al0 g dX4_some_4 ?_
          refine zg4_8 g q1250 (Or.inl rfl) (by assumption) dX4_some_5 ?_
          rw [mP_8]
          refine z_if_ne_t (tgt := 43) g dX4_some_8 (by decide) (by decide +kernel) ?_
          refine z_vret g r (by omega) (by omega) dX4_some_43 ?_
          exact ⟨_, by rw [hr2]; exact ⟨row2, hzj.trans hz2, rfl⟩, rfl, rfl, rfl, rfl, rfl, rfl⟩
        · have h4 := hgo (j + 1) hl k m hv
          refine z_al0 g dX4_some_4 ?_
          refine zg4_8 g q1250 (Or.inl rfl) (by assumption) dX4_some_5 ?_
          rw [mP_8]
          refine z_if_ne_f (tgt := 43) g dX4_some_8 (by decide) (by decide +kernel) ?_
          refine z_al0 g dX4_some_11 ?_
          refine z_callV0 g ck_X4_here q1330 q1332 qs38 cls4 (by assumption) (c_X4_here hL ha ha5 he he100 hpj) rfl (Nat.le_of_ble_eq_true rfl) (by omega) (by omega) (by omega) dX4_some_12 (z_ans1 ?_)
          refine z_bipush g dX4_some_15 zkb_124 ?_
          refine z_icmp_ne_f (tgt := 43) g dX4_some_17 (by decide) (hq) ?_
          refine z_al0 g dX4_some_20 ?_
          refine z_dup g dX4_some_21 rfl ?_
          refine zg4_6 g q1248 (Or.inl rfl) (by assumption) dX4_some_22 ?_
          rw [mP_6]
          refine z_iconst g dX4_some_25 zki_1 ?_
          first | with_reducible refine z_iaddN g dX4_some_26 ?_ | refine z_iadd g dX4_some_26 ?_
          refine zs4_6 g q1248 (Or.inl rfl) (by assumption) dX4_some_27 ?_
          refine z_mem rfl rfl mP_u6 rfl rfl ?_
          refine z_al0 g dX4_some_30 ?_
          refine z_callV0 g ck_X4_every q1405 q1407 qs45 cls4 (by assumption) (hsub (j + 1) (appS a row l) hpj1) rfl (Nat.le_of_ble_eq_true rfl) (by omega) (by omega) (by omega) dX4_some_31 (z_ex fun w hw => z_ans0 ?_)
          rw [hv] at hw
          cases hw
          refine z_al0 g dX4_some_34 ?_
          refine z_bipush g dX4_some_35 zkb_m3 ?_
          refine z_callV1 g ck_X4_emits q1413 q1415 qs47 cls4 (by assumption) (c_X4_emits hL ha ha5 he he100 (hpj1.app he100 (Nat.le_of_lt h4.1) h4.2.1 h4.2.2).1) rfl (Nat.le_of_ble_eq_true rfl) (by omega) (by omega) (by omega) dX4_some_37 (z_ans0 ?_)
          rw [appS_two]
          refine z_goto (tgt := 4) g dX4_some_40 (by decide) ?_
          exact ih k (l ++ (m ++ [(if false = true then (-2 : Int32) else -3)])) (by omega) (by omega) h4.2.1 (by simp only [List.length_append, List.length_cons, List.length_nil]; omega) (by rw [← hr, show someL tp e fac (f + 1) j l = _ from if_pos hq, hv])
      · have hr2 : (someP tp e fac i) = .inr (j, l) := by rw [← hr, show someL tp e fac (f + 1) j l = _ from if_neg hq]
        refine z_al0 g dX4_some_4 ?_
        refine zg4_8 g q1250 (Or.inl rfl) (by assumption) dX4_some_5 ?_
        rw [mP_8]
        refine z_if_ne_f (tgt := 43) g dX4_some_8 (by decide) (by decide +kernel) ?_
        refine z_al0 g dX4_some_11 ?_
        refine z_callV0 g ck_X4_here q1330 q1332 qs38 cls4 (by assumption) (c_X4_here hL ha ha5 he he100 hpj) rfl (Nat.le_of_ble_eq_true rfl) (by omega) (by omega) (by omega) dX4_some_12 (z_ans1 ?_)
        refine z_bipush g dX4_some_15 zkb_124 ?_
        refine z_icmp_ne_t (tgt := 43) g dX4_some_17 (by decide) (hq) ?_
        refine z_vret g r (by omega) (by omega) dX4_some_43 ?_
        exact ⟨_, by rw [hr2]; rfl, rfl, rfl, rfl, rfl, rfl, rfl⟩
  rcases hv : (everP tp e fac) i with p | ⟨k, m⟩
  · have hr2 : (someP tp e fac i) = .inl p := by unfold someP; rw [hv]
    refine z_al0 g dX4_some_0 ?_
    refine z_callV0 g ck_X4_every q1405 q1407 qs45 cls4 (by assumption) (hsub i row hp) rfl (Nat.le_of_ble_eq_true rfl) (by omega) (by omega) (by omega) dX4_some_1 (z_ex fun w hw => z_ans0 ?_)
    rw [hv] at hw
    obtain ⟨row2, hz2, rfl⟩ := hw
    refine z_al0 g dX4_some_4 ?_
    refine zg4_8 g q1250 (Or.inl rfl) (by assumption) dX4_some_5 ?_
    rw [mP_8]
    refine z_if_ne_t (tgt := 43) g dX4_some_8 (by decide) (by decide +kernel) ?_
    refine z_vret g r (by omega) (by omega) dX4_some_43 ?_
    exact ⟨_, by rw [hr2]; exact ⟨row2, hz2, rfl⟩, rfl, rfl, rfl, rfl, rfl, rfl⟩
  · have h4 := hgo i hp.1 k m hv
    refine z_al0 g dX4_some_0 ?_
    refine z_callV0 g ck_X4_every q1405 q1407 qs45 cls4 (by assumption) (hsub i row hp) rfl (Nat.le_of_ble_eq_true rfl) (by omega) (by omega) (by omega) dX4_some_1 (z_ex fun w hw => z_ans0 ?_)
    rw [hv] at hw
    cases hw
    exact loop (e + 1) k m (by omega) h4.1 h4.2.1 h4.2.2 (by unfold someP; rw [hv])

theorem am_lt {tp : Nat → Int32} {e i x w : Nat} (hx : x < 6) (h : amg (hrP tp e i) (zkB.getD x []) 0 = some w) : i < e ∧ w < zkL.getD x 0 := by
  obtain ⟨h1, h2, h3⟩ := amg_of h
  have hw : w < zkL.getD x 0 := by
    rw [zkLB hx]
    omega
  refine ⟨?_, hw⟩
  have h4 := zkB_pos hx hw
  rw [Nat.sub_zero] at h3
  rw [h3] at h4
  unfold hrP at h4
  by_cases q : i < e
  · exact q
  · rw [if_neg q] at h4
    exact absurd h4 (by decide +kernel)
theorem nI_m1 {k : Nat} (h : k < 2 ^ 31) : ¬ nI k = -1 := fun q => by
  have := nI_pos' (n := k) h
  rw [q] at this
  exact absurd this (by decide +kernel)
set_option maxHeartbeats 8000000 in
theorem c_X4_fact {E : ZE} {n : Nat} {T : ZT} {I : ZI} {L : ZL} {R : ZR} {t : Nat} (hL : TL T R t) {tp : Nat → Int32} {a e : Nat} (ha : I t 5 = nI a) (ha5 : a < 5) (he : I t 7 = nI e) (he100 : e ≤ 100) {i d : Nat} {row : SV} (hp : PS a e tp row i) {D : Nat} (hD : 7 ≤ D) (hb : ¬ hrP tp e i = nI 33) (hc40 : ¬ hrP tp e i = nI 40) : zM E yX4_factor cX4_factor 5 none D 0 0 [.ref t] n T (mP t I i false d row) L R (zpp t n T I L R d a row (factP tp e i)) := by
  rcases hw : amg (hrP tp e i) (zkB.getD 1 []) 0 with _ | w
  · have hr2 : factP tp e i = .inl i := by unfold factP; rw [hw]
    refine zM.of (lv0 := [some (.ref t), none, none, none, none]) pn_X4 (Nat.le_of_ble_eq_true rfl) rfl fun G g r hin hlt hbn => ?_
    have g : zGd E G cX4_factor RX4 5 D 0 0 := g
    have hL0 := hL
    obtain ⟨hT, h1, ht1, h2, ht2, h3, ht3, h10, ht4, h11, ht5, ht6, ht7, h16, ht8, h17, ht9, h19, ht10⟩ := hL0
    obtain ⟨adK, adV, hS⟩ := zSt.ex g.ok
    refine z_al0 g dX4_factor_0 ?_
    refine zg4_8 g q1250 (Or.inl rfl) (by assumption) dX4_factor_1 ?_
    rw [mP_8]
    refine z_if_eq_t (tgt := 8) g dX4_factor_4 (by decide) (rfl) ?_
    refine z_al0 g dX4_factor_8 ?_
    refine z_callV0 g ck_X4_here q1330 q1332 qs38 cls4 (by assumption) (c_X4_here hL ha ha5 he he100 hp) rfl (Nat.le_of_ble_eq_true rfl) (by omega) (by omega) (by omega) dX4_factor_9 (z_ans1 ?_)
    refine z_is1 g dX4_factor_12 rfl ?_
    refine z_il1 g dX4_factor_13 ?_
    refine z_bipush g dX4_factor_14 zkb_33 ?_
    refine z_icmp_eq_f (tgt := 25) g dX4_factor_16 (by decide) (hb) ?_
    refine z_il1 g dX4_factor_19 ?_
    refine z_bipush g dX4_factor_20 zkb_40 ?_
    refine z_icmp_ne_t (tgt := 112) g dX4_factor_22 (by decide) (hc40) ?_
    refine z_al0 g dX4_factor_112 ?_
    refine z_ldcT (i := 1) g hS (by decide) q1417 rfl rfl dX4_factor_113 ?_
    refine z_callV1 g ck_X4_among q1418 q1420 qs48 cls4 (by assumption) (c_X4_among hL ha ha5 he he100 hp hS (show 1 < 6 by decide)) rfl (Nat.le_of_ble_eq_true rfl) (by omega) (by omega) (by omega) dX4_factor_115 (z_ans1 ?_)
    refine z_top (show _ = -1 from by rw [hw]; rfl) ?_
    refine z_mem rfl rfl (show _ = mP t I i false d row from by rw [hw]; rfl) rfl rfl ?_
    refine z_is2 g dX4_factor_118 rfl ?_
    refine z_al0 g dX4_factor_119 ?_
    refine z_il2 g dX4_factor_120 ?_
    refine z_iconst g dX4_factor_121 zki_m1 ?_
    refine z_icmp_ne_f (tgt := 129) g dX4_factor_122 (by decide) (rfl) ?_
    refine z_iconst g dX4_factor_125 zki_1 ?_
    refine z_goto (tgt := 130) g dX4_factor_126 (by decide) ?_
    refine zs4_8 g q1250 (Or.inl rfl) (by assumption) dX4_factor_130 zfit_1 ?_
    first | refine z_mem rfl rfl mP_u8t rfl rfl ?_ | refine z_mem rfl rfl mP_u8f rfl rfl ?_ | skip
    refine z_al0 g dX4_factor_133 ?_
    refine zg4_8 g q1250 (Or.inl rfl) (by assumption) dX4_factor_134 ?_
    rw [mP_8]
    refine z_if_eq_f (tgt := 144) g dX4_factor_137 (by decide) (by decide +kernel) ?_
    refine z_iconst g dX4_factor_140 zki_0 ?_
    refine z_goto (tgt := 150) g dX4_factor_141 (by decide) ?_
    refine z_is3 g dX4_factor_150 rfl ?_
    refine z_al0 g dX4_factor_151 ?_
    refine z_al0 g dX4_factor_152 ?_
    refine zg4_8 g q1250 (Or.inl rfl) (by assumption) dX4_factor_153 ?_
    rw [mP_8]
    refine z_if_ne_t (tgt := 164) g dX4_factor_156 (by decide) (by decide +kernel) ?_
    refine z_iconst g dX4_factor_164 zki_1 ?_
    refine z_goto (tgt := 169) g dX4_factor_165 (by decide) ?_
    refine zs4_8 g q1250 (Or.inl rfl) (by assumption) dX4_factor_169 zfit_1 ?_
    first | refine z_mem rfl rfl mP_u8t rfl rfl ?_ | refine z_mem rfl rfl mP_u8f rfl rfl ?_ | skip
    refine z_al0 g dX4_factor_172 ?_
    refine z_callV0 g ck_X4_figures q1397 q1399 qs43 cls4 (by assumption) (c_X4_figures_w hL) rfl (Nat.le_of_ble_eq_true rfl) (by omega) (by omega) (by omega) dX4_factor_173 (z_ans1 ?_)
    refine z_is4 g dX4_factor_176 rfl ?_
    refine z_al0 g dX4_factor_178 ?_
    refine z_il2 g dX4_factor_179 ?_
    refine z_bipush g dX4_factor_180 zkb_8 ?_
    refine z_il3 g dX4_factor_182 ?_
    first | with_reducible refine z_imulN g dX4_factor_183 ?_ | refine z_imul g dX4_factor_183 ?_
    first | with_reducible refine z_iaddN g dX4_factor_184 ?_ | refine z_iadd g dX4_factor_184 ?_
    refine z_bipush g dX4_factor_185 zkb_32 ?_
    refine z_il4 g dX4_factor_187 ?_
    first | with_reducible refine z_imulN g dX4_factor_189 ?_ | refine z_imul g dX4_factor_189 ?_
    first | with_reducible refine z_iaddN g dX4_factor_190 ?_ | refine z_iadd g dX4_factor_190 ?_
    refine z_callV1 g ck_X4_emits q1413 q1415 qs47 cls4 (by assumption) (c_X4_emits_w hL) rfl (Nat.le_of_ble_eq_true rfl) (by omega) (by omega) (by omega) dX4_factor_191 (z_ans0 ?_)
    refine z_vret g r (by omega) (by omega) dX4_factor_194 ?_
    exact ⟨_, by rw [hr2]; exact ⟨row, zag.rf, rfl⟩, rfl, rfl, rfl, rfl, rfl, rfl⟩
  have hw1 := am_lt (show 1 < 6 by decide) hw
  have hp1 := hp.step hw1.1
  have hwl : w < 5 := hw1.2
  rcases hh : amg (hrP tp e (i + 1)) (zkB.getD 2 []) 0 with _ | h
  · have hr2 : factP tp e i = .inl (i + 1) := by unfold factP; rw [hw]; simp only [hh]
    refine zM.of (lv0 := [some (.ref t), none, none, none, none]) pn_X4 (Nat.le_of_ble_eq_true rfl) rfl fun G g r hin hlt hbn => ?_
    have g : zGd E G cX4_factor RX4 5 D 0 0 := g
    have hL0 := hL
    obtain ⟨hT, h1, ht1, h2, ht2, h3, ht3, h10, ht4, h11, ht5, ht6, ht7, h16, ht8, h17, ht9, h19, ht10⟩ := hL0
    obtain ⟨adK, adV, hS⟩ := zSt.ex g.ok
    refine z_al0 g dX4_factor_0 ?_
    refine zg4_8 g q1250 (Or.inl rfl) (by assumption) dX4_factor_1 ?_
    rw [mP_8]
    refine z_if_eq_t (tgt := 8) g dX4_factor_4 (by decide) (rfl) ?_
    refine z_al0 g dX4_factor_8 ?_
    refine z_callV0 g ck_X4_here q1330 q1332 qs38 cls4 (by assumption) (c_X4_here hL ha ha5 he he100 hp) rfl (Nat.le_of_ble_eq_true rfl) (by omega) (by omega) (by omega) dX4_factor_9 (z_ans1 ?_)
    refine z_is1 g dX4_factor_12 rfl ?_
    refine z_il1 g dX4_factor_13 ?_
    refine z_bipush g dX4_factor_14 zkb_33 ?_
    refine z_icmp_eq_f (tgt := 25) g dX4_factor_16 (by decide) (hb) ?_
    refine z_il1 g dX4_factor_19 ?_
    refine z_bipush g dX4_factor_20 zkb_40 ?_
    refine z_icmp_ne_t (tgt := 112) g dX4_factor_22 (by decide) (hc40) ?_
    refine z_al0 g dX4_factor_112 ?_
    refine z_ldcT (i := 1) g hS (by decide) q1417 rfl rfl dX4_factor_113 ?_
    refine z_callV1 g ck_X4_among q1418 q1420 qs48 cls4 (by assumption) (c_X4_among hL ha ha5 he he100 hp hS (show 1 < 6 by decide)) rfl (Nat.le_of_ble_eq_true rfl) (by omega) (by omega) (by omega) dX4_factor_115 (z_ans1 ?_)
    refine z_top (show _ = nI w from by rw [hw]; rfl) ?_
    refine z_mem rfl rfl (show _ = mP t I (i + 1) false d row from by rw [hw]; rfl) rfl rfl ?_
    refine z_is2 g dX4_factor_118 rfl ?_
    refine z_al0 g dX4_factor_119 ?_
    refine z_il2 g dX4_factor_120 ?_
    refine z_iconst g dX4_factor_121 zki_m1 ?_
    refine z_icmp_ne_t (tgt := 129) g dX4_factor_122 (by decide) (nI_m1 (by omega)) ?_
    refine z_iconst g dX4_factor_129 zki_0 ?_
    refine zs4_8 g q1250 (Or.inl rfl) (by assumption) dX4_factor_130 zfit_0 ?_
    first | refine z_mem rfl rfl mP_u8t rfl rfl ?_ | refine z_mem rfl rfl mP_u8f rfl rfl ?_ | skip
    refine z_al0 g dX4_factor_133 ?_
    refine zg4_8 g q1250 (Or.inl rfl) (by assumption) dX4_factor_134 ?_
    rw [mP_8]
    refine z_if_eq_t (tgt := 144) g dX4_factor_137 (by decide) (by decide +kernel) ?_
    refine z_al0 g dX4_factor_144 ?_
    refine z_ldcT (i := 2) g hS (by decide) q1422 rfl rfl dX4_factor_145 ?_
    refine z_callV1 g ck_X4_among q1418 q1420 qs48 cls4 (by assumption) (c_X4_among hL ha ha5 he he100 hp1 hS (show 2 < 6 by decide)) rfl (Nat.le_of_ble_eq_true rfl) (by omega) (by omega) (by omega) dX4_factor_147 (z_ans1 ?_)
    refine z_top (show _ = -1 from by rw [hh]; rfl) ?_
    refine z_mem rfl rfl (show _ = mP t I (i + 1) false d row from by rw [hh]; rfl) rfl rfl ?_
    refine z_is3 g dX4_factor_150 rfl ?_
    refine z_al0 g dX4_factor_151 ?_
    refine z_al0 g dX4_factor_152 ?_
    refine zg4_8 g q1250 (Or.inl rfl) (by assumption) dX4_factor_153 ?_
    rw [mP_8]
    refine z_if_ne_f (tgt := 164) g dX4_factor_156 (by decide) (by decide +kernel) ?_
    refine z_il3 g dX4_factor_159 ?_
    refine z_iconst g dX4_factor_160 zki_m1 ?_
    refine z_icmp_ne_f (tgt := 168) g dX4_factor_161 (by decide) (rfl) ?_
    refine z_iconst g dX4_factor_164 zki_1 ?_
    refine z_goto (tgt := 169) g dX4_factor_165 (by decide) ?_
    refine zs4_8 g q1250 (Or.inl rfl) (by assumption) dX4_factor_169 zfit_1 ?_
    first | refine z_mem rfl rfl mP_u8t rfl rfl ?_ | refine z_mem rfl rfl mP_u8f rfl rfl ?_ | skip
    refine z_al0 g dX4_factor_172 ?_
    refine z_callV0 g ck_X4_figures q1397 q1399 qs43 cls4 (by assumption) (c_X4_figures_w hL) rfl (Nat.le_of_ble_eq_true rfl) (by omega) (by omega) (by omega) dX4_factor_173 (z_ans1 ?_)
    refine z_is4 g dX4_factor_176 rfl ?_
    refine z_al0 g dX4_factor_178 ?_
    refine z_il2 g dX4_factor_179 ?_
    refine z_bipush g dX4_factor_180 zkb_8 ?_
    refine z_il3 g dX4_factor_182 ?_
    first | with_reducible refine z_imulN g dX4_factor_183 ?_ | refine z_imul g dX4_factor_183 ?_
    first | with_reducible refine z_iaddN g dX4_factor_184 ?_ | refine z_iadd g dX4_factor_184 ?_
    refine z_bipush g dX4_factor_185 zkb_32 ?_
    refine z_il4 g dX4_factor_187 ?_
    first | with_reducible refine z_imulN g dX4_factor_189 ?_ | refine z_imul g dX4_factor_189 ?_
    first | with_reducible refine z_iaddN g dX4_factor_190 ?_ | refine z_iadd g dX4_factor_190 ?_
    refine z_callV1 g ck_X4_emits q1413 q1415 qs47 cls4 (by assumption) (c_X4_emits_w hL) rfl (Nat.le_of_ble_eq_true rfl) (by omega) (by omega) (by omega) dX4_factor_191 (z_ans0 ?_)
    refine z_vret g r (by omega) (by omega) dX4_factor_194 ?_
    exact ⟨_, by rw [hr2]; exact ⟨row, zag.rf, rfl⟩, rfl, rfl, rfl, rfl, rfl, rfl⟩
  have hh1 := am_lt (show 2 < 6 by decide) hh
  have hp2 := hp1.step hh1.1
  have hhl : h < 3 := hh1.2
  rcases hn : numP tp e (i + 2) with p | ⟨j, v⟩
  · have hr2 : factP tp e i = .inl p := by unfold factP; rw [hw]; simp only [hh, hn]
    refine zM.of (lv0 := [some (.ref t), none, none, none, none]) pn_X4 (Nat.le_of_ble_eq_true rfl) rfl fun G g r hin hlt hbn => ?_
    have g : zGd E G cX4_factor RX4 5 D 0 0 := g
    have hL0 := hL
    obtain ⟨hT, h1, ht1, h2, ht2, h3, ht3, h10, ht4, h11, ht5, ht6, ht7, h16, ht8, h17, ht9, h19, ht10⟩ := hL0
    obtain ⟨adK, adV, hS⟩ := zSt.ex g.ok
    refine z_al0 g dX4_factor_0 ?_
    refine zg4_8 g q1250 (Or.inl rfl) (by assumption) dX4_factor_1 ?_
    rw [mP_8]
    refine z_if_eq_t (tgt := 8) g dX4_factor_4 (by decide) (rfl) ?_
    refine z_al0 g dX4_factor_8 ?_
    refine z_callV0 g ck_X4_here q1330 q1332 qs38 cls4 (by assumption) (c_X4_here hL ha ha5 he he100 hp) rfl (Nat.le_of_ble_eq_true rfl) (by omega) (by omega) (by omega) dX4_factor_9 (z_ans1 ?_)
    refine z_is1 g dX4_factor_12 rfl ?_
    refine z_il1 g dX4_factor_13 ?_
    refine z_bipush g dX4_factor_14 zkb_33 ?_
    refine z_icmp_eq_f (tgt := 25) g dX4_factor_16 (by decide) (hb) ?_
    refine z_il1 g dX4_factor_19 ?_
    refine z_bipush g dX4_factor_20 zkb_40 ?_
    refine z_icmp_ne_t (tgt := 112) g dX4_factor_22 (by decide) (hc40) ?_
    refine z_al0 g dX4_factor_112 ?_
    refine z_ldcT (i := 1) g hS (by decide) q1417 rfl rfl dX4_factor_113 ?_
    refine z_callV1 g ck_X4_among q1418 q1420 qs48 cls4 (by assumption) (c_X4_among hL ha ha5 he he100 hp hS (show 1 < 6 by decide)) rfl (Nat.le_of_ble_eq_true rfl) (by omega) (by omega) (by omega) dX4_factor_115 (z_ans1 ?_)
    refine z_top (show _ = nI w from by rw [hw]; rfl) ?_
    refine z_mem rfl rfl (show _ = mP t I (i + 1) false d row from by rw [hw]; rfl) rfl rfl ?_
    refine z_is2 g dX4_factor_118 rfl ?_
    refine z_al0 g dX4_factor_119 ?_
    refine z_il2 g dX4_factor_120 ?_
    refine z_iconst g dX4_factor_121 zki_m1 ?_
    refine z_icmp_ne_t (tgt := 129) g dX4_factor_122 (by decide) (nI_m1 (by omega)) ?_
    refine z_iconst g dX4_factor_129 zki_0 ?_
    refine zs4_8 g q1250 (Or.inl rfl) (by assumption) dX4_factor_130 zfit_0 ?_
    first | refine z_mem rfl rfl mP_u8t rfl rfl ?_ | refine z_mem rfl rfl mP_u8f rfl rfl ?_ | skip
    refine z_al0 g dX4_factor_133 ?_
    refine zg4_8 g q1250 (Or.inl rfl) (by assumption) dX4_factor_134 ?_
    rw [mP_8]
    refine z_if_eq_t (tgt := 144) g dX4_factor_137 (by decide) (by decide +kernel) ?_
    refine z_al0 g dX4_factor_144 ?_
    refine z_ldcT (i := 2) g hS (by decide) q1422 rfl rfl dX4_factor_145 ?_
    refine z_callV1 g ck_X4_among q1418 q1420 qs48 cls4 (by assumption) (c_X4_among hL ha ha5 he he100 hp1 hS (show 2 < 6 by decide)) rfl (Nat.le_of_ble_eq_true rfl) (by omega) (by omega) (by omega) dX4_factor_147 (z_ans1 ?_)
    refine z_top (show _ = nI h from by rw [hh]; rfl) ?_
    refine z_mem rfl rfl (show _ = mP t I (i + 2) false d row from by rw [hh]; rfl) rfl rfl ?_
    refine z_is3 g dX4_factor_150 rfl ?_
    refine z_al0 g dX4_factor_151 ?_
    refine z_al0 g dX4_factor_152 ?_
    refine zg4_8 g q1250 (Or.inl rfl) (by assumption) dX4_factor_153 ?_
    rw [mP_8]
    refine z_if_ne_f (tgt := 164) g dX4_factor_156 (by decide) (by decide +kernel) ?_
    refine z_il3 g dX4_factor_159 ?_
    refine z_iconst g dX4_factor_160 zki_m1 ?_
    refine z_icmp_ne_t (tgt := 168) g dX4_factor_161 (by decide) (nI_m1 (by omega)) ?_
    refine z_iconst g dX4_factor_168 zki_0 ?_
    refine zs4_8 g q1250 (Or.inl rfl) (by assumption) dX4_factor_169 zfit_0 ?_
    first | refine z_mem rfl rfl mP_u8t rfl rfl ?_ | refine z_mem rfl rfl mP_u8f rfl rfl ?_ | skip
    refine z_al0 g dX4_factor_172 ?_
    refine z_callV0 g ck_X4_figures q1397 q1399 qs43 cls4 (by assumption) (c_X4_figures hL ha ha5 he he100 hp2) rfl (Nat.le_of_ble_eq_true rfl) (by omega) (by omega) (by omega) dX4_factor_173 (z_ans1 ?_)
    refine z_top (show _ = nI 0 from by rw [hn]; rfl) ?_
    refine z_mem rfl rfl (show _ = mP t I p true d row from by rw [hn]; rfl) rfl rfl ?_
    refine z_is4 g dX4_factor_176 rfl ?_
    refine z_al0 g dX4_factor_178 ?_
    refine z_il2 g dX4_factor_179 ?_
    refine z_bipush g dX4_factor_180 zkb_8 ?_
    refine z_il3 g dX4_factor_182 ?_
    first | with_reducible refine z_imulN g dX4_factor_183 ?_ | refine z_imul g dX4_factor_183 ?_
    first | with_reducible refine z_iaddN g dX4_factor_184 ?_ | refine z_iadd g dX4_factor_184 ?_
    refine z_bipush g dX4_factor_185 zkb_32 ?_
    refine z_il4 g dX4_factor_187 ?_
    first | with_reducible refine z_imulN g dX4_factor_189 ?_ | refine z_imul g dX4_factor_189 ?_
    first | with_reducible refine z_iaddN g dX4_factor_190 ?_ | refine z_iadd g dX4_factor_190 ?_
    refine z_callV1 g ck_X4_emits q1413 q1415 qs47 cls4 (by assumption) (c_X4_emits_w hL) rfl (Nat.le_of_ble_eq_true rfl) (by omega) (by omega) (by omega) dX4_factor_191 (z_ans0 ?_)
    refine z_vret g r (by omega) (by omega) dX4_factor_194 ?_
    exact ⟨_, by rw [hr2]; exact ⟨row, zag.rf, rfl⟩, rfl, rfl, rfl, rfl, rfl, rfl⟩
  · have hr2 : factP tp e i = .inr (j, tFact w h v) := by unfold factP; rw [hw]; simp only [hh, hn]
    have hnk := num_ok hn
    have hpj := hp.up (show i ≤ j by omega) hnk.2.1
    refine zM.of (lv0 := [some (.ref t), none, none, none, none]) pn_X4 (Nat.le_of_ble_eq_true rfl) rfl fun G g r hin hlt hbn => ?_
    have g : zGd E G cX4_factor RX4 5 D 0 0 := g
    have hL0 := hL
    obtain ⟨hT, h1, ht1, h2, ht2, h3, ht3, h10, ht4, h11, ht5, ht6, ht7, h16, ht8, h17, ht9, h19, ht10⟩ := hL0
    obtain ⟨adK, adV, hS⟩ := zSt.ex g.ok
    refine z_al0 g dX4_factor_0 ?_
    refine zg4_8 g q1250 (Or.inl rfl) (by assumption) dX4_factor_1 ?_
    rw [mP_8]
    refine z_if_eq_t (tgt := 8) g dX4_factor_4 (by decide) (rfl) ?_
    refine z_al0 g dX4_factor_8 ?_
    refine z_callV0 g ck_X4_here q1330 q1332 qs38 cls4 (by assumption) (c_X4_here hL ha ha5 he he100 hp) rfl (Nat.le_of_ble_eq_true rfl) (by omega) (by omega) (by omega) dX4_factor_9 (z_ans1 ?_)
    refine z_is1 g dX4_factor_12 rfl ?_
    refine z_il1 g dX4_factor_13 ?_
    refine z_bipush g dX4_factor_14 zkb_33 ?_
    refine z_icmp_eq_f (tgt := 25) g dX4_factor_16 (by decide) (hb) ?_
    refine z_il1 g dX4_factor_19 ?_
    refine z_bipush g dX4_factor_20 zkb_40 ?_
    refine z_icmp_ne_t (tgt := 112) g dX4_factor_22 (by decide) (hc40) ?_
    refine z_al0 g dX4_factor_112 ?_
    refine z_ldcT (i := 1) g hS (by decide) q1417 rfl rfl dX4_factor_113 ?_
    refine z_callV1 g ck_X4_among q1418 q1420 qs48 cls4 (by assumption) (c_X4_among hL ha ha5 he he100 hp hS (show 1 < 6 by decide)) rfl (Nat.le_of_ble_eq_true rfl) (by omega) (by omega) (by omega) dX4_factor_115 (z_ans1 ?_)
    refine z_top (show _ = nI w from by rw [hw]; rfl) ?_
    refine z_mem rfl rfl (show _ = mP t I (i + 1) false d row from by rw [hw]; rfl) rfl rfl ?_
    refine z_is2 g dX4_factor_118 rfl ?_
    refine z_al0 g dX4_factor_119 ?_
    refine z_il2 g dX4_factor_120 ?_
    refine z_iconst g dX4_factor_121 zki_m1 ?_
    refine z_icmp_ne_t (tgt := 129) g dX4_factor_122 (by decide) (nI_m1 (by omega)) ?_
    refine z_iconst g dX4_factor_129 zki_0 ?_
    refine zs4_8 g q1250 (Or.inl rfl) (by assumption) dX4_factor_130 zfit_0 ?_
    first | refine z_mem rfl rfl mP_u8t rfl rfl ?_ | refine z_mem rfl rfl mP_u8f rfl rfl ?_ | skip
    refine z_al0 g dX4_factor_133 ?_
    refine zg4_8 g q1250 (Or.inl rfl) (by assumption) dX4_factor_134 ?_
    rw [mP_8]
    refine z_if_eq_t (tgt := 144) g dX4_factor_137 (by decide) (by decide +kernel) ?_
    refine z_al0 g dX4_factor_144 ?_
    refine z_ldcT (i := 2) g hS (by decide) q1422 rfl rfl dX4_factor_145 ?_
    refine z_callV1 g ck_X4_among q1418 q1420 qs48 cls4 (by assumption) (c_X4_among hL ha ha5 he he100 hp1 hS (show 2 < 6 by decide)) rfl (Nat.le_of_ble_eq_true rfl) (by omega) (by omega) (by omega) dX4_factor_147 (z_ans1 ?_)
    refine z_top (show _ = nI h from by rw [hh]; rfl) ?_
    refine z_mem rfl rfl (show _ = mP t I (i + 2) false d row from by rw [hh]; rfl) rfl rfl ?_
    refine z_is3 g dX4_factor_150 rfl ?_
    refine z_al0 g dX4_factor_151 ?_
    refine z_al0 g dX4_factor_152 ?_
    refine zg4_8 g q1250 (Or.inl rfl) (by assumption) dX4_factor_153 ?_
    rw [mP_8]
    refine z_if_ne_f (tgt := 164) g dX4_factor_156 (by decide) (by decide +kernel) ?_
    refine z_il3 g dX4_factor_159 ?_
    refine z_iconst g dX4_factor_160 zki_m1 ?_
    refine z_icmp_ne_t (tgt := 168) g dX4_factor_161 (by decide) (nI_m1 (by omega)) ?_
    refine z_iconst g dX4_factor_168 zki_0 ?_
    refine zs4_8 g q1250 (Or.inl rfl) (by assumption) dX4_factor_169 zfit_0 ?_
    first | refine z_mem rfl rfl mP_u8t rfl rfl ?_ | refine z_mem rfl rfl mP_u8f rfl rfl ?_ | skip
    refine z_al0 g dX4_factor_172 ?_
    refine z_callV0 g ck_X4_figures q1397 q1399 qs43 cls4 (by assumption) (c_X4_figures hL ha ha5 he he100 hp2) rfl (Nat.le_of_ble_eq_true rfl) (by omega) (by omega) (by omega) dX4_factor_173 (z_ans1 ?_)
    refine z_top (show _ = nI v from by rw [hn]; rfl) ?_
    refine z_mem rfl rfl (show _ = mP t I j false d row from by rw [hn]; rfl) rfl rfl ?_
    refine z_is4 g dX4_factor_176 rfl ?_
    refine z_al0 g dX4_factor_178 ?_
    refine z_il2 g dX4_factor_179 ?_
    refine z_bipush g dX4_factor_180 zkb_8 ?_
    refine z_il3 g dX4_factor_182 ?_
    first | with_reducible refine z_imulN g dX4_factor_183 ?_ | refine z_imul g dX4_factor_183 ?_
    first | with_reducible refine z_iaddN g dX4_factor_184 ?_ | refine z_iadd g dX4_factor_184 ?_
    refine z_bipush g dX4_factor_185 zkb_32 ?_
    refine z_il4 g dX4_factor_187 ?_
    first | with_reducible refine z_imulN g dX4_factor_189 ?_ | refine z_imul g dX4_factor_189 ?_
    first | with_reducible refine z_iaddN g dX4_factor_190 ?_ | refine z_iadd g dX4_factor_190 ?_
    refine z_callV1 g ck_X4_emits q1413 q1415 qs47 cls4 (by assumption) (c_X4_emits hL ha ha5 he he100 hpj) rfl (Nat.le_of_ble_eq_true rfl) (by omega) (by omega) (by omega) dX4_factor_191 (z_ans0 ?_)
    refine z_vret g r (by omega) (by omega) dX4_factor_194 ?_
    exact ⟨_, by rw [hr2]; rfl, rfl, rfl, rfl, rfl, rfl, rfl⟩
set_option maxHeartbeats 8000000 in
theorem c_X4_factor {E : ZE} {n : Nat} {T : ZT} {I : ZI} {L : ZL} {R : ZR} {t : Nat} (hL : TL T R t) {tp : Nat → Int32} {a e : Nat} (ha : I t 5 = nI a) (ha5 : a < 5) (he : I t 7 = nI e) (he100 : e ≤ 100) : ∀ (gg i d : Nat) (row : SV), d + gg = 5 → PS a e tp row i → zM E yX4_factor cX4_factor 5 none (8 + 3 * gg) 0 0 [.ref t] n T (mP t I i false d row) L R (zpp t n T I L R d a row (facP tp e gg i)) := by
  intro gg
  induction gg with
  | zero =>
    intro i d row hd hp
    obtain rfl : d = 5 := hd
    by_cases hb : hrP tp e i = nI 33
    · have hr2 : facP tp e 0 i = .inl i := if_pos (Or.inl hb)
      refine zM.of (lv0 := [some (.ref t), none, none, none, none]) pn_X4 (Nat.le_of_ble_eq_true rfl) rfl fun G g r hin hlt hbn => ?_
      have g : zGd E G cX4_factor RX4 5 (8 + 3 * 0) 0 0 := g
      have hL0 := hL
      obtain ⟨hT, h1, ht1, h2, ht2, h3, ht3, h10, ht4, h11, ht5, ht6, ht7, h16, ht8, h17, ht9, h19, ht10⟩ := hL0
      refine z_al0 g dX4_factor_0 ?_
      refine zg4_8 g q1250 (Or.inl rfl) (by assumption) dX4_factor_1 ?_
      rw [mP_8]
      refine z_if_eq_t (tgt := 8) g dX4_factor_4 (by decide) (rfl) ?_
      refine z_al0 g dX4_factor_8 ?_
      refine z_callV0 g ck_X4_here q1330 q1332 qs38 cls4 (by assumption) (c_X4_here hL ha ha5 he he100 hp) rfl (Nat.le_of_ble_eq_true rfl) (by omega) (by omega) (by omega) dX4_factor_9 (z_ans1 ?_)
      refine z_is1 g dX4_factor_12 rfl ?_
      refine z_il1 g dX4_factor_13 ?_
      refine z_bipush g dX4_factor_14 zkb_33 ?_
      refine z_icmp_eq_t (tgt := 25) g dX4_factor_16 (by decide) (hb) ?_
      refine z_al0 g dX4_factor_25 ?_
      refine z_al0 g dX4_factor_26 ?_
      refine zg4_9 g q1251 (Or.inl rfl) (by assumption) dX4_factor_27 ?_
      rw [mP_9]
      refine z_iconst g dX4_factor_30 zki_5 ?_
      refine z_icmp_ne_f (tgt := 38) g dX4_factor_31 (by decide) (rfl) ?_
      refine z_iconst g dX4_factor_34 zki_1 ?_
      refine z_goto (tgt := 39) g dX4_factor_35 (by decide) ?_
      refine zs4_8 g q1250 (Or.inl rfl) (by assumption) dX4_factor_39 zfit_1 ?_
      first | refine z_mem rfl rfl mP_u8t rfl rfl ?_ | refine z_mem rfl rfl mP_u8f rfl rfl ?_ | skip
      refine z_al0 g dX4_factor_42 ?_
      refine z_dup g dX4_factor_43 rfl ?_
      refine zg4_9 g q1251 (Or.inl rfl) (by assumption) dX4_factor_44 ?_
      rw [mP_9]
      refine z_iconst g dX4_factor_47 zki_1 ?_
      first | with_reducible refine z_iaddN g dX4_factor_48 ?_ | refine z_iadd g dX4_factor_48 ?_
      refine zs4_9 g q1251 (Or.inl rfl) (by assumption) dX4_factor_49 ?_
      refine z_mem rfl rfl mP_u9 rfl rfl ?_
      refine z_al0 g dX4_factor_52 ?_
      refine z_dup g dX4_factor_53 rfl ?_
      refine zg4_6 g q1248 (Or.inl rfl) (by assumption) dX4_factor_54 ?_
      rw [mP_6]
      refine z_al0 g dX4_factor_57 ?_
      refine zg4_8 g q1250 (Or.inl rfl) (by assumption) dX4_factor_58 ?_
      rw [mP_8]
      refine z_if_eq_f (tgt := 68) g dX4_factor_61 (by decide) (by decide +kernel) ?_
      refine z_iconst g dX4_factor_64 zki_0 ?_
      refine z_goto (tgt := 69) g dX4_factor_65 (by decide) ?_
      first | with_reducible refine z_iaddN g dX4_factor_69 ?_ | refine z_iadd g dX4_factor_69 ?_
      refine zs4_6 g q1248 (Or.inl rfl) (by assumption) dX4_factor_70 ?_
      refine z_mem rfl rfl mP_u6 rfl rfl ?_
      refine z_il1 g dX4_factor_73 ?_
      refine z_bipush g dX4_factor_74 zkb_33 ?_
      refine z_icmp_ne_f (tgt := 91) g dX4_factor_76 (by decide) (hb) ?_
      refine z_al0 g dX4_factor_79 ?_
      refine z_callV0 g ck_X4_factor q1409 q1411 qs46 cls4 (by assumption) (c_X4_factor_w hL) rfl (Nat.le_of_ble_eq_true rfl) (by omega) (by omega) (by omega) dX4_factor_80 (z_ans0 ?_)
      refine z_al0 g dX4_factor_83 ?_
      refine z_iconst g dX4_factor_84 zki_m1 ?_
      refine z_callV1 g ck_X4_emits q1413 q1415 qs47 cls4 (by assumption) (c_X4_emits_w hL) rfl (Nat.le_of_ble_eq_true rfl) (by omega) (by omega) (by omega) dX4_factor_85 (z_ans0 ?_)
      refine z_goto (tgt := 101) g dX4_factor_88 (by decide) ?_
      refine z_al0 g dX4_factor_101 ?_
      refine z_dup g dX4_factor_102 rfl ?_
      refine zg4_9 g q1251 (Or.inl rfl) (by assumption) dX4_factor_103 ?_
      rw [mP_9]
      refine z_iconst g dX4_factor_106 zki_1 ?_
      first | with_reducible refine z_isubN g dX4_factor_107 (by omega) ?_ | refine z_isub g dX4_factor_107 ?_
      refine zs4_9 g q1251 (Or.inl rfl) (by assumption) dX4_factor_108 ?_
      refine z_mem rfl rfl mP_u9 rfl rfl ?_
      refine z_vret g r (by omega) (by omega) dX4_factor_111 ?_
      exact ⟨_, by rw [hr2]; exact ⟨row, zag.rf, rfl⟩, rfl, rfl, rfl, rfl, rfl, rfl⟩
    by_cases hc40 : hrP tp e i = nI 40
    · have hr2 : facP tp e 0 i = .inl i := if_pos (Or.inr hc40)
      refine zM.of (lv0 := [some (.ref t), none, none, none, none]) pn_X4 (Nat.le_of_ble_eq_true rfl) rfl fun G g r hin hlt hbn => ?_
      have g : zGd E G cX4_factor RX4 5 (8 + 3 * 0) 0 0 := g
      have hL0 := hL
      obtain ⟨hT, h1, ht1, h2, ht2, h3, ht3, h10, ht4, h11, ht5, ht6, ht7, h16, ht8, h17, ht9, h19, ht10⟩ := hL0
      refine z_al0 g dX4_factor_0 ?_
      refine zg4_8 g q1250 (Or.inl rfl) (by assumption) dX4_factor_1 ?_
      rw [mP_8]
      refine z_if_eq_t (tgt := 8) g dX4_factor_4 (by decide) (rfl) ?_
      refine z_al0 g dX4_factor_8 ?_
      refine z_callV0 g ck_X4_here q1330 q1332 qs38 cls4 (by assumption) (c_X4_here hL ha ha5 he he100 hp) rfl (Nat.le_of_ble_eq_true rfl) (by omega) (by omega) (by omega) dX4_factor_9 (z_ans1 ?_)
      refine z_is1 g dX4_factor_12 rfl ?_
      refine z_il1 g dX4_factor_13 ?_
      refine z_bipush g dX4_factor_14 zkb_33 ?_
      refine z_icmp_eq_f (tgt := 25) g dX4_factor_16 (by decide) (hb) ?_
      refine z_il1 g dX4_factor_19 ?_
      refine z_bipush g dX4_factor_20 zkb_40 ?_
      refine z_icmp_ne_f (tgt := 112) g dX4_factor_22 (by decide) (hc40) ?_
      refine z_al0 g dX4_factor_25 ?_
      refine z_al0 g dX4_factor_26 ?_
      refine zg4_9 g q1251 (Or.inl rfl) (by assumption) dX4_factor_27 ?_
      rw [mP_9]
      refine z_iconst g dX4_factor_30 zki_5 ?_
      refine z_icmp_ne_f (tgt := 38) g dX4_factor_31 (by decide) (rfl) ?_
      refine z_iconst g dX4_factor_34 zki_1 ?_
      refine z_goto (tgt := 39) g dX4_factor_35 (by decide) ?_
      refine zs4_8 g q1250 (Or.inl rfl) (by assumption) dX4_factor_39 zfit_1 ?_
      first | refine z_mem rfl rfl mP_u8t rfl rfl ?_ | refine z_mem rfl rfl mP_u8f rfl rfl ?_ | skip
      refine z_al0 g dX4_factor_42 ?_
      refine z_dup g dX4_factor_43 rfl ?_
      refine zg4_9 g q1251 (Or.inl rfl) (by assumption) dX4_factor_44 ?_
      rw [mP_9]
      refine z_iconst g dX4_factor_47 zki_1 ?_
      first | with_reducible refine z_iaddN g dX4_factor_48 ?_ | refine z_iadd g dX4_factor_48 ?_
      refine zs4_9 g q1251 (Or.inl rfl) (by assumption) dX4_factor_49 ?_
      refine z_mem rfl rfl mP_u9 rfl rfl ?_
      refine z_al0 g dX4_factor_52 ?_
      refine z_dup g dX4_factor_53 rfl ?_
      refine zg4_6 g q1248 (Or.inl rfl) (by assumption) dX4_factor_54 ?_
      rw [mP_6]
      refine z_al0 g dX4_factor_57 ?_
      refine zg4_8 g q1250 (Or.inl rfl) (by assumption) dX4_factor_58 ?_
      rw [mP_8]
      refine z_if_eq_f (tgt := 68) g dX4_factor_61 (by decide) (by decide +kernel) ?_
      refine z_iconst g dX4_factor_64 zki_0 ?_
      refine z_goto (tgt := 69) g dX4_factor_65 (by decide) ?_
      first | with_reducible refine z_iaddN g dX4_factor_69 ?_ | refine z_iadd g dX4_factor_69 ?_
      refine zs4_6 g q1248 (Or.inl rfl) (by assumption) dX4_factor_70 ?_
      refine z_mem rfl rfl mP_u6 rfl rfl ?_
      refine z_il1 g dX4_factor_73 ?_
      refine z_bipush g dX4_factor_74 zkb_33 ?_
      refine z_icmp_ne_t (tgt := 91) g dX4_factor_76 (by decide) (hb) ?_
      refine z_al0 g dX4_factor_91 ?_
      refine z_callV0 g ck_X4_some q1401 q1403 qs44 cls4 (by assumption) (c_X4_some_w hL) rfl (Nat.le_of_ble_eq_true rfl) (by omega) (by omega) (by omega) dX4_factor_92 (z_ans0 ?_)
      refine z_al0 g dX4_factor_95 ?_
      refine z_bipush g dX4_factor_96 zkb_41 ?_
      refine z_callV1 g ck_X4_must q1338 q1340 qs40 cls4 (by assumption) (c_X4_must_w hL) rfl (Nat.le_of_ble_eq_true rfl) (by omega) (by omega) (by omega) dX4_factor_98 (z_ans0 ?_)
      refine z_al0 g dX4_factor_101 ?_
      refine z_dup g dX4_factor_102 rfl ?_
      refine zg4_9 g q1251 (Or.inl rfl) (by assumption) dX4_factor_103 ?_
      rw [mP_9]
      refine z_iconst g dX4_factor_106 zki_1 ?_
      first | with_reducible refine z_isubN g dX4_factor_107 (by omega) ?_ | refine z_isub g dX4_factor_107 ?_
      refine zs4_9 g q1251 (Or.inl rfl) (by assumption) dX4_factor_108 ?_
      refine z_mem rfl rfl mP_u9 rfl rfl ?_
      refine z_vret g r (by omega) (by omega) dX4_factor_111 ?_
      exact ⟨_, by rw [hr2]; exact ⟨row, zag.rf, rfl⟩, rfl, rfl, rfl, rfl, rfl, rfl⟩
    rw [show facP tp e 0 i = factP tp e i from if_neg (fun q => q.elim hb hc40)]
    exact c_X4_fact hL ha ha5 he he100 hp (by omega) hb hc40
  | succ gg ih =>
    intro i d row hd hp
    have hok : ∀ i : Nat, i ≤ e → okT e i (facP tp e gg i) := fun i hi => facP_ok gg i hi
    have hd5 : ¬ nI d = nI 5 := fun q => by have := (nI_eq (by omega) (by omega)).mp q; omega
    by_cases hb : hrP tp e i = nI 33
    · have hl := hr_lt hb (by decide)
      have hp1 := hp.step hl
      rcases hv : facP tp e gg (i + 1) with p | ⟨k, m⟩
      · have hr2 : facP tp e (gg + 1) i = .inl p := by rw [show facP tp e (gg + 1) i = _ from if_pos hb, hv]
        refine zM.of (lv0 := [some (.ref t), none, none, none, none]) pn_X4 (Nat.le_of_ble_eq_true rfl) rfl fun G g r hin hlt hbn => ?_
        have g : zGd E G cX4_factor RX4 5 (8 + 3 * (gg + 1)) 0 0 := g
        have hL0 := hL
        obtain ⟨hT, h1, ht1, h2, ht2, h3, ht3, h10, ht4, h11, ht5, ht6, ht7, h16, ht8, h17, ht9, h19, ht10⟩ := hL0
        refine z_al0 g dX4_factor_0 ?_
        refine zg4_8 g q1250 (Or.inl rfl) (by assumption) dX4_factor_1 ?_
        rw [mP_8]
        refine z_if_eq_t (tgt := 8) g dX4_factor_4 (by decide) (rfl) ?_
        refine z_al0 g dX4_factor_8 ?_
        refine z_callV0 g ck_X4_here q1330 q1332 qs38 cls4 (by assumption) (c_X4_here hL ha ha5 he he100 hp) rfl (Nat.le_of_ble_eq_true rfl) (by omega) (by omega) (by omega) dX4_factor_9 (z_ans1 ?_)
        refine z_is1 g dX4_factor_12 rfl ?_
        refine z_il1 g dX4_factor_13 ?_
        refine z_bipush g dX4_factor_14 zkb_33 ?_
        refine z_icmp_eq_t (tgt := 25) g dX4_factor_16 (by decide) (hb) ?_
        refine z_al0 g dX4_factor_25 ?_
        refine z_al0 g dX4_factor_26 ?_
        refine zg4_9 g q1251 (Or.inl rfl) (by assumption) dX4_factor_27 ?_
        rw [mP_9]
        refine z_iconst g dX4_factor_30 zki_5 ?_
        refine z_icmp_ne_t (tgt := 38) g dX4_factor_31 (by decide) (hd5) ?_
        refine z_iconst g dX4_factor_38 zki_0 ?_
        refine zs4_8 g q1250 (Or.inl rfl) (by assumption) dX4_factor_39 zfit_0 ?_
        first | refine z_mem rfl rfl mP_u8t rfl rfl ?_ | refine z_mem rfl rfl mP_u8f rfl rfl ?_ | skip
        refine z_al0 g dX4_factor_42 ?_
        refine z_dup g dX4_factor_43 rfl ?_
        refine zg4_9 g q1251 (Or.inl rfl) (by assumption) dX4_factor_44 ?_
        rw [mP_9]
        refine z_iconst g dX4_factor_47 zki_1 ?_
        first | with_reducible refine z_iaddN g dX4_factor_48 ?_ | refine z_iadd g dX4_factor_48 ?_
        refine zs4_9 g q1251 (Or.inl rfl) (by assumption) dX4_factor_49 ?_
        refine z_mem rfl rfl mP_u9 rfl rfl ?_
        refine z_al0 g dX4_factor_52 ?_
        refine z_dup g dX4_factor_53 rfl ?_
        refine zg4_6 g q1248 (Or.inl rfl) (by assumption) dX4_factor_54 ?_
        rw [mP_6]
        refine z_al0 g dX4_factor_57 ?_
        refine zg4_8 g q1250 (Or.inl rfl) (by assumption) dX4_factor_58 ?_
        rw [mP_8]
        refine z_if_eq_t (tgt := 68) g dX4_factor_61 (by decide) (by decide +kernel) ?_
        refine z_iconst g dX4_factor_68 zki_1 ?_
        first | with_reducible refine z_iaddN g dX4_factor_69 ?_ | refine z_iadd g dX4_factor_69 ?_
        refine zs4_6 g q1248 (Or.inl rfl) (by assumption) dX4_factor_70 ?_
        refine z_mem rfl rfl mP_u6 rfl rfl ?_
        refine z_il1 g dX4_factor_73 ?_
        refine z_bipush g dX4_factor_74 zkb_33 ?_
        refine z_icmp_ne_f (tgt := 91) g dX4_factor_76 (by decide) (hb) ?_
        refine z_al0 g dX4_factor_79 ?_
        refine z_callV0 g ck_X4_factor q1409 q1411 qs46 cls4 (by assumption) (ih (i + 1) (d + 1) row (by omega) hp1) rfl (Nat.le_of_ble_eq_true rfl) (by omega) (by omega) (by omega) dX4_factor_80 (z_ex fun w hw => z_ans0 ?_)
        rw [hv] at hw
        obtain ⟨row2, hz2, rfl⟩ := hw
        refine z_al0 g dX4_factor_83 ?_
        refine z_iconst g dX4_factor_84 zki_m1 ?_
        refine z_callV1 g ck_X4_emits q1413 q1415 qs47 cls4 (by assumption) (c_X4_emits_w hL) rfl (Nat.le_of_ble_eq_true rfl) (by omega) (by omega) (by omega) dX4_factor_85 (z_ans0 ?_)
        refine z_goto (tgt := 101) g dX4_factor_88 (by decide) ?_
        refine z_al0 g dX4_factor_101 ?_
        refine z_dup g dX4_factor_102 rfl ?_
        refine zg4_9 g q1251 (Or.inl rfl) (by assumption) dX4_factor_103 ?_
        rw [mP_9]
        refine z_iconst g dX4_factor_106 zki_1 ?_
        first | with_reducible refine z_isubN g dX4_factor_107 (by omega) ?_ | refine z_isub g dX4_factor_107 ?_
        refine zs4_9 g q1251 (Or.inl rfl) (by assumption) dX4_factor_108 ?_
        refine z_mem rfl rfl mP_u9 rfl rfl ?_
        refine z_vret g r (by omega) (by omega) dX4_factor_111 ?_
        exact ⟨_, by rw [hr2]; exact ⟨row2, hz2, rfl⟩, rfl, rfl, rfl, rfl, rfl, rfl⟩
      · have hr2 : facP tp e (gg + 1) i = .inr (k, tNot m) := by rw [show facP tp e (gg + 1) i = _ from if_pos hb, hv]
        have h4 := hok (i + 1) hl k m hv
        refine zM.of (lv0 := [some (.ref t), none, none, none, none]) pn_X4 (Nat.le_of_ble_eq_true rfl) rfl fun G g r hin hlt hbn => ?_
        have g : zGd E G cX4_factor RX4 5 (8 + 3 * (gg + 1)) 0 0 := g
        have hL0 := hL
        obtain ⟨hT, h1, ht1, h2, ht2, h3, ht3, h10, ht4, h11, ht5, ht6, ht7, h16, ht8, h17, ht9, h19, ht10⟩ := hL0
        refine z_al0 g dX4_factor_0 ?_
        refine zg4_8 g q1250 (Or.inl rfl) (by assumption) dX4_factor_1 ?_
        rw [mP_8]
        refine z_if_eq_t (tgt := 8) g dX4_factor_4 (by decide) (rfl) ?_
        refine z_al0 g dX4_factor_8 ?_
        refine z_callV0 g ck_X4_here q1330 q1332 qs38 cls4 (by assumption) (c_X4_here hL ha ha5 he he100 hp) rfl (Nat.le_of_ble_eq_true rfl) (by omega) (by omega) (by omega) dX4_factor_9 (z_ans1 ?_)
        refine z_is1 g dX4_factor_12 rfl ?_
        refine z_il1 g dX4_factor_13 ?_
        refine z_bipush g dX4_factor_14 zkb_33 ?_
        refine z_icmp_eq_t (tgt := 25) g dX4_factor_16 (by decide) (hb) ?_
        refine z_al0 g dX4_factor_25 ?_
        refine z_al0 g dX4_factor_26 ?_
        refine zg4_9 g q1251 (Or.inl rfl) (by assumption) dX4_factor_27 ?_
        rw [mP_9]
        refine z_iconst g dX4_factor_30 zki_5 ?_
        refine z_icmp_ne_t (tgt := 38) g dX4_factor_31 (by decide) (hd5) ?_
        refine z_iconst g dX4_factor_38 zki_0 ?_
        refine zs4_8 g q1250 (Or.inl rfl) (by assumption) dX4_factor_39 zfit_0 ?_
        first | refine z_mem rfl rfl mP_u8t rfl rfl ?_ | refine z_mem rfl rfl mP_u8f rfl rfl ?_ | skip
        refine z_al0 g dX4_factor_42 ?_
        refine z_dup g dX4_factor_43 rfl ?_
        refine zg4_9 g q1251 (Or.inl rfl) (by assumption) dX4_factor_44 ?_
        rw [mP_9]
        refine z_iconst g dX4_factor_47 zki_1 ?_
        first | with_reducible refine z_iaddN g dX4_factor_48 ?_ | refine z_iadd g dX4_factor_48 ?_
        refine zs4_9 g q1251 (Or.inl rfl) (by assumption) dX4_factor_49 ?_
        refine z_mem rfl rfl mP_u9 rfl rfl ?_
        refine z_al0 g dX4_factor_52 ?_
        refine z_dup g dX4_factor_53 rfl ?_
        refine zg4_6 g q1248 (Or.inl rfl) (by assumption) dX4_factor_54 ?_
        rw [mP_6]
        refine z_al0 g dX4_factor_57 ?_
        refine zg4_8 g q1250 (Or.inl rfl) (by assumption) dX4_factor_58 ?_
        rw [mP_8]
        refine z_if_eq_t (tgt := 68) g dX4_factor_61 (by decide) (by decide +kernel) ?_
        refine z_iconst g dX4_factor_68 zki_1 ?_
        first | with_reducible refine z_iaddN g dX4_factor_69 ?_ | refine z_iadd g dX4_factor_69 ?_
        refine zs4_6 g q1248 (Or.inl rfl) (by assumption) dX4_factor_70 ?_
        refine z_mem rfl rfl mP_u6 rfl rfl ?_
        refine z_il1 g dX4_factor_73 ?_
        refine z_bipush g dX4_factor_74 zkb_33 ?_
        refine z_icmp_ne_f (tgt := 91) g dX4_factor_76 (by decide) (hb) ?_
        refine z_al0 g dX4_factor_79 ?_
        refine z_callV0 g ck_X4_factor q1409 q1411 qs46 cls4 (by assumption) (ih (i + 1) (d + 1) row (by omega) hp1) rfl (Nat.le_of_ble_eq_true rfl) (by omega) (by omega) (by omega) dX4_factor_80 (z_ex fun w hw => z_ans0 ?_)
        rw [hv] at hw
        cases hw
        refine z_al0 g dX4_factor_83 ?_
        refine z_iconst g dX4_factor_84 zki_m1 ?_
        refine z_callV1 g ck_X4_emits q1413 q1415 qs47 cls4 (by assumption) (c_X4_emits hL ha ha5 he he100 (hp1.app he100 (Nat.le_of_lt h4.1) h4.2.1 h4.2.2).1) rfl (Nat.le_of_ble_eq_true rfl) (by omega) (by omega) (by omega) dX4_factor_85 (z_ans0 ?_)
        rw [appS_one]
        refine z_goto (tgt := 101) g dX4_factor_88 (by decide) ?_
        refine z_al0 g dX4_factor_101 ?_
        refine z_dup g dX4_factor_102 rfl ?_
        refine zg4_9 g q1251 (Or.inl rfl) (by assumption) dX4_factor_103 ?_
        rw [mP_9]
        refine z_iconst g dX4_factor_106 zki_1 ?_
        first | with_reducible refine z_isubN g dX4_factor_107 (by omega) ?_ | refine z_isub g dX4_factor_107 ?_
        refine zs4_9 g q1251 (Or.inl rfl) (by assumption) dX4_factor_108 ?_
        refine z_mem rfl rfl mP_u9 rfl rfl ?_
        refine z_vret g r (by omega) (by omega) dX4_factor_111 ?_
        exact ⟨_, by rw [hr2]; rfl, rfl, rfl, rfl, rfl, rfl, rfl⟩
    by_cases hc40 : hrP tp e i = nI 40
    · have hl := hr_lt hc40 (by decide)
      have hp1 := hp.step hl
      have hsome := c_X4_some (E := E) (n := n) (L := L) (i := i + 1) (d := d + 1) (row := row) hL ha ha5 he he100 hok (fun i row hp => c_X4_every hL ha ha5 he he100 hok (fun i row hp => ih i (d + 1) row (by omega) hp) hp (show 2 ≤ 8 + 3 * gg by omega)) hp1 (by omega)
      rcases hv : someP tp e (facP tp e gg) (i + 1) with p | ⟨k, m⟩
      · have hr2 : facP tp e (gg + 1) i = .inl p := by rw [show facP tp e (gg + 1) i = _ from if_neg hb, if_pos hc40, hv]
        refine zM.of (lv0 := [some (.ref t), none, none, none, none]) pn_X4 (Nat.le_of_ble_eq_true rfl) rfl fun G g r hin hlt hbn => ?_
        have g : zGd E G cX4_factor RX4 5 (8 + 3 * (gg + 1)) 0 0 := g
        have hL0 := hL
        obtain ⟨hT, h1, ht1, h2, ht2, h3, ht3, h10, ht4, h11, ht5, ht6, ht7, h16, ht8, h17, ht9, h19, ht10⟩ := hL0
        refine z_al0 g dX4_factor_0 ?_
        refine zg4_8 g q1250 (Or.inl rfl) (by assumption) dX4_factor_1 ?_
        rw [mP_8]
        refine z_if_eq_t (tgt := 8) g dX4_factor_4 (by decide) (rfl) ?_
        refine z_al0 g dX4_factor_8 ?_
        refine z_callV0 g ck_X4_here q1330 q1332 qs38 cls4 (by assumption) (c_X4_here hL ha ha5 he he100 hp) rfl (Nat.le_of_ble_eq_true rfl) (by omega) (by omega) (by omega) dX4_factor_9 (z_ans1 ?_)
        refine z_is1 g dX4_factor_12 rfl ?_
        refine z_il1 g dX4_factor_13 ?_
        refine z_bipush g dX4_factor_14 zkb_33 ?_
        refine z_icmp_eq_f (tgt := 25) g dX4_factor_16 (by decide) (hb) ?_
        refine z_il1 g dX4_factor_19 ?_
        refine z_bipush g dX4_factor_20 zkb_40 ?_
        refine z_icmp_ne_f (tgt := 112) g dX4_factor_22 (by decide) (hc40) ?_
        refine z_al0 g dX4_factor_25 ?_
        refine z_al0 g dX4_factor_26 ?_
        refine zg4_9 g q1251 (Or.inl rfl) (by assumption) dX4_factor_27 ?_
        rw [mP_9]
        refine z_iconst g dX4_factor_30 zki_5 ?_
        refine z_icmp_ne_t (tgt := 38) g dX4_factor_31 (by decide) (hd5) ?_
        refine z_iconst g dX4_factor_38 zki_0 ?_
        refine zs4_8 g q1250 (Or.inl rfl) (by assumption) dX4_factor_39 zfit_0 ?_
        first | refine z_mem rfl rfl mP_u8t rfl rfl ?_ | refine z_mem rfl rfl mP_u8f rfl rfl ?_ | skip
        refine z_al0 g dX4_factor_42 ?_
        refine z_dup g dX4_factor_43 rfl ?_
        refine zg4_9 g q1251 (Or.inl rfl) (by assumption) dX4_factor_44 ?_
        rw [mP_9]
        refine z_iconst g dX4_factor_47 zki_1 ?_
        first | with_reducible refine z_iaddN g dX4_factor_48 ?_ | refine z_iadd g dX4_factor_48 ?_
        refine zs4_9 g q1251 (Or.inl rfl) (by assumption) dX4_factor_49 ?_
        refine z_mem rfl rfl mP_u9 rfl rfl ?_
        refine z_al0 g dX4_factor_52 ?_
        refine z_dup g dX4_factor_53 rfl ?_
        refine zg4_6 g q1248 (Or.inl rfl) (by assumption) dX4_factor_54 ?_
        rw [mP_6]
        refine z_al0 g dX4_factor_57 ?_
        refine zg4_8 g q1250 (Or.inl rfl) (by assumption) dX4_factor_58 ?_
        rw [mP_8]
        refine z_if_eq_t (tgt := 68) g dX4_factor_61 (by decide) (by decide +kernel) ?_
        refine z_iconst g dX4_factor_68 zki_1 ?_
        first | with_reducible refine z_iaddN g dX4_factor_69 ?_ | refine z_iadd g dX4_factor_69 ?_
        refine zs4_6 g q1248 (Or.inl rfl) (by assumption) dX4_factor_70 ?_
        refine z_mem rfl rfl mP_u6 rfl rfl ?_
        refine z_il1 g dX4_factor_73 ?_
        refine z_bipush g dX4_factor_74 zkb_33 ?_
        refine z_icmp_ne_t (tgt := 91) g dX4_factor_76 (by decide) (hb) ?_
        refine z_al0 g dX4_factor_91 ?_
        refine z_callV0 g ck_X4_some q1401 q1403 qs44 cls4 (by assumption) hsome rfl (Nat.le_of_ble_eq_true rfl) (by omega) (by omega) (by omega) dX4_factor_92 (z_ex fun w hw => z_ans0 ?_)
        rw [hv] at hw
        obtain ⟨row2, hz2, rfl⟩ := hw
        refine z_al0 g dX4_factor_95 ?_
        refine z_bipush g dX4_factor_96 zkb_41 ?_
        refine z_callV1 g ck_X4_must q1338 q1340 qs40 cls4 (by assumption) (c_X4_must_w hL) rfl (Nat.le_of_ble_eq_true rfl) (by omega) (by omega) (by omega) dX4_factor_98 (z_ans0 ?_)
        refine z_al0 g dX4_factor_101 ?_
        refine z_dup g dX4_factor_102 rfl ?_
        refine zg4_9 g q1251 (Or.inl rfl) (by assumption) dX4_factor_103 ?_
        rw [mP_9]
        refine z_iconst g dX4_factor_106 zki_1 ?_
        first | with_reducible refine z_isubN g dX4_factor_107 (by omega) ?_ | refine z_isub g dX4_factor_107 ?_
        refine zs4_9 g q1251 (Or.inl rfl) (by assumption) dX4_factor_108 ?_
        refine z_mem rfl rfl mP_u9 rfl rfl ?_
        refine z_vret g r (by omega) (by omega) dX4_factor_111 ?_
        exact ⟨_, by rw [hr2]; exact ⟨row2, hz2, rfl⟩, rfl, rfl, rfl, rfl, rfl, rfl⟩
      · have h4 := someP_ok hok hl k m hv
        have hpk := hp1.app he100 (Nat.le_of_lt h4.1) h4.2.1 h4.2.2
        by_cases hq : hrP tp e k = nI 41
        · have hr2 : facP tp e (gg + 1) i = .inr (k + 1, m) := by rw [show facP tp e (gg + 1) i = _ from if_neg hb, if_pos hc40, hv]; exact if_pos hq
          refine zM.of (lv0 := [some (.ref t), none, none, none, none]) pn_X4 (Nat.le_of_ble_eq_true rfl) rfl fun G g r hin hlt hbn => ?_
          have g : zGd E G cX4_factor RX4 5 (8 + 3 * (gg + 1)) 0 0 := g
          have hL0 := hL
          obtain ⟨hT, h1, ht1, h2, ht2, h3, ht3, h10, ht4, h11, ht5, ht6, ht7, h16, ht8, h17, ht9, h19, ht10⟩ := hL0
          refine z_al0 g dX4_factor_0 ?_
          refine zg4_8 g q1250 (Or.inl rfl) (by assumption) dX4_factor_1 ?_
          rw [mP_8]
          refine z_if_eq_t (tgt := 8) g dX4_factor_4 (by decide) (rfl) ?_
          refine z_al0 g dX4_factor_8 ?_
          refine z_callV0 g ck_X4_here q1330 q1332 qs38 cls4 (by assumption) (c_X4_here hL ha ha5 he he100 hp) rfl (Nat.le_of_ble_eq_true rfl) (by omega) (by omega) (by omega) dX4_factor_9 (z_ans1 ?_)
          refine z_is1 g dX4_factor_12 rfl ?_
          refine z_il1 g dX4_factor_13 ?_
          refine z_bipush g dX4_factor_14 zkb_33 ?_
          refine z_icmp_eq_f (tgt := 25) g dX4_factor_16 (by decide) (hb) ?_
          refine z_il1 g dX4_factor_19 ?_
          refine z_bipush g dX4_factor_20 zkb_40 ?_
          refine z_icmp_ne_f (tgt := 112) g dX4_factor_22 (by decide) (hc40) ?_
          refine z_al0 g dX4_factor_25 ?_
          refine z_al0 g dX4_factor_26 ?_
          refine zg4_9 g q1251 (Or.inl rfl) (by assumption) dX4_factor_27 ?_
          rw [mP_9]
          refine z_iconst g dX4_factor_30 zki_5 ?_
          refine z_icmp_ne_t (tgt := 38) g dX4_factor_31 (by decide) (hd5) ?_
          refine z_iconst g dX4_factor_38 zki_0 ?_
          refine zs4_8 g q1250 (Or.inl rfl) (by assumption) dX4_factor_39 zfit_0 ?_
          first | refine z_mem rfl rfl mP_u8t rfl rfl ?_ | refine z_mem rfl rfl mP_u8f rfl rfl ?_ | skip
          refine z_al0 g dX4_factor_42 ?_
          refine z_dup g dX4_factor_43 rfl ?_
          refine zg4_9 g q1251 (Or.inl rfl) (by assumption) dX4_factor_44 ?_
          rw [mP_9]
          refine z_iconst g dX4_factor_47 zki_1 ?_
          first | with_reducible refine z_iaddN g dX4_factor_48 ?_ | refine z_iadd g dX4_factor_48 ?_
          refine zs4_9 g q1251 (Or.inl rfl) (by assumption) dX4_factor_49 ?_
          refine z_mem rfl rfl mP_u9 rfl rfl ?_
          refine z_al0 g dX4_factor_52 ?_
          refine z_dup g dX4_factor_53 rfl ?_
          refine zg4_6 g q1248 (Or.inl rfl) (by assumption) dX4_factor_54 ?_
          rw [mP_6]
          refine z_al0 g dX4_factor_57 ?_
          refine zg4_8 g q1250 (Or.inl rfl) (by assumption) dX4_factor_58 ?_
          rw [mP_8]
          refine z_if_eq_t (tgt := 68) g dX4_factor_61 (by decide) (by decide +kernel) ?_
          refine z_iconst g dX4_factor_68 zki_1 ?_
          first | with_reducible refine z_iaddN g dX4_factor_69 ?_ | refine z_iadd g dX4_factor_69 ?_
          refine zs4_6 g q1248 (Or.inl rfl) (by assumption) dX4_factor_70 ?_
          refine z_mem rfl rfl mP_u6 rfl rfl ?_
          refine z_il1 g dX4_factor_73 ?_
          refine z_bipush g dX4_factor_74 zkb_33 ?_
          refine z_icmp_ne_t (tgt := 91) g dX4_factor_76 (by decide) (hb) ?_
          refine z_al0 g dX4_factor_91 ?_
          refine z_callV0 g ck_X4_some q1401 q1403 qs44 cls4 (by assumption) hsome rfl (Nat.le_of_ble_eq_true rfl) (by omega) (by omega) (by omega) dX4_factor_92 (z_ex fun w hw => z_ans0 ?_)
          rw [hv] at hw
          cases hw
          refine z_al0 g dX4_factor_95 ?_
          refine z_bipush g dX4_factor_96 zkb_41 ?_
          refine z_callV1 g ck_X4_must q1338 q1340 qs40 cls4 (by assumption) (c_X4_must hL ha ha5 he he100 hpk.1 (by decide)) rfl (Nat.le_of_ble_eq_true rfl) (by omega) (by omega) (by omega) dX4_factor_98 (z_ans0 ?_)
          rw [if_pos hq]
          refine z_al0 g dX4_factor_101 ?_
          refine z_dup g dX4_factor_102 rfl ?_
          refine zg4_9 g q1251 (Or.inl rfl) (by assumption) dX4_factor_103 ?_
          rw [mP_9]
          refine z_iconst g dX4_factor_106 zki_1 ?_
          first | with_reducible refine z_isubN g dX4_factor_107 (by omega) ?_ | refine z_isub g dX4_factor_107 ?_
          refine zs4_9 g q1251 (Or.inl rfl) (by assumption) dX4_factor_108 ?_
          refine z_mem rfl rfl mP_u9 rfl rfl ?_
          refine z_vret g r (by omega) (by omega) dX4_factor_111 ?_
          exact ⟨_, by rw [hr2]; rfl, rfl, rfl, rfl, rfl, rfl, rfl⟩
        · have hr2 : facP tp e (gg + 1) i = .inl k := by rw [show facP tp e (gg + 1) i = _ from if_neg hb, if_pos hc40, hv]; exact if_neg hq
          refine zM.of (lv0 := [some (.ref t), none, none, none, none]) pn_X4 (Nat.le_of_ble_eq_true rfl) rfl fun G g r hin hlt hbn => ?_
          have g : zGd E G cX4_factor RX4 5 (8 + 3 * (gg + 1)) 0 0 := g
          have hL0 := hL
          obtain ⟨hT, h1, ht1, h2, ht2, h3, ht3, h10, ht4, h11, ht5, ht6, ht7, h16, ht8, h17, ht9, h19, ht10⟩ := hL0
          refine z_al0 g dX4_factor_0 ?_
          refine zg4_8 g q1250 (Or.inl rfl) (by assumption) dX4_factor_1 ?_
          rw [mP_8]
          refine z_if_eq_t (tgt := 8) g dX4_factor_4 (by decide) (rfl) ?_
          refine z_al0 g dX4_factor_8 ?_
          refine z_callV0 g ck_X4_here q1330 q1332 qs38 cls4 (by assumption) (c_X4_here hL ha ha5 he he100 hp) rfl (Nat.le_of_ble_eq_true rfl) (by omega) (by omega) (by omega) dX4_factor_9 (z_ans1 ?_)
          refine z_is1 g dX4_factor_12 rfl ?_
          refine z_il1 g dX4_factor_13 ?_
          refine z_bipush g dX4_factor_14 zkb_33 ?_
          refine z_icmp_eq_f (tgt := 25) g dX4_factor_16 (by decide) (hb) ?_
          refine z_il1 g dX4_factor_19 ?_
          refine z_bipush g dX4_factor_20 zkb_40 ?_
          refine z_icmp_ne_f (tgt := 112) g dX4_factor_22 (by decide) (hc40) ?_
          refine z_al0 g dX4_factor_25 ?_
          refine z_al0 g dX4_factor_26 ?_
          refine zg4_9 g q1251 (Or.inl rfl) (by assumption) dX4_factor_27 ?_
          rw [mP_9]
          refine z_iconst g dX4_factor_30 zki_5 ?_
          refine z_icmp_ne_t (tgt := 38) g dX4_factor_31 (by decide) (hd5) ?_
          refine z_iconst g dX4_factor_38 zki_0 ?_
          refine zs4_8 g q1250 (Or.inl rfl) (by assumption) dX4_factor_39 zfit_0 ?_
          first | refine z_mem rfl rfl mP_u8t rfl rfl ?_ | refine z_mem rfl rfl mP_u8f rfl rfl ?_ | skip
          refine z_al0 g dX4_factor_42 ?_
          refine z_dup g dX4_factor_43 rfl ?_
          refine zg4_9 g q1251 (Or.inl rfl) (by assumption) dX4_factor_44 ?_
          rw [mP_9]
          refine z_iconst g dX4_factor_47 zki_1 ?_
          first | with_reducible refine z_iaddN g dX4_factor_48 ?_ | refine z_iadd g dX4_factor_48 ?_
          refine zs4_9 g q1251 (Or.inl rfl) (by assumption) dX4_factor_49 ?_
          refine z_mem rfl rfl mP_u9 rfl rfl ?_
          refine z_al0 g dX4_factor_52 ?_
          refine z_dup g dX4_factor_53 rfl ?_
          refine zg4_6 g q1248 (Or.inl rfl) (by assumption) dX4_factor_54 ?_
          rw [mP_6]
          refine z_al0 g dX4_factor_57 ?_
          refine zg4_8 g q1250 (Or.inl rfl) (by assumption) dX4_factor_58 ?_
          rw [mP_8]
          refine z_if_eq_t (tgt := 68) g dX4_factor_61 (by decide) (by decide +kernel) ?_
          refine z_iconst g dX4_factor_68 zki_1 ?_
          first | with_reducible refine z_iaddN g dX4_factor_69 ?_ | refine z_iadd g dX4_factor_69 ?_
          refine zs4_6 g q1248 (Or.inl rfl) (by assumption) dX4_factor_70 ?_
          refine z_mem rfl rfl mP_u6 rfl rfl ?_
          refine z_il1 g dX4_factor_73 ?_
          refine z_bipush g dX4_factor_74 zkb_33 ?_
          refine z_icmp_ne_t (tgt := 91) g dX4_factor_76 (by decide) (hb) ?_
          refine z_al0 g dX4_factor_91 ?_
          refine z_callV0 g ck_X4_some q1401 q1403 qs44 cls4 (by assumption) hsome rfl (Nat.le_of_ble_eq_true rfl) (by omega) (by omega) (by omega) dX4_factor_92 (z_ex fun w hw => z_ans0 ?_)
          rw [hv] at hw
          cases hw
          refine z_al0 g dX4_factor_95 ?_
          refine z_bipush g dX4_factor_96 zkb_41 ?_
          refine z_callV1 g ck_X4_must q1338 q1340 qs40 cls4 (by assumption) (c_X4_must hL ha ha5 he he100 hpk.1 (by decide)) rfl (Nat.le_of_ble_eq_true rfl) (by omega) (by omega) (by omega) dX4_factor_98 (z_ans0 ?_)
          rw [if_neg hq]
          refine z_al0 g dX4_factor_101 ?_
          refine z_dup g dX4_factor_102 rfl ?_
          refine zg4_9 g q1251 (Or.inl rfl) (by assumption) dX4_factor_103 ?_
          rw [mP_9]
          refine z_iconst g dX4_factor_106 zki_1 ?_
          first | with_reducible refine z_isubN g dX4_factor_107 (by omega) ?_ | refine z_isub g dX4_factor_107 ?_
          refine zs4_9 g q1251 (Or.inl rfl) (by assumption) dX4_factor_108 ?_
          refine z_mem rfl rfl mP_u9 rfl rfl ?_
          refine z_vret g r (by omega) (by omega) dX4_factor_111 ?_
          exact ⟨_, by rw [hr2]; exact ⟨_, hpk.2, rfl⟩, rfl, rfl, rfl, rfl, rfl, rfl⟩
    rw [show facP tp e (gg + 1) i = factP tp e i from by rw [show facP tp e (gg + 1) i = _ from if_neg hb, if_neg hc40]]
    exact c_X4_fact hL ha ha5 he he100 hp (by omega) hb hc40
