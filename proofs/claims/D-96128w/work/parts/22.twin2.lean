/-! ===== the twin: players, plays, books ===== -/
set_option maxRecDepth 100000
set_option maxHeartbeats 4000000 in
theorem c_X4_feed {E : ZE} {n : Nat} {T : ZT} {I : ZI} {L : ZL} {R : ZR} {t : Nat} (hL : TL T R t) {x : Int32} {k : Nat} (hk : I (t + 1) 10 = nI k) (hk100 : k ≤ 100) : zM E yX4_feed cX4_feed 2 (some (Jvm.ClassFile.FieldType.int)) 1 0 0 [.ref t, .int x] n T I L R (zis (some (.int (feedF (I (t + 1)) x).1)) n T (zp I (t + 1) (feedF (I (t + 1)) x).2) L R) := by
  refine zM.of (lv0 := [some (.ref t), some (.int x)]) pn_X4 (Nat.le_of_ble_eq_true rfl) rfl fun G g r hin hlt hbn => ?_
  have g : zGd E G cX4_feed RX4 2 1 0 0 := g
  have hL0 := hL
  obtain ⟨hT, h1, ht1, h2, ht2, h3, ht3, h10, ht4, h11, ht5, ht6, ht7, h16, ht8, h17, ht9, h19, ht10⟩ := hL0
  refine z_il1 g dX4_feed_0 ?_
  refine z_iconst g dX4_feed_1 zki_0 ?_
  refine z_bipush g dX4_feed_2 zkb_127 ?_
  refine z_callS3 g ck_X4_in q1319 q1320 c_X4_in rfl (Nat.le_of_ble_eq_true rfl) (by omega) (by omega) (by omega) dX4_feed_4 (z_ans1 ?_)
  refine z_ifb_ne (tgt := 13) g dX4_feed_7 (by decide) (fun c7 => ?_) (fun c7 => ?_)
  · skip
    refine z_al0 g dX4_feed_13 ?_
    refine zg4_1 g q1243 (Or.inl rfl) (by assumption) dX4_feed_14 (by assumption) ?_
    refine z_bipush g dX4_feed_17 zkb_10 ?_
    refine z_iald (k := 0) g rfl (by assumption) (by omega) (by omega) dX4_feed_19 ?_
    refine z_bipush g dX4_feed_20 zkb_100 ?_
    refine z_icmp_ne (tgt := 28) g dX4_feed_22 (by decide) (fun c22 => ?_) (fun c22 => ?_)
    · skip
      have hk1 : k < 100 := by
        rcases Nat.lt_or_ge k 100 with q | q
        · exact q
        · exact absurd (by rw [hk, show k = 100 by omega]) c22
      have hkc : (nI k).toNatClampNeg = k := cl_nI (by omega)
      rw [hk] at c22
      refine z_al0 g dX4_feed_28 ?_
      refine zg4_1 g q1243 (Or.inl rfl) (by assumption) dX4_feed_29 (by assumption) ?_
      refine z_bipush g dX4_feed_32 zkb_74 ?_
      refine z_al0 g dX4_feed_34 ?_
      refine zg4_1 g q1243 (Or.inl rfl) (by assumption) dX4_feed_35 (by assumption) ?_
      refine z_bipush g dX4_feed_38 zkb_10 ?_
      refine z_iald (k := 0) g rfl (by assumption) (by omega) (by omega) dX4_feed_40 ?_
      refine z_top hk ?_
      first | with_reducible refine z_iaddN g dX4_feed_41 ?_ | refine z_iadd g dX4_feed_41 ?_
      refine z_il1 g dX4_feed_42 ?_
      refine z_iast (k := 0) g rfl (by decide) (by assumption) (by omega) (by omega) dX4_feed_43 ?_
      refine z_al0 g dX4_feed_44 ?_
      refine zg4_1 g q1243 (Or.inl rfl) (by assumption) dX4_feed_45 (by assumption) ?_
      refine z_bipush g dX4_feed_48 zkb_10 ?_
      refine z_dup2 g dX4_feed_50 rfl rfl ?_
      refine z_iald (k := 0) g rfl (by assumption) (by omega) (by omega) dX4_feed_51 ?_
      refine z_iconst g dX4_feed_52 zki_1 ?_
      first | with_reducible refine z_iaddN g dX4_feed_53 ?_ | refine z_iadd g dX4_feed_53 ?_
      refine z_iast (k := 0) g rfl (by decide) (by assumption) (by omega) (by omega) dX4_feed_54 ?_
      refine z_al0 g dX4_feed_55 ?_
      refine zg4_1 g q1243 (Or.inl rfl) (by assumption) dX4_feed_56 (by assumption) ?_
      refine z_bipush g dX4_feed_59 zkb_10 ?_
      refine z_iald (k := 0) g rfl (by assumption) (by omega) (by omega) dX4_feed_61 ?_
      refine z_iret g r (by omega) (by omega) dX4_feed_62 ?_
      exact ⟨by first | (simp [feedF, zp_zp, zp_s, zp_self, *]; done) | (simp_all [feedF, zp_zp, zp_s, zp_self]; done), rfl, rfl, by first | (simp [feedF, zp_zp, zp_s, zp_self, *]; done) | (simp_all [feedF, zp_zp, zp_s, zp_self]; done), rfl, rfl⟩
    · skip
      rw [hk] at c22
      refine z_bipush g dX4_feed_25 zkb_m4 ?_
      refine z_iret g r (by omega) (by omega) dX4_feed_27 ?_
      exact ⟨by first | (simp [feedF, zp_zp, zp_s, zp_self, *]; done) | (simp_all [feedF, zp_zp, zp_s, zp_self]; done), rfl, rfl, by first | (simp [feedF, zp_zp, zp_s, zp_self, *]; done) | (simp_all [feedF, zp_zp, zp_s, zp_self]; done), rfl, rfl⟩
  · skip
    refine z_bipush g dX4_feed_10 zkb_m2 ?_
    refine z_iret g r (by omega) (by omega) dX4_feed_12 ?_
    exact ⟨by first | (simp [feedF, zp_zp, zp_s, zp_self, *]; done) | (simp_all [feedF, zp_zp, zp_s, zp_self]; done), rfl, rfl, by first | (simp [feedF, zp_zp, zp_s, zp_self, *]; done) | (simp_all [feedF, zp_zp, zp_s, zp_self]; done), rfl, rfl⟩

set_option maxHeartbeats 4000000 in
theorem c_X4_tellsOf {E : ZE} {n : Nat} {T : ZT} {I : ZI} {L : ZL} {R : ZR} {t : Nat} (hL : TL T R t) {w : Nat} (hw : w < 800) (hH : holdOK (I (t + 1) 11)) : zM E yX4_tellsOf cX4_tellsOf 2 (some (Jvm.ClassFile.FieldType.int)) 0 0 0 [.ref t, .int (nI w)] n T I L R (zis (some (.int (tellsF (I (t + 1)) w))) n T I L R) := by
  refine zM.of (lv0 := [some (.ref t), some (.int (nI w))]) pn_X4 (Nat.le_of_ble_eq_true rfl) rfl fun G g r hin hlt hbn => ?_
  have g : zGd E G cX4_tellsOf RX4 2 0 0 0 := g
  have hL0 := hL
  obtain ⟨hT, h1, ht1, h2, ht2, h3, ht3, h10, ht4, h11, ht5, ht6, ht7, h16, ht8, h17, ht9, h19, ht10⟩ := hL0
  rcases hH with hH | ⟨h, hh, hH⟩
  · skip
    refine z_al0 g dX4_tellsOf_0 ?_
    refine zg4_1 g q1243 (Or.inl rfl) (by assumption) dX4_tellsOf_1 (by assumption) ?_
    refine z_bipush g dX4_tellsOf_4 zkb_11 ?_
    refine z_iald (k := 0) g rfl (by assumption) (by omega) (by omega) dX4_tellsOf_6 ?_
    refine z_iconst g dX4_tellsOf_7 zki_m1 ?_
    refine z_icmp_ne_f (tgt := 15) g dX4_tellsOf_8 (by decide) (hH) ?_
    refine z_iconst g dX4_tellsOf_11 zki_1 ?_
    refine z_goto (tgt := 29) g dX4_tellsOf_12 (by decide) ?_
    refine z_iret g r (by omega) (by omega) dX4_tellsOf_29 ?_
    exact ⟨by simp [tellsF, hH], rfl, rfl, rfl, rfl, rfl⟩
  · skip
    have h1 : ¬ nI h = -1 := by
      intro q
      have := nI_pos (n := h) (by omega)
      rw [q] at this
      exact this (by decide +kernel)
    refine z_al0 g dX4_tellsOf_0 ?_
    refine zg4_1 g q1243 (Or.inl rfl) (by assumption) dX4_tellsOf_1 (by assumption) ?_
    refine z_bipush g dX4_tellsOf_4 zkb_11 ?_
    refine z_iald (k := 0) g rfl (by assumption) (by omega) (by omega) dX4_tellsOf_6 ?_
    refine z_iconst g dX4_tellsOf_7 zki_m1 ?_
    refine z_icmp_ne_t (tgt := 15) g dX4_tellsOf_8 (by decide) (by rw [hH]; exact h1) ?_
    refine z_al0 g dX4_tellsOf_15 ?_
    refine zg4_1 g q1243 (Or.inl rfl) (by assumption) dX4_tellsOf_16 (by assumption) ?_
    refine z_il1 g dX4_tellsOf_19 ?_
    refine z_al0 g dX4_tellsOf_20 ?_
    refine zg4_1 g q1243 (Or.inl rfl) (by assumption) dX4_tellsOf_21 (by assumption) ?_
    refine z_bipush g dX4_tellsOf_24 zkb_11 ?_
    refine z_iald (k := 0) g rfl (by assumption) (by omega) (by omega) dX4_tellsOf_26 ?_
    refine z_top hH ?_
    first | with_reducible refine z_iaddN g dX4_tellsOf_27 ?_ | refine z_iadd g dX4_tellsOf_27 ?_
    refine z_iald (k := 0) g rfl (by assumption) (by omega) (by omega) dX4_tellsOf_28 ?_
    refine z_iret g r (by omega) (by omega) dX4_tellsOf_29 ?_
    exact ⟨by unfold tellsF; rw [if_neg (by rw [hH]; exact h1), hH, cl_nI (by omega)], rfl, rfl, rfl, rfl, rfl⟩

set_option maxHeartbeats 4000000 in
theorem c_X4_fewer {E : ZE} {n : Nat} {T : ZT} {I : ZI} {L : ZL} {R : ZR} {t : Nat} (hL : TL T R t) (hH : holdOK (I (t + 1) 11)) {x : Int32} : zM E yX4_fewer cX4_fewer 3 (some (Jvm.ClassFile.FieldType.int)) 1 0 0 [.ref t, .int x] n T I L R (zis (some (.int (fewerF (I (t + 1)) x))) n T I L R) := by
  refine zM.of (lv0 := [some (.ref t), some (.int x), none]) pn_X4 (Nat.le_of_ble_eq_true rfl) rfl fun G g r hin hlt hbn => ?_
  have g : zGd E G cX4_fewer RX4 3 1 0 0 := g
  have hL0 := hL
  obtain ⟨hT, h1, ht1, h2, ht2, h3, ht3, h10, ht4, h11, ht5, ht6, ht7, h16, ht8, h17, ht9, h19, ht10⟩ := hL0
  refine z_il1 g dX4_fewer_0 ?_
  refine z_al0 g dX4_fewer_1 ?_
  refine z_sipush g dX4_fewer_2 zks_174 ?_
  refine z_callV1 g ck_X4_tellsOf q1454 q1456 qs51 cls4 (by assumption) (c_X4_tellsOf hL (by omega) hH) rfl (Nat.le_of_ble_eq_true rfl) (by omega) (by omega) (by omega) dX4_fewer_5 (z_ans1 ?_)
  first | with_reducible refine z_isubN g dX4_fewer_8 (by omega) ?_ | refine z_isub g dX4_fewer_8 ?_
  refine z_is2 g dX4_fewer_9 rfl ?_
  refine z_il2 g dX4_fewer_10 ?_
  refine z_iconst g dX4_fewer_11 zki_1 ?_
  refine z_icmp_ge (tgt := 19) g dX4_fewer_12 (by decide) (fun c12 => ?_) (fun c12 => ?_)
  · skip
    have c12 := Int32.not_lt.mpr c12
    refine z_il2 g dX4_fewer_19 ?_
    refine z_iret g r (by omega) (by omega) dX4_fewer_20 ?_
    exact ⟨by simp [fewerF, *], rfl, rfl, rfl, rfl, rfl⟩
  · skip
    have c12 := Int32.not_le.mp c12
    refine z_iconst g dX4_fewer_15 zki_1 ?_
    refine z_goto (tgt := 20) g dX4_fewer_16 (by decide) ?_
    refine z_iret g r (by omega) (by omega) dX4_fewer_20 ?_
    exact ⟨by simp [fewerF, *], rfl, rfl, rfl, rfl, rfl⟩

set_option maxHeartbeats 4000000 in
theorem c_X4_moreOf {E : ZE} {n : Nat} {T : ZT} {I : ZI} {L : ZL} {R : ZR} {t : Nat} (hL : TL T R t) (hH : holdOK (I (t + 1) 11)) {x : Int32} : zM E yX4_moreOf cX4_moreOf 3 (some (Jvm.ClassFile.FieldType.int)) 1 0 0 [.ref t, .int x] n T I L R (zis (some (.int (moreF (I (t + 1)) x))) n T I L R) := by
  refine zM.of (lv0 := [some (.ref t), some (.int x), none]) pn_X4 (Nat.le_of_ble_eq_true rfl) rfl fun G g r hin hlt hbn => ?_
  have g : zGd E G cX4_moreOf RX4 3 1 0 0 := g
  have hL0 := hL
  obtain ⟨hT, h1, ht1, h2, ht2, h3, ht3, h10, ht4, h11, ht5, ht6, ht7, h16, ht8, h17, ht9, h19, ht10⟩ := hL0
  refine z_il1 g dX4_moreOf_0 ?_
  refine z_al0 g dX4_moreOf_1 ?_
  refine z_sipush g dX4_moreOf_2 zks_179 ?_
  refine z_callV1 g ck_X4_tellsOf q1454 q1456 qs51 cls4 (by assumption) (c_X4_tellsOf hL (by omega) hH) rfl (Nat.le_of_ble_eq_true rfl) (by omega) (by omega) (by omega) dX4_moreOf_5 (z_ans1 ?_)
  first | with_reducible refine z_iaddN g dX4_moreOf_8 ?_ | refine z_iadd g dX4_moreOf_8 ?_
  refine z_is2 g dX4_moreOf_9 rfl ?_
  refine z_il2 g dX4_moreOf_10 ?_
  refine z_bipush g dX4_moreOf_11 zkb_20 ?_
  refine z_icmp_le (tgt := 21) g dX4_moreOf_13 (by decide) (fun c13 => ?_) (fun c13 => ?_)
  · skip
    have c13 := Int32.not_lt.mpr c13
    refine z_il2 g dX4_moreOf_21 ?_
    refine z_iret g r (by omega) (by omega) dX4_moreOf_22 ?_
    exact ⟨by simp [moreF, *], rfl, rfl, rfl, rfl, rfl⟩
  · skip
    have c13 := Int32.not_le.mp c13
    refine z_bipush g dX4_moreOf_16 zkb_20 ?_
    refine z_goto (tgt := 22) g dX4_moreOf_18 (by decide) ?_
    refine z_iret g r (by omega) (by omega) dX4_moreOf_22 ?_
    exact ⟨by simp [moreF, *], rfl, rfl, rfl, rfl, rfl⟩

set_option maxHeartbeats 4000000 in
theorem c_X4_plays {E : ZE} {n : Nat} {T : ZT} {I : ZI} {L : ZL} {R : ZR} {t : Nat} (hL : TL T R t) (hH : holdOK (I (t + 1) 11)) {w l : Nat} (hw : w < 5) (hl : l < 5) : zM E yX4_plays cX4_plays 3 none 2 0 0 [.ref t, .int (nI w), .int (nI l)] n T I L R (zis (none) n T (zp I (t + 1) (playsF (I (t + 1)) w l)) L R) := by
  refine zM.of (lv0 := [some (.ref t), some (.int (nI w)), some (.int (nI l))]) pn_X4 (Nat.le_of_ble_eq_true rfl) rfl fun G g r hin hlt hbn => ?_
  have g : zGd E G cX4_plays RX4 3 2 0 0 := g
  have hL0 := hL
  obtain ⟨hT, h1, ht1, h2, ht2, h3, ht3, h10, ht4, h11, ht5, ht6, ht7, h16, ht8, h17, ht9, h19, ht10⟩ := hL0
  refine z_al0 g dX4_plays_0 ?_
  refine zg4_1 g q1243 (Or.inl rfl) (by assumption) dX4_plays_1 (by assumption) ?_
  refine z_iconst g dX4_plays_4 zki_1 ?_
  refine z_il1 g dX4_plays_5 ?_
  first | with_reducible refine z_iaddN g dX4_plays_6 ?_ | refine z_iadd g dX4_plays_6 ?_
  refine z_al0 g dX4_plays_7 ?_
  refine z_al0 g dX4_plays_8 ?_
  refine zg4_1 g q1243 (Or.inl rfl) (by assumption) dX4_plays_9 (by assumption) ?_
  refine z_iconst g dX4_plays_12 zki_1 ?_
  refine z_il1 g dX4_plays_13 ?_
  first | with_reducible refine z_iaddN g dX4_plays_14 ?_ | refine z_iadd g dX4_plays_14 ?_
  refine z_iald (k := 0) g rfl (by assumption) (by omega) (by omega) dX4_plays_15 ?_
  refine z_callV1 g ck_X4_fewer q1486 q1488 qs56 cls4 (by assumption) (c_X4_fewer hL hH) rfl (Nat.le_of_ble_eq_true rfl) (by omega) (by omega) (by omega) dX4_plays_16 (z_ans1 ?_)
  refine z_iast (k := 0) g rfl (by decide) (by assumption) (by omega) (by omega) dX4_plays_19 ?_
  refine z_al0 g dX4_plays_20 ?_
  refine zg4_1 g q1243 (Or.inl rfl) (by assumption) dX4_plays_21 (by assumption) ?_
  refine z_iconst g dX4_plays_24 zki_1 ?_
  refine z_il2 g dX4_plays_25 ?_
  first | with_reducible refine z_iaddN g dX4_plays_26 ?_ | refine z_iadd g dX4_plays_26 ?_
  refine z_al0 g dX4_plays_27 ?_
  refine z_al0 g dX4_plays_28 ?_
  refine zg4_1 g q1243 (Or.inl rfl) (by assumption) dX4_plays_29 (by assumption) ?_
  refine z_iconst g dX4_plays_32 zki_1 ?_
  refine z_il2 g dX4_plays_33 ?_
  first | with_reducible refine z_iaddN g dX4_plays_34 ?_ | refine z_iadd g dX4_plays_34 ?_
  refine z_iald (k := 0) g rfl (by assumption) (by omega) (by omega) dX4_plays_35 ?_
  refine z_callV1 g ck_X4_moreOf q1490 q1492 qs57 cls4 (by assumption) (c_X4_moreOf hL (by rw [zp_s, zp_n (by omega)]; exact hH)) rfl (Nat.le_of_ble_eq_true rfl) (by omega) (by omega) (by omega) dX4_plays_36 (z_ans1 ?_)
  refine z_iast (k := 0) g rfl (by decide) (by assumption) (by omega) (by omega) dX4_plays_39 ?_
  refine z_al0 g dX4_plays_40 ?_
  refine zg4_1 g q1243 (Or.inl rfl) (by assumption) dX4_plays_41 (by assumption) ?_
  refine z_iconst g dX4_plays_44 zki_0 ?_
  refine z_dup2 g dX4_plays_45 rfl rfl ?_
  refine z_iald (k := 0) g rfl (by assumption) (by omega) (by omega) dX4_plays_46 ?_
  refine z_iconst g dX4_plays_47 zki_1 ?_
  first | with_reducible refine z_iaddN g dX4_plays_48 ?_ | refine z_iadd g dX4_plays_48 ?_
  refine z_iast (k := 0) g rfl (by decide) (by assumption) (by omega) (by omega) dX4_plays_49 ?_
  refine z_vret g r (by omega) (by omega) dX4_plays_50 ?_
  exact ⟨rfl, rfl, rfl, by simp only [playsF, pl1F, pl2F, pl3F, zp_zp, zp_s], rfl, rfl⟩

theorem zfill_0 {f : SV} {a : Nat} {v : Int32} : zfillF f a a v = f := by
  funext j
  unfold zfillF
  exact if_neg (by omega)
theorem zfill_put {f : SV} {a k b : Nat} {v : Int32} (h : a + k = b) : zp (zfillF f a b v) b v = zfillF f a (a + (k + 1)) v := by
  subst h
  funext j
  unfold zp zfillF
  by_cases e : j = a + k
  · rw [if_pos e, if_pos (by omega)]
  · rw [if_neg e]
    by_cases e2 : a ≤ j ∧ j < a + k
    · rw [if_pos e2, if_pos (by omega)]
    · rw [if_neg e2, if_neg (by omega)]
set_option maxHeartbeats 4000000 in
theorem c_X4_player {E : ZE} {n : Nat} {T : ZT} {I : ZI} {L : ZL} {R : ZR} {t : Nat} (hL : TL T R t) {np : Nat} (hN : I (t + 1) 6 = nI np) (hnp : np ≤ 5) {kd v : Int32} : zM E yX4_player cX4_player 5 (some (Jvm.ClassFile.FieldType.int)) 1 0 0 [.ref t, .int kd, .int v] n T I L R (zis (some (.int (playerF (I (t + 1)) kd v).1)) n T (zp I (t + 1) (playerF (I (t + 1)) kd v).2) L R) := by
  refine zM.of (lv0 := [some (.ref t), some (.int kd), some (.int v), none, none]) pn_X4 (Nat.le_of_ble_eq_true rfl) rfl fun G g r hin hlt hbn => ?_
  have g : zGd E G cX4_player RX4 5 1 0 0 := g
  have hL0 := hL
  obtain ⟨hT, h1, ht1, h2, ht2, h3, ht3, h10, ht4, h11, ht5, ht6, ht7, h16, ht8, h17, ht9, h19, ht10⟩ := hL0
  by_cases hfull : np = 5
  · subst hfull
    refine z_il1 g dX4_player_0 ?_
    refine z_iconst g dX4_player_1 zki_0 ?_
    refine z_bipush g dX4_player_2 zkb_6 ?_
    refine z_callS3 g ck_X4_in q1319 q1320 c_X4_in rfl (Nat.le_of_ble_eq_true rfl) (by omega) (by omega) (by omega) dX4_player_4 (z_ans1 ?_)
    refine z_ifb_ne (tgt := 12) g dX4_player_7 (by decide) (fun c7 => ?_) (fun c7 => ?_)
    · skip
      refine z_il2 g dX4_player_12 ?_
      refine z_iconst g dX4_player_13 zki_0 ?_
      refine z_bipush g dX4_player_14 zkb_9 ?_
      refine z_callS3 g ck_X4_in q1319 q1320 c_X4_in rfl (Nat.le_of_ble_eq_true rfl) (by omega) (by omega) (by omega) dX4_player_16 (z_ans1 ?_)
      refine z_ifb_ne (tgt := 25) g dX4_player_19 (by decide) (fun c19 => ?_) (fun c19 => ?_)
      · skip
        refine z_al0 g dX4_player_25 ?_
        refine zg4_1 g q1243 (Or.inl rfl) (by assumption) dX4_player_26 (by assumption) ?_
        refine z_bipush g dX4_player_29 zkb_6 ?_
        refine z_iald (k := 0) g rfl (by assumption) (by omega) (by omega) dX4_player_31 ?_
        refine z_iconst g dX4_player_32 zki_5 ?_
        refine z_icmp_ne_f (tgt := 39) g dX4_player_33 (by decide) (hN) ?_
        refine z_bipush g dX4_player_36 zkb_m4 ?_
        refine z_iret g r (by omega) (by omega) dX4_player_38 ?_
        exact ⟨by first | (simp [playerF, zp_zp, zp_s, zp_self, *]; done) | (simp_all [playerF, zp_zp, zp_s, zp_self]; done), rfl, rfl, by first | (simp [playerF, zp_zp, zp_s, zp_self, *]; done) | (simp_all [playerF, zp_zp, zp_s, zp_self]; done), rfl, rfl⟩
      · skip
        refine z_bipush g dX4_player_22 zkb_m2 ?_
        refine z_iret g r (by omega) (by omega) dX4_player_24 ?_
        exact ⟨by first | (simp [playerF, zp_zp, zp_s, zp_self, *]; done) | (simp_all [playerF, zp_zp, zp_s, zp_self]; done), rfl, rfl, by first | (simp [playerF, zp_zp, zp_s, zp_self, *]; done) | (simp_all [playerF, zp_zp, zp_s, zp_self]; done), rfl, rfl⟩
    · skip
      refine z_iconst g dX4_player_10 zki_m1 ?_
      refine z_iret g r (by omega) (by omega) dX4_player_11 ?_
      exact ⟨by first | (simp [playerF, zp_zp, zp_s, zp_self, *]; done) | (simp_all [playerF, zp_zp, zp_s, zp_self]; done), rfl, rfl, by first | (simp [playerF, zp_zp, zp_s, zp_self, *]; done) | (simp_all [playerF, zp_zp, zp_s, zp_self]; done), rfl, rfl⟩
  have hnl : np < 5 := by omega
  have hn5 : ¬ nI np = nI 5 := fun q => hfull ((nI_eq (by omega) (by omega)).mp q)
  have hcl : (nI np).toNatClampNeg = np := cl_nI (by omega)
  have loop : ∀ (s1 : Nat → Int32), s1 6 = nI np → (zis (some (.int (nI np))) n T (zp I (t + 1) (zp (zfillF s1 (22 + 4 * np) (22 + 4 * np + 4) (nI 4)) 6 (s1 6 + nI 1))) L R = zis (some (.int (playerF (I (t + 1)) kd v).1)) n T (zp I (t + 1) (playerF (I (t + 1)) kd v).2) L R) → ∀ m k : Nat, k + m = 4 → Z E G 0 0 n T (zp I (t + 1) (zfillF s1 (22 + 4 * np) (22 + 4 * np + k) (nI 4))) L R 80 [some (.ref t), some (.int kd), some (.int v), some (.int (nI np)), some (.int (nI k))] [] := by
    intro s1 h6 hpost m
    induction m with
    | zero =>
      intro k hk
      obtain rfl : k = 4 := by omega
      refine z_il4 g dX4_player_80 ?_
      refine z_iconst g dX4_player_82 zki_4 ?_
      refine z_icmp_ge_t (tgt := 107) g dX4_player_83 (by decide) (by decide +kernel) ?_
      refine z_al0 g dX4_player_107 ?_
      refine zg4_1 g q1243 (Or.inl rfl) (by assumption) dX4_player_108 (by assumption) ?_
      refine z_bipush g dX4_player_111 zkb_6 ?_
      refine z_dup2 g dX4_player_113 rfl rfl ?_
      refine z_iald (k := 0) g rfl (by assumption) (by omega) (by omega) dX4_player_114 ?_
      refine z_iconst g dX4_player_115 zki_1 ?_
      first | with_reducible refine z_iaddN g dX4_player_116 ?_ | refine z_iadd g dX4_player_116 ?_
      refine z_iast (k := 0) g rfl (by decide) (by assumption) (by omega) (by omega) dX4_player_117 ?_
      refine z_il3 g dX4_player_118 ?_
      refine z_iret g r (by omega) (by omega) dX4_player_119 ?_
      rw [← hpost]
      refine ⟨rfl, rfl, rfl, ?_, rfl, rfl⟩
      have h6f : zfillF s1 (22 + 4 * np) (22 + 4 * np + 4) (nI 4) 6 = s1 6 := if_neg (by omega)
      simp only [zp_zp, zp_s, h6f]
    | succ m ih =>
      intro k hk
      refine z_il4 g dX4_player_80 ?_
      refine z_iconst g dX4_player_82 zki_4 ?_
      refine z_icmp_ge_f (tgt := 107) g dX4_player_83 (by decide) (nI_ge (by omega) (by omega)) ?_
      refine z_al0 g dX4_player_86 ?_
      refine zg4_1 g q1243 (Or.inl rfl) (by assumption) dX4_player_87 (by assumption) ?_
      refine z_bipush g dX4_player_90 zkb_22 ?_
      refine z_iconst g dX4_player_92 zki_4 ?_
      refine z_il3 g dX4_player_93 ?_
      first | with_reducible refine z_imulN g dX4_player_94 ?_ | refine z_imul g dX4_player_94 ?_
      first | with_reducible refine z_iaddN g dX4_player_95 ?_ | refine z_iadd g dX4_player_95 ?_
      refine z_il4 g dX4_player_96 ?_
      first | with_reducible refine z_iaddN g dX4_player_98 ?_ | refine z_iadd g dX4_player_98 ?_
      refine z_iconst g dX4_player_99 zki_4 ?_
      refine z_iast (k := 0) g rfl (by decide) (by assumption) (by omega) (by omega) dX4_player_100 ?_
      rw [zp_s, zp_zp, zfill_put (a := 22 + 4 * np) (k := k) rfl]
      first | with_reducible refine z_inc4 g dX4_player_101 (zinc1 _) rfl ?_ | refine z_inc4 g dX4_player_101 rfl rfl ?_
      refine z_goto (tgt := 80) g dX4_player_104 (by decide) ?_
      exact ih (k + 1) (by omega)
  refine z_il1 g dX4_player_0 ?_
  refine z_iconst g dX4_player_1 zki_0 ?_
  refine z_bipush g dX4_player_2 zkb_6 ?_
  refine z_callS3 g ck_X4_in q1319 q1320 c_X4_in rfl (Nat.le_of_ble_eq_true rfl) (by omega) (by omega) (by omega) dX4_player_4 (z_ans1 ?_)
  refine z_ifb_ne (tgt := 12) g dX4_player_7 (by decide) (fun c7 => ?_) (fun c7 => ?_)
  · skip
    refine z_il2 g dX4_player_12 ?_
    refine z_iconst g dX4_player_13 zki_0 ?_
    refine z_bipush g dX4_player_14 zkb_9 ?_
    refine z_callS3 g ck_X4_in q1319 q1320 c_X4_in rfl (Nat.le_of_ble_eq_true rfl) (by omega) (by omega) (by omega) dX4_player_16 (z_ans1 ?_)
    refine z_ifb_ne (tgt := 25) g dX4_player_19 (by decide) (fun c19 => ?_) (fun c19 => ?_)
    · skip
      refine z_al0 g dX4_player_25 ?_
      refine zg4_1 g q1243 (Or.inl rfl) (by assumption) dX4_player_26 (by assumption) ?_
      refine z_bipush g dX4_player_29 zkb_6 ?_
      refine z_iald (k := 0) g rfl (by assumption) (by omega) (by omega) dX4_player_31 ?_
      refine z_iconst g dX4_player_32 zki_5 ?_
      refine z_icmp_ne_t (tgt := 39) g dX4_player_33 (by decide) (by rw [hN]; exact hn5) ?_
      refine z_al0 g dX4_player_39 ?_
      refine zg4_1 g q1243 (Or.inl rfl) (by assumption) dX4_player_40 (by assumption) ?_
      refine z_bipush g dX4_player_43 zkb_6 ?_
      refine z_iald (k := 0) g rfl (by assumption) (by omega) (by omega) dX4_player_45 ?_
      refine z_top hN ?_
      refine z_is3 g dX4_player_46 rfl ?_
      refine z_al0 g dX4_player_47 ?_
      refine zg4_1 g q1243 (Or.inl rfl) (by assumption) dX4_player_48 (by assumption) ?_
      refine z_bipush g dX4_player_51 zkb_12 ?_
      refine z_il3 g dX4_player_53 ?_
      first | with_reducible refine z_iaddN g dX4_player_54 ?_ | refine z_iadd g dX4_player_54 ?_
      refine z_il1 g dX4_player_55 ?_
      refine z_iast (k := 0) g rfl (by decide) (by assumption) (by omega) (by omega) dX4_player_56 ?_
      refine z_al0 g dX4_player_57 ?_
      refine zg4_1 g q1243 (Or.inl rfl) (by assumption) dX4_player_58 (by assumption) ?_
      refine z_bipush g dX4_player_61 zkb_17 ?_
      refine z_il3 g dX4_player_63 ?_
      first | with_reducible refine z_iaddN g dX4_player_64 ?_ | refine z_iadd g dX4_player_64 ?_
      refine z_il2 g dX4_player_65 ?_
      refine z_iast (k := 0) g rfl (by decide) (by assumption) (by omega) (by omega) dX4_player_66 ?_
      refine z_al0 g dX4_player_67 ?_
      refine zg4_1 g q1243 (Or.inl rfl) (by assumption) dX4_player_68 (by assumption) ?_
      refine z_iconst g dX4_player_71 zki_1 ?_
      refine z_il3 g dX4_player_72 ?_
      first | with_reducible refine z_iaddN g dX4_player_73 ?_ | refine z_iadd g dX4_player_73 ?_
      refine z_bipush g dX4_player_74 zkb_8 ?_
      refine z_iast (k := 0) g rfl (by decide) (by assumption) (by omega) (by omega) dX4_player_76 ?_
      refine z_iconst g dX4_player_77 zki_0 ?_
      refine z_is4 g dX4_player_78 rfl ?_
      simp only [zp_zp, zp_s]
      have h6f : zfillF (zp (zp (zp (I (t + 1)) (12 + np) kd) (17 + np) v) (1 + np) (nI 8)) (22 + 4 * np) (22 + 4 * np + 4) (nI 4) 6 = (zp (zp (zp (I (t + 1)) (12 + np) kd) (17 + np) v) (1 + np) (nI 8)) 6 := if_neg (by omega)
      have h := loop (zp (zp (zp (I (t + 1)) (12 + np) kd) (17 + np) v) (1 + np) (nI 8)) (by rw [zp_n (by omega), zp_n (by omega), zp_n (by omega)]; exact hN) (by simp [playerF, *]) 4 0 rfl
      rw [show zfillF (zp (zp (zp (I (t + 1)) (12 + np) kd) (17 + np) v) (1 + np) (nI 8)) (22 + 4 * np) (22 + 4 * np + 0) (nI 4) = _ from zfill_0] at h
      exact h
    · skip
      refine z_bipush g dX4_player_22 zkb_m2 ?_
      refine z_iret g r (by omega) (by omega) dX4_player_24 ?_
      exact ⟨by first | (simp [playerF, zp_zp, zp_s, zp_self, *]; done) | (simp_all [playerF, zp_zp, zp_s, zp_self]; done), rfl, rfl, by first | (simp [playerF, zp_zp, zp_s, zp_self, *]; done) | (simp_all [playerF, zp_zp, zp_s, zp_self]; done), rfl, rfl⟩
  · skip
    refine z_iconst g dX4_player_10 zki_m1 ?_
    refine z_iret g r (by omega) (by omega) dX4_player_11 ?_
    exact ⟨by first | (simp [playerF, zp_zp, zp_s, zp_self, *]; done) | (simp_all [playerF, zp_zp, zp_s, zp_self]; done), rfl, rfl, by first | (simp [playerF, zp_zp, zp_s, zp_self, *]; done) | (simp_all [playerF, zp_zp, zp_s, zp_self]; done), rfl, rfl⟩

set_option maxHeartbeats 4000000 in
theorem c_X4_of {E : ZE} {n : Nat} {T : ZT} {I : ZI} {L : ZL} {R : ZR} {t : Nat} (hL : TL T R t) {np : Nat} (hN : I (t + 1) 6 = nI np) (hnp : np ≤ 5) {p w : Int32} : zM E yX4_of cX4_of 3 (some (Jvm.ClassFile.FieldType.int)) 2 0 0 [.ref t, .int p, .int w] n T I L R (zis (some (.int (ofF (I (t + 1)) p w))) n T I L R) := by
  refine zM.of (lv0 := [some (.ref t), some (.int p), some (.int w)]) pn_X4 (Nat.le_of_ble_eq_true rfl) rfl fun G g r hin hlt hbn => ?_
  have g : zGd E G cX4_of RX4 3 2 0 0 := g
  have hL0 := hL
  obtain ⟨hT, h1, ht1, h2, ht2, h3, ht3, h10, ht4, h11, ht5, ht6, ht7, h16, ht8, h17, ht9, h19, ht10⟩ := hL0
  refine z_al0 g dX4_of_0 ?_
  refine z_il1 g dX4_of_1 ?_
  refine z_callV1 g ck_X4_isPlayer q1438 q1440 qs50 cls4 (by assumption) (c_X4_isPlayer hL) rfl (Nat.le_of_ble_eq_true rfl) (by omega) (by omega) (by omega) dX4_of_2 (z_ans1 ?_)
  refine z_ifb_eq (tgt := 17) g dX4_of_5 (by decide) (fun c5 => ?_) (fun c5 => ?_)
  · skip
    refine z_iconst g dX4_of_17 zki_m1 ?_
    refine z_iret g r (by omega) (by omega) dX4_of_18 ?_
    exact ⟨by first | (simp [ofF, *]; done) | (unfold ofF; rw [if_neg (by rw [c5]; exact Bool.noConfusion), if_neg (by rw [c14]; exact Bool.noConfusion)]; simp [*]; done), rfl, rfl, rfl, rfl, rfl⟩
  · skip
    obtain ⟨pn, pn_lt, rfl⟩ := isPl_of c5 hN hnp
    have pnc : (nI pn).toNatClampNeg = pn := cl_nI (by omega)
    refine z_il2 g dX4_of_8 ?_
    refine z_iconst g dX4_of_9 zki_0 ?_
    refine z_iconst g dX4_of_10 zki_2 ?_
    refine z_callS3 g ck_X4_in q1319 q1320 c_X4_in rfl (Nat.le_of_ble_eq_true rfl) (by omega) (by omega) (by omega) dX4_of_11 (z_ans1 ?_)
    refine z_ifb_ne (tgt := 19) g dX4_of_14 (by decide) (fun c14 => ?_) (fun c14 => ?_)
    · skip
      obtain ⟨wn, wn_ge, wn_le, rfl⟩ := inB_of c14 (by decide) (by decide)
      have wnc : (nI wn).toNatClampNeg = wn := cl_nI (by omega)
      refine z_il2 g dX4_of_19 ?_
      refine z_iconst g dX4_of_20 zki_2 ?_
      refine z_icmp_ne (tgt := 35) g dX4_of_21 (by decide) (fun c21 => ?_) (fun c21 => ?_)
      · skip
        refine z_al0 g dX4_of_35 ?_
        refine zg4_1 g q1243 (Or.inl rfl) (by assumption) dX4_of_36 (by assumption) ?_
        refine z_bipush g dX4_of_39 zkb_12 ?_
        refine z_iconst g dX4_of_41 zki_5 ?_
        refine z_il2 g dX4_of_42 ?_
        first | with_reducible refine z_imulN g dX4_of_43 ?_ | refine z_imul g dX4_of_43 ?_
        first | with_reducible refine z_iaddN g dX4_of_44 ?_ | refine z_iadd g dX4_of_44 ?_
        refine z_il1 g dX4_of_45 ?_
        first | with_reducible refine z_iaddN g dX4_of_46 ?_ | refine z_iadd g dX4_of_46 ?_
        refine z_iald (k := 0) g rfl (by assumption) (by omega) (by omega) dX4_of_47 ?_
        refine z_iret g r (by omega) (by omega) dX4_of_48 ?_
        exact ⟨by first | (simp [ofF, *]; done) | (unfold ofF; rw [if_neg (by rw [c5]; exact Bool.noConfusion), if_neg (by rw [c14]; exact Bool.noConfusion)]; simp [*]; done), rfl, rfl, rfl, rfl, rfl⟩
      · skip
        refine z_al0 g dX4_of_24 ?_
        refine zg4_1 g q1243 (Or.inl rfl) (by assumption) dX4_of_25 (by assumption) ?_
        refine z_iconst g dX4_of_28 zki_1 ?_
        refine z_il1 g dX4_of_29 ?_
        first | with_reducible refine z_iaddN g dX4_of_30 ?_ | refine z_iadd g dX4_of_30 ?_
        refine z_iald (k := 0) g rfl (by assumption) (by omega) (by omega) dX4_of_31 ?_
        refine z_goto (tgt := 48) g dX4_of_32 (by decide) ?_
        refine z_iret g r (by omega) (by omega) dX4_of_48 ?_
        exact ⟨by first | (simp [ofF, *]; done) | (unfold ofF; rw [if_neg (by rw [c5]; exact Bool.noConfusion), if_neg (by rw [c14]; exact Bool.noConfusion)]; simp [*]; done), rfl, rfl, rfl, rfl, rfl⟩
    · skip
      refine z_iconst g dX4_of_17 zki_m1 ?_
      refine z_iret g r (by omega) (by omega) dX4_of_18 ?_
      exact ⟨by first | (simp [ofF, *]; done) | (unfold ofF; rw [if_neg (by rw [c5]; exact Bool.noConfusion), if_neg (by rw [c14]; exact Bool.noConfusion)]; simp [*]; done), rfl, rfl, rfl, rfl, rfl⟩

set_option maxHeartbeats 4000000 in
theorem c_X4_men {E : ZE} {n : Nat} {T : ZT} {I : ZI} {L : ZL} {R : ZR} {t : Nat} (hL : TL T R t) {np : Nat} (hN : I (t + 1) 6 = nI np) (hnp : np ≤ 5) {p m : Int32} : zM E yX4_men cX4_men 4 (some (Jvm.ClassFile.FieldType.int)) 2 0 0 [.ref t, .int p, .int m] n T I L R (zis (some (.int (menF (I (t + 1)) p m).1)) n T (zp I (t + 1) (menF (I (t + 1)) p m).2) L R) := by
  refine zM.of (lv0 := [some (.ref t), some (.int p), some (.int m), none]) pn_X4 (Nat.le_of_ble_eq_true rfl) rfl fun G g r hin hlt hbn => ?_
  have g : zGd E G cX4_men RX4 4 2 0 0 := g
  have hL0 := hL
  obtain ⟨hT, h1, ht1, h2, ht2, h3, ht3, h10, ht4, h11, ht5, ht6, ht7, h16, ht8, h17, ht9, h19, ht10⟩ := hL0
  refine z_al0 g dX4_men_0 ?_
  refine z_il1 g dX4_men_1 ?_
  refine z_callV1 g ck_X4_isPlayer q1438 q1440 qs50 cls4 (by assumption) (c_X4_isPlayer hL) rfl (Nat.le_of_ble_eq_true rfl) (by omega) (by omega) (by omega) dX4_men_2 (z_ans1 ?_)
  refine z_ifb_ne (tgt := 10) g dX4_men_5 (by decide) (fun c5 => ?_) (fun c5 => ?_)
  · skip
    obtain ⟨pn, pn_lt, rfl⟩ := isPl_of c5 hN hnp
    have pnc : (nI pn).toNatClampNeg = pn := cl_nI (by omega)
    refine z_il2 g dX4_men_10 ?_
    refine z_iconst g dX4_men_11 zki_1 ?_
    refine z_bipush g dX4_men_12 zkb_20 ?_
    refine z_callS3 g ck_X4_in q1319 q1320 c_X4_in rfl (Nat.le_of_ble_eq_true rfl) (by omega) (by omega) (by omega) dX4_men_14 (z_ans1 ?_)
    refine z_ifb_ne (tgt := 23) g dX4_men_17 (by decide) (fun c17 => ?_) (fun c17 => ?_)
    · skip
      refine z_al0 g dX4_men_23 ?_
      refine zg4_1 g q1243 (Or.inl rfl) (by assumption) dX4_men_24 (by assumption) ?_
      refine z_iconst g dX4_men_27 zki_1 ?_
      refine z_il1 g dX4_men_28 ?_
      first | with_reducible refine z_iaddN g dX4_men_29 ?_ | refine z_iadd g dX4_men_29 ?_
      refine z_iald (k := 0) g rfl (by assumption) (by omega) (by omega) dX4_men_30 ?_
      refine z_is3 g dX4_men_31 rfl ?_
      refine z_al0 g dX4_men_32 ?_
      refine zg4_1 g q1243 (Or.inl rfl) (by assumption) dX4_men_33 (by assumption) ?_
      refine z_iconst g dX4_men_36 zki_1 ?_
      refine z_il1 g dX4_men_37 ?_
      first | with_reducible refine z_iaddN g dX4_men_38 ?_ | refine z_iadd g dX4_men_38 ?_
      refine z_il2 g dX4_men_39 ?_
      refine z_iast (k := 0) g rfl (by decide) (by assumption) (by omega) (by omega) dX4_men_40 ?_
      refine z_il3 g dX4_men_41 ?_
      refine z_iret g r (by omega) (by omega) dX4_men_42 ?_
      exact ⟨by first | (simp [menF, zp_zp, zp_s, zp_self, *]; done) | (simp_all [menF, zp_zp, zp_s, zp_self]; done), rfl, rfl, by first | (simp [menF, zp_zp, zp_s, zp_self, *]; done) | (simp_all [menF, zp_zp, zp_s, zp_self]; done), rfl, rfl⟩
    · skip
      refine z_bipush g dX4_men_20 zkb_m2 ?_
      refine z_iret g r (by omega) (by omega) dX4_men_22 ?_
      exact ⟨by first | (simp [menF, zp_zp, zp_s, zp_self, *]; done) | (simp_all [menF, zp_zp, zp_s, zp_self]; done), rfl, rfl, by first | (simp [menF, zp_zp, zp_s, zp_self, *]; done) | (simp_all [menF, zp_zp, zp_s, zp_self]; done), rfl, rfl⟩
  · skip
    refine z_iconst g dX4_men_8 zki_m1 ?_
    refine z_iret g r (by omega) (by omega) dX4_men_9 ?_
    exact ⟨by first | (simp [menF, zp_zp, zp_s, zp_self, *]; done) | (simp_all [menF, zp_zp, zp_s, zp_self]; done), rfl, rfl, by first | (simp [menF, zp_zp, zp_s, zp_self, *]; done) | (simp_all [menF, zp_zp, zp_s, zp_self]; done), rfl, rfl⟩

set_option maxHeartbeats 4000000 in
theorem c_X4_row {E : ZE} {n : Nat} {T : ZT} {I : ZI} {L : ZL} {R : ZR} {t : Nat} (hL : TL T R t) {np : Nat} (hN : I (t + 1) 6 = nI np) (hnp : np ≤ 5) {p k m : Int32} : zM E yX4_row cX4_row 5 (some (Jvm.ClassFile.FieldType.int)) 2 0 0 [.ref t, .int p, .int k, .int m] n T I L R (zis (some (.int (rowF (I (t + 1)) p k m).1)) n T (zp I (t + 1) (rowF (I (t + 1)) p k m).2) L R) := by
  refine zM.of (lv0 := [some (.ref t), some (.int p), some (.int k), some (.int m), none]) pn_X4 (Nat.le_of_ble_eq_true rfl) rfl fun G g r hin hlt hbn => ?_
  have g : zGd E G cX4_row RX4 5 2 0 0 := g
  have hL0 := hL
  obtain ⟨hT, h1, ht1, h2, ht2, h3, ht3, h10, ht4, h11, ht5, ht6, ht7, h16, ht8, h17, ht9, h19, ht10⟩ := hL0
  refine z_al0 g dX4_row_0 ?_
  refine z_il1 g dX4_row_1 ?_
  refine z_callV1 g ck_X4_isPlayer q1438 q1440 qs50 cls4 (by assumption) (c_X4_isPlayer hL) rfl (Nat.le_of_ble_eq_true rfl) (by omega) (by omega) (by omega) dX4_row_2 (z_ans1 ?_)
  refine z_ifb_eq (tgt := 17) g dX4_row_5 (by decide) (fun c5 => ?_) (fun c5 => ?_)
  · skip
    refine z_iconst g dX4_row_17 zki_m1 ?_
    refine z_iret g r (by omega) (by omega) dX4_row_18 ?_
    exact ⟨by first | (simp [rowF, zp_zp, zp_s, zp_self, *]; done) | (simp_all [rowF, zp_zp, zp_s, zp_self]; done), rfl, rfl, by first | (simp [rowF, zp_zp, zp_s, zp_self, *]; done) | (simp_all [rowF, zp_zp, zp_s, zp_self]; done), rfl, rfl⟩
  · skip
    obtain ⟨pn, pn_lt, rfl⟩ := isPl_of c5 hN hnp
    have pnc : (nI pn).toNatClampNeg = pn := cl_nI (by omega)
    refine z_il2 g dX4_row_8 ?_
    refine z_iconst g dX4_row_9 zki_0 ?_
    refine z_iconst g dX4_row_10 zki_3 ?_
    refine z_callS3 g ck_X4_in q1319 q1320 c_X4_in rfl (Nat.le_of_ble_eq_true rfl) (by omega) (by omega) (by omega) dX4_row_11 (z_ans1 ?_)
    refine z_ifb_ne (tgt := 19) g dX4_row_14 (by decide) (fun c14 => ?_) (fun c14 => ?_)
    · skip
      obtain ⟨kn, kn_ge, kn_le, rfl⟩ := inB_of c14 (by decide) (by decide)
      have knc : (nI kn).toNatClampNeg = kn := cl_nI (by omega)
      refine z_il3 g dX4_row_19 ?_
      refine z_iconst g dX4_row_20 zki_0 ?_
      refine z_bipush g dX4_row_21 zkb_9 ?_
      refine z_callS3 g ck_X4_in q1319 q1320 c_X4_in rfl (Nat.le_of_ble_eq_true rfl) (by omega) (by omega) (by omega) dX4_row_23 (z_ans1 ?_)
      refine z_ifb_ne (tgt := 32) g dX4_row_26 (by decide) (fun c26 => ?_) (fun c26 => ?_)
      · skip
        refine z_al0 g dX4_row_32 ?_
        refine zg4_1 g q1243 (Or.inl rfl) (by assumption) dX4_row_33 (by assumption) ?_
        refine z_bipush g dX4_row_36 zkb_12 ?_
        refine z_il1 g dX4_row_38 ?_
        first | with_reducible refine z_iaddN g dX4_row_39 ?_ | refine z_iadd g dX4_row_39 ?_
        refine z_iald (k := 0) g rfl (by assumption) (by omega) (by omega) dX4_row_40 ?_
        refine z_bipush g dX4_row_41 zkb_6 ?_
        refine z_icmp_eq (tgt := 49) g dX4_row_43 (by decide) (fun c43 => ?_) (fun c43 => ?_)
        · skip
          refine z_al0 g dX4_row_49 ?_
          refine zg4_1 g q1243 (Or.inl rfl) (by assumption) dX4_row_50 (by assumption) ?_
          refine z_bipush g dX4_row_53 zkb_22 ?_
          refine z_iconst g dX4_row_55 zki_4 ?_
          refine z_il1 g dX4_row_56 ?_
          first | with_reducible refine z_imulN g dX4_row_57 ?_ | refine z_imul g dX4_row_57 ?_
          first | with_reducible refine z_iaddN g dX4_row_58 ?_ | refine z_iadd g dX4_row_58 ?_
          refine z_il2 g dX4_row_59 ?_
          first | with_reducible refine z_iaddN g dX4_row_60 ?_ | refine z_iadd g dX4_row_60 ?_
          refine z_iald (k := 0) g rfl (by assumption) (by omega) (by omega) dX4_row_61 ?_
          refine z_is4 g dX4_row_62 rfl ?_
          refine z_al0 g dX4_row_64 ?_
          refine zg4_1 g q1243 (Or.inl rfl) (by assumption) dX4_row_65 (by assumption) ?_
          refine z_bipush g dX4_row_68 zkb_22 ?_
          refine z_iconst g dX4_row_70 zki_4 ?_
          refine z_il1 g dX4_row_71 ?_
          first | with_reducible refine z_imulN g dX4_row_72 ?_ | refine z_imul g dX4_row_72 ?_
          first | with_reducible refine z_iaddN g dX4_row_73 ?_ | refine z_iadd g dX4_row_73 ?_
          refine z_il2 g dX4_row_74 ?_
          first | with_reducible refine z_iaddN g dX4_row_75 ?_ | refine z_iadd g dX4_row_75 ?_
          refine z_il3 g dX4_row_76 ?_
          refine z_iast (k := 0) g rfl (by decide) (by assumption) (by omega) (by omega) dX4_row_77 ?_
          refine z_il4 g dX4_row_78 ?_
          refine z_iret g r (by omega) (by omega) dX4_row_80 ?_
          exact ⟨by first | (simp [rowF, zp_zp, zp_s, zp_self, *]; done) | (simp_all [rowF, zp_zp, zp_s, zp_self]; done), rfl, rfl, by first | (simp [rowF, zp_zp, zp_s, zp_self, *]; done) | (simp_all [rowF, zp_zp, zp_s, zp_self]; done), rfl, rfl⟩
        · skip
          refine z_bipush g dX4_row_46 zkb_m3 ?_
          refine z_iret g r (by omega) (by omega) dX4_row_48 ?_
          exact ⟨by first | (simp [rowF, zp_zp, zp_s, zp_self, *]; done) | (simp_all [rowF, zp_zp, zp_s, zp_self]; done), rfl, rfl, by first | (simp [rowF, zp_zp, zp_s, zp_self, *]; done) | (simp_all [rowF, zp_zp, zp_s, zp_self]; done), rfl, rfl⟩
      · skip
        refine z_bipush g dX4_row_29 zkb_m2 ?_
        refine z_iret g r (by omega) (by omega) dX4_row_31 ?_
        exact ⟨by first | (simp [rowF, zp_zp, zp_s, zp_self, *]; done) | (simp_all [rowF, zp_zp, zp_s, zp_self]; done), rfl, rfl, by first | (simp [rowF, zp_zp, zp_s, zp_self, *]; done) | (simp_all [rowF, zp_zp, zp_s, zp_self]; done), rfl, rfl⟩
    · skip
      refine z_iconst g dX4_row_17 zki_m1 ?_
      refine z_iret g r (by omega) (by omega) dX4_row_18 ?_
      exact ⟨by first | (simp [rowF, zp_zp, zp_s, zp_self, *]; done) | (simp_all [rowF, zp_zp, zp_s, zp_self]; done), rfl, rfl, by first | (simp [rowF, zp_zp, zp_s, zp_self, *]; done) | (simp_all [rowF, zp_zp, zp_s, zp_self]; done), rfl, rfl⟩

set_option maxHeartbeats 4000000 in
theorem c_X4_told {E : ZE} {n : Nat} {T : ZT} {I : ZI} {L : ZL} {R : ZR} {t : Nat} (hL : TL T R t) (hH : holdOK (I (t + 1) 11)) {w : Int32} : zM E yX4_told cX4_told 2 (some (Jvm.ClassFile.FieldType.int)) 1 0 0 [.ref t, .int w] n T I L R (zis (some (.int (toldF (I (t + 1)) w))) n T I L R) := by
  refine zM.of (lv0 := [some (.ref t), some (.int w)]) pn_X4 (Nat.le_of_ble_eq_true rfl) rfl fun G g r hin hlt hbn => ?_
  have g : zGd E G cX4_told RX4 2 1 0 0 := g
  have hL0 := hL
  obtain ⟨hT, h1, ht1, h2, ht2, h3, ht3, h10, ht4, h11, ht5, ht6, ht7, h16, ht8, h17, ht9, h19, ht10⟩ := hL0
  refine z_il1 g dX4_told_0 ?_
  refine z_if_ne (tgt := 13) g dX4_told_1 (by decide) (fun c1 => ?_) (fun c1 => ?_)
  · skip
    refine z_il1 g dX4_told_13 ?_
    refine z_iconst g dX4_told_14 zki_1 ?_
    refine z_icmp_ne (tgt := 28) g dX4_told_15 (by decide) (fun c15 => ?_) (fun c15 => ?_)
    · skip
      refine z_il1 g dX4_told_28 ?_
      refine z_iconst g dX4_told_29 zki_2 ?_
      refine z_icmp_ne (tgt := 43) g dX4_told_30 (by decide) (fun c30 => ?_) (fun c30 => ?_)
      · skip
        refine z_iconst g dX4_told_43 zki_m1 ?_
        refine z_iret g r (by omega) (by omega) dX4_told_44 ?_
        exact ⟨by first | (simp [toldF, *]; done) | (simp_all [toldF, nI_L]; done), rfl, rfl, rfl, rfl, rfl⟩
      · skip
        refine z_al0 g dX4_told_33 ?_
        refine z_sipush g dX4_told_34 zks_179 ?_
        refine z_callV1 g ck_X4_tellsOf q1454 q1456 qs51 cls4 (by assumption) (c_X4_tellsOf hL (by omega) hH) rfl (Nat.le_of_ble_eq_true rfl) (by omega) (by omega) (by omega) dX4_told_37 (z_ans1 ?_)
        refine z_goto (tgt := 44) g dX4_told_40 (by decide) ?_
        refine z_iret g r (by omega) (by omega) dX4_told_44 ?_
        exact ⟨by first | (simp [toldF, *]; done) | (simp_all [toldF, nI_L]; done), rfl, rfl, rfl, rfl, rfl⟩
    · skip
      refine z_al0 g dX4_told_18 ?_
      refine z_sipush g dX4_told_19 zks_174 ?_
      refine z_callV1 g ck_X4_tellsOf q1454 q1456 qs51 cls4 (by assumption) (c_X4_tellsOf hL (by omega) hH) rfl (Nat.le_of_ble_eq_true rfl) (by omega) (by omega) (by omega) dX4_told_22 (z_ans1 ?_)
      refine z_goto (tgt := 44) g dX4_told_25 (by decide) ?_
      refine z_iret g r (by omega) (by omega) dX4_told_44 ?_
      exact ⟨by first | (simp [toldF, *]; done) | (simp_all [toldF, nI_L]; done), rfl, rfl, rfl, rfl, rfl⟩
  · skip
    refine z_al0 g dX4_told_4 ?_
    refine zg4_1 g q1243 (Or.inl rfl) (by assumption) dX4_told_5 (by assumption) ?_
    refine z_iconst g dX4_told_8 zki_0 ?_
    refine z_iald (k := 0) g rfl (by assumption) (by omega) (by omega) dX4_told_9 ?_
    refine z_goto (tgt := 44) g dX4_told_10 (by decide) ?_
    refine z_iret g r (by omega) (by omega) dX4_told_44 ?_
    exact ⟨by first | (simp [toldF, *]; done) | (simp_all [toldF, nI_L]; done), rfl, rfl, rfl, rfl, rfl⟩

set_option maxHeartbeats 4000000 in
theorem c_X4_play {E : ZE} {n : Nat} {T : ZT} {I : ZI} {L : ZL} {R : ZR} {t : Nat} (hL : TL T R t) {np : Nat} (hN : I (t + 1) 6 = nI np) (hnp : np ≤ 5) (hH : holdOK (I (t + 1) 11)) {p q : Int32} {won : Bool} : zM E yX4_play cX4_play 4 (some (Jvm.ClassFile.FieldType.int)) 3 0 0 [.ref t, .int p, .int q, .int (zb won)] n T I L R (zis (some (.int (playF (I (t + 1)) p q won).1)) n T (zp I (t + 1) (playF (I (t + 1)) p q won).2) L R) := by
  refine zM.of (lv0 := [some (.ref t), some (.int p), some (.int q), some (.int (zb won))]) pn_X4 (Nat.le_of_ble_eq_true rfl) rfl fun G g r hin hlt hbn => ?_
  have g : zGd E G cX4_play RX4 4 3 0 0 := g
  have hL0 := hL
  obtain ⟨hT, h1, ht1, h2, ht2, h3, ht3, h10, ht4, h11, ht5, ht6, ht7, h16, ht8, h17, ht9, h19, ht10⟩ := hL0
  refine z_al0 g dX4_play_0 ?_
  refine z_il1 g dX4_play_1 ?_
  refine z_callV1 g ck_X4_isPlayer q1438 q1440 qs50 cls4 (by assumption) (c_X4_isPlayer hL) rfl (Nat.le_of_ble_eq_true rfl) (by omega) (by omega) (by omega) dX4_play_2 (z_ans1 ?_)
  refine z_ifb_eq (tgt := 16) g dX4_play_5 (by decide) (fun c5 => ?_) (fun c5 => ?_)
  · skip
    refine z_iconst g dX4_play_16 zki_m1 ?_
    refine z_iret g r (by omega) (by omega) dX4_play_17 ?_
    exact ⟨by first | (simp [playF, zp_zp, zp_s, zp_self, *]; done) | (simp_all [playF, zp_zp, zp_s, zp_self]; done), rfl, rfl, by first | (simp [playF, zp_zp, zp_s, zp_self, *]; done) | (simp_all [playF, zp_zp, zp_s, zp_self]; done), rfl, rfl⟩
  · skip
    obtain ⟨pn, pn_lt, rfl⟩ := isPl_of c5 hN hnp
    have pnc : (nI pn).toNatClampNeg = pn := cl_nI (by omega)
    refine z_al0 g dX4_play_8 ?_
    refine z_il2 g dX4_play_9 ?_
    refine z_callV1 g ck_X4_isPlayer q1438 q1440 qs50 cls4 (by assumption) (c_X4_isPlayer hL) rfl (Nat.le_of_ble_eq_true rfl) (by omega) (by omega) (by omega) dX4_play_10 (z_ans1 ?_)
    refine z_ifb_ne (tgt := 18) g dX4_play_13 (by decide) (fun c13 => ?_) (fun c13 => ?_)
    · skip
      obtain ⟨qn, qn_lt, rfl⟩ := isPl_of c13 hN hnp
      have qnc : (nI qn).toNatClampNeg = qn := cl_nI (by omega)
      refine z_il1 g dX4_play_18 ?_
      refine z_il2 g dX4_play_19 ?_
      refine z_icmp_ne (tgt := 26) g dX4_play_20 (by decide) (fun c20 => ?_) (fun c20 => ?_)
      · skip
        refine z_al0 g dX4_play_26 ?_
        refine zg4_1 g q1243 (Or.inl rfl) (by assumption) dX4_play_27 (by assumption) ?_
        refine z_iconst g dX4_play_30 zki_0 ?_
        refine z_iald (k := 0) g rfl (by assumption) (by omega) (by omega) dX4_play_31 ?_
        refine z_sipush g dX4_play_32 zks_9999 ?_
        refine z_icmp_ne (tgt := 41) g dX4_play_35 (by decide) (fun c35 => ?_) (fun c35 => ?_)
        · skip
          refine z_al0 g dX4_play_41 ?_
          refine z_il3 g dX4_play_42 ?_
          refine z_ifb_eq (tgt := 50) g dX4_play_43 (by decide) (fun c43 => ?_) (fun c43 => ?_)
          · skip
            refine z_il2 g dX4_play_50 ?_
            refine z_il3 g dX4_play_51 ?_
            refine z_ifb_eq (tgt := 59) g dX4_play_52 (by decide) (fun c52 => ?_) (fun c52 => ?_)
            · skip
              refine z_il1 g dX4_play_59 ?_
              refine z_callV2 g ck_X4_plays q1482 q1484 qs55 cls4 (by assumption) (c_X4_plays hL hH (by omega) (by omega)) rfl (Nat.le_of_ble_eq_true rfl) (by omega) (by omega) (by omega) dX4_play_60 (z_ans0 ?_)
              refine z_al0 g dX4_play_63 ?_
              refine zg4_1 g q1243 (Or.inl rfl) (by assumption) dX4_play_64 (by assumption) ?_
              refine z_iconst g dX4_play_67 zki_1 ?_
              refine z_il1 g dX4_play_68 ?_
              first | with_reducible refine z_iaddN g dX4_play_69 ?_ | refine z_iadd g dX4_play_69 ?_
              refine z_iald (k := 0) g rfl (by assumption) (by omega) (by omega) dX4_play_70 ?_
              refine z_iret g r (by omega) (by omega) dX4_play_71 ?_
              exact ⟨by first | (simp [playF, zp_zp, zp_s, zp_self, *]; done) | (simp_all [playF, zp_zp, zp_s, zp_self]; done), rfl, rfl, by first | (simp [playF, zp_zp, zp_s, zp_self, *]; done) | (simp_all [playF, zp_zp, zp_s, zp_self]; done), rfl, rfl⟩
            · skip
              refine z_il2 g dX4_play_55 ?_
              refine z_goto (tgt := 60) g dX4_play_56 (by decide) ?_
              refine z_callV2 g ck_X4_plays q1482 q1484 qs55 cls4 (by assumption) (c_X4_plays hL hH (by omega) (by omega)) rfl (Nat.le_of_ble_eq_true rfl) (by omega) (by omega) (by omega) dX4_play_60 (z_ans0 ?_)
              refine z_al0 g dX4_play_63 ?_
              refine zg4_1 g q1243 (Or.inl rfl) (by assumption) dX4_play_64 (by assumption) ?_
              refine z_iconst g dX4_play_67 zki_1 ?_
              refine z_il1 g dX4_play_68 ?_
              first | with_reducible refine z_iaddN g dX4_play_69 ?_ | refine z_iadd g dX4_play_69 ?_
              refine z_iald (k := 0) g rfl (by assumption) (by omega) (by omega) dX4_play_70 ?_
              refine z_iret g r (by omega) (by omega) dX4_play_71 ?_
              exact ⟨by first | (simp [playF, zp_zp, zp_s, zp_self, *]; done) | (simp_all [playF, zp_zp, zp_s, zp_self]; done), rfl, rfl, by first | (simp [playF, zp_zp, zp_s, zp_self, *]; done) | (simp_all [playF, zp_zp, zp_s, zp_self]; done), rfl, rfl⟩
          · skip
            refine z_il1 g dX4_play_46 ?_
            refine z_goto (tgt := 51) g dX4_play_47 (by decide) ?_
            refine z_il3 g dX4_play_51 ?_
            refine z_ifb_eq (tgt := 59) g dX4_play_52 (by decide) (fun c52 => ?_) (fun c52 => ?_)
            · skip
              refine z_il1 g dX4_play_59 ?_
              refine z_callV2 g ck_X4_plays q1482 q1484 qs55 cls4 (by assumption) (c_X4_plays hL hH (by omega) (by omega)) rfl (Nat.le_of_ble_eq_true rfl) (by omega) (by omega) (by omega) dX4_play_60 (z_ans0 ?_)
              refine z_al0 g dX4_play_63 ?_
              refine zg4_1 g q1243 (Or.inl rfl) (by assumption) dX4_play_64 (by assumption) ?_
              refine z_iconst g dX4_play_67 zki_1 ?_
              refine z_il1 g dX4_play_68 ?_
              first | with_reducible refine z_iaddN g dX4_play_69 ?_ | refine z_iadd g dX4_play_69 ?_
              refine z_iald (k := 0) g rfl (by assumption) (by omega) (by omega) dX4_play_70 ?_
              refine z_iret g r (by omega) (by omega) dX4_play_71 ?_
              exact ⟨by first | (simp [playF, zp_zp, zp_s, zp_self, *]; done) | (simp_all [playF, zp_zp, zp_s, zp_self]; done), rfl, rfl, by first | (simp [playF, zp_zp, zp_s, zp_self, *]; done) | (simp_all [playF, zp_zp, zp_s, zp_self]; done), rfl, rfl⟩
            · skip
              refine z_il2 g dX4_play_55 ?_
              refine z_goto (tgt := 60) g dX4_play_56 (by decide) ?_
              refine z_callV2 g ck_X4_plays q1482 q1484 qs55 cls4 (by assumption) (c_X4_plays hL hH (by omega) (by omega)) rfl (Nat.le_of_ble_eq_true rfl) (by omega) (by omega) (by omega) dX4_play_60 (z_ans0 ?_)
              refine z_al0 g dX4_play_63 ?_
              refine zg4_1 g q1243 (Or.inl rfl) (by assumption) dX4_play_64 (by assumption) ?_
              refine z_iconst g dX4_play_67 zki_1 ?_
              refine z_il1 g dX4_play_68 ?_
              first | with_reducible refine z_iaddN g dX4_play_69 ?_ | refine z_iadd g dX4_play_69 ?_
              refine z_iald (k := 0) g rfl (by assumption) (by omega) (by omega) dX4_play_70 ?_
              refine z_iret g r (by omega) (by omega) dX4_play_71 ?_
              exact ⟨by first | (simp [playF, zp_zp, zp_s, zp_self, *]; done) | (simp_all [playF, zp_zp, zp_s, zp_self]; done), rfl, rfl, by first | (simp [playF, zp_zp, zp_s, zp_self, *]; done) | (simp_all [playF, zp_zp, zp_s, zp_self]; done), rfl, rfl⟩
        · skip
          refine z_bipush g dX4_play_38 zkb_m3 ?_
          refine z_iret g r (by omega) (by omega) dX4_play_40 ?_
          exact ⟨by first | (simp [playF, zp_zp, zp_s, zp_self, *]; done) | (simp_all [playF, zp_zp, zp_s, zp_self]; done), rfl, rfl, by first | (simp [playF, zp_zp, zp_s, zp_self, *]; done) | (simp_all [playF, zp_zp, zp_s, zp_self]; done), rfl, rfl⟩
      · skip
        refine z_bipush g dX4_play_23 zkb_m2 ?_
        refine z_iret g r (by omega) (by omega) dX4_play_25 ?_
        exact ⟨by first | (simp [playF, zp_zp, zp_s, zp_self, *]; done) | (simp_all [playF, zp_zp, zp_s, zp_self]; done), rfl, rfl, by first | (simp [playF, zp_zp, zp_s, zp_self, *]; done) | (simp_all [playF, zp_zp, zp_s, zp_self]; done), rfl, rfl⟩
    · skip
      refine z_iconst g dX4_play_16 zki_m1 ?_
      refine z_iret g r (by omega) (by omega) dX4_play_17 ?_
      exact ⟨by first | (simp [playF, zp_zp, zp_s, zp_self, *]; done) | (simp_all [playF, zp_zp, zp_s, zp_self]; done), rfl, rfl, by first | (simp [playF, zp_zp, zp_s, zp_self, *]; done) | (simp_all [playF, zp_zp, zp_s, zp_self]; done), rfl, rfl⟩

set_option maxHeartbeats 4000000 in
theorem c_X4_book {E : ZE} {n : Nat} {T : ZT} {I : ZI} {L : ZL} {R : ZR} {t : Nat} (hL : TL T R t) {np : Nat} (hN : I (t + 1) 6 = nI np) (hnp : np ≤ 5) {p q : Int32} {won : Bool} {k : Nat} (hk : I (t + 1) 8 = nI k) (hk8 : k ≤ 8) : zM E yX4_book cX4_book 4 (some (Jvm.ClassFile.FieldType.int)) 2 0 0 [.ref t, .int p, .int q, .int (zb won)] n T I L R (zis (some (.int (bookF (I (t + 1)) p q won).1)) n T (zp I (t + 1) (bookF (I (t + 1)) p q won).2) L R) := by
  refine zM.of (lv0 := [some (.ref t), some (.int p), some (.int q), some (.int (zb won))]) pn_X4 (Nat.le_of_ble_eq_true rfl) rfl fun G g r hin hlt hbn => ?_
  have g : zGd E G cX4_book RX4 4 2 0 0 := g
  have hL0 := hL
  obtain ⟨hT, h1, ht1, h2, ht2, h3, ht3, h10, ht4, h11, ht5, ht6, ht7, h16, ht8, h17, ht9, h19, ht10⟩ := hL0
  refine z_il1 g dX4_book_0 ?_
  refine z_iconst g dX4_book_1 zki_m1 ?_
  refine z_icmp_ne (tgt := 15) g dX4_book_2 (by decide) (fun c2 => ?_) (fun c2 => ?_)
  · skip
    refine z_al0 g dX4_book_15 ?_
    refine z_il1 g dX4_book_16 ?_
    refine z_callV1 g ck_X4_isPlayer q1438 q1440 qs50 cls4 (by assumption) (c_X4_isPlayer hL) rfl (Nat.le_of_ble_eq_true rfl) (by omega) (by omega) (by omega) dX4_book_17 (z_ans1 ?_)
    refine z_ifb_eq (tgt := 31) g dX4_book_20 (by decide) (fun c20 => ?_) (fun c20 => ?_)
    · skip
      refine z_iconst g dX4_book_31 zki_m1 ?_
      refine z_iret g r (by omega) (by omega) dX4_book_32 ?_
      exact ⟨by first | (simp [bookF, zp_zp, zp_s, zp_self, *, zb]; done) | (simp_all [bookF, zp_zp, zp_s, zp_self, zb]; done), rfl, rfl, by first | (simp [bookF, zp_zp, zp_s, zp_self, *, zb]; done) | (simp_all [bookF, zp_zp, zp_s, zp_self, zb]; done), rfl, rfl⟩
    · skip
      refine z_al0 g dX4_book_23 ?_
      refine z_il2 g dX4_book_24 ?_
      refine z_callV1 g ck_X4_isPlayer q1438 q1440 qs50 cls4 (by assumption) (c_X4_isPlayer hL) rfl (Nat.le_of_ble_eq_true rfl) (by omega) (by omega) (by omega) dX4_book_25 (z_ans1 ?_)
      refine z_ifb_ne (tgt := 33) g dX4_book_28 (by decide) (fun c28 => ?_) (fun c28 => ?_)
      · skip
        refine z_il1 g dX4_book_33 ?_
        refine z_il2 g dX4_book_34 ?_
        refine z_icmp_ne (tgt := 41) g dX4_book_35 (by decide) (fun c35 => ?_) (fun c35 => ?_)
        · skip
          refine z_al0 g dX4_book_41 ?_
          refine zg4_1 g q1243 (Or.inl rfl) (by assumption) dX4_book_42 (by assumption) ?_
          refine z_bipush g dX4_book_45 zkb_8 ?_
          refine z_iald (k := 0) g rfl (by assumption) (by omega) (by omega) dX4_book_47 ?_
          refine z_bipush g dX4_book_48 zkb_8 ?_
          refine z_icmp_ne (tgt := 56) g dX4_book_50 (by decide) (fun c50 => ?_) (fun c50 => ?_)
          · skip
            have hk1 : k < 8 := by
              rcases Nat.lt_or_ge k 8 with q | q
              · exact q
              · exact absurd (by rw [hk, show k = 8 by omega]) c50
            have hkc : (nI k).toNatClampNeg = k := cl_nI (by omega)
            rw [hk] at c50
            refine z_al0 g dX4_book_56 ?_
            refine zg4_1 g q1243 (Or.inl rfl) (by assumption) dX4_book_57 (by assumption) ?_
            refine z_bipush g dX4_book_60 zkb_42 ?_
            refine z_al0 g dX4_book_62 ?_
            refine zg4_1 g q1243 (Or.inl rfl) (by assumption) dX4_book_63 (by assumption) ?_
            refine z_bipush g dX4_book_66 zkb_8 ?_
            refine z_iald (k := 0) g rfl (by assumption) (by omega) (by omega) dX4_book_68 ?_
            refine z_top hk ?_
            first | with_reducible refine z_iaddN g dX4_book_69 ?_ | refine z_iadd g dX4_book_69 ?_
            refine z_il1 g dX4_book_70 ?_
            refine z_iast (k := 0) g rfl (by decide) (by assumption) (by omega) (by omega) dX4_book_71 ?_
            refine z_al0 g dX4_book_72 ?_
            refine zg4_1 g q1243 (Or.inl rfl) (by assumption) dX4_book_73 (by assumption) ?_
            refine z_bipush g dX4_book_76 zkb_50 ?_
            refine z_al0 g dX4_book_78 ?_
            refine zg4_1 g q1243 (Or.inl rfl) (by assumption) dX4_book_79 (by assumption) ?_
            refine z_bipush g dX4_book_82 zkb_8 ?_
            refine z_iald (k := 0) g rfl (by assumption) (by omega) (by omega) dX4_book_84 ?_
            refine z_top (show _ = nI k by rw [zp_s, zp_n (by omega)]; exact hk) ?_
            first | with_reducible refine z_iaddN g dX4_book_85 ?_ | refine z_iadd g dX4_book_85 ?_
            refine z_il2 g dX4_book_86 ?_
            refine z_iast (k := 0) g rfl (by decide) (by assumption) (by omega) (by omega) dX4_book_87 ?_
            refine z_al0 g dX4_book_88 ?_
            refine zg4_1 g q1243 (Or.inl rfl) (by assumption) dX4_book_89 (by assumption) ?_
            refine z_bipush g dX4_book_92 zkb_58 ?_
            refine z_al0 g dX4_book_94 ?_
            refine zg4_1 g q1243 (Or.inl rfl) (by assumption) dX4_book_95 (by assumption) ?_
            refine z_bipush g dX4_book_98 zkb_8 ?_
            refine z_iald (k := 0) g rfl (by assumption) (by omega) (by omega) dX4_book_100 ?_
            refine z_top (show _ = nI k by rw [zp_s, zp_n (by omega), zp_s, zp_n (by omega)]; exact hk) ?_
            first | with_reducible refine z_iaddN g dX4_book_101 ?_ | refine z_iadd g dX4_book_101 ?_
            refine z_il3 g dX4_book_102 ?_
            refine z_ifb_eq (tgt := 110) g dX4_book_103 (by decide) (fun c103 => ?_) (fun c103 => ?_)
            · skip
              refine z_iconst g dX4_book_110 zki_0 ?_
              refine z_iast (k := 0) g rfl (by decide) (by assumption) (by omega) (by omega) dX4_book_111 ?_
              refine z_al0 g dX4_book_112 ?_
              refine zg4_1 g q1243 (Or.inl rfl) (by assumption) dX4_book_113 (by assumption) ?_
              refine z_bipush g dX4_book_116 zkb_8 ?_
              refine z_dup2 g dX4_book_118 rfl rfl ?_
              refine z_iald (k := 0) g rfl (by assumption) (by omega) (by omega) dX4_book_119 ?_
              refine z_iconst g dX4_book_120 zki_1 ?_
              first | with_reducible refine z_iaddN g dX4_book_121 ?_ | refine z_iadd g dX4_book_121 ?_
              refine z_iast (k := 0) g rfl (by decide) (by assumption) (by omega) (by omega) dX4_book_122 ?_
              refine z_al0 g dX4_book_123 ?_
              refine zg4_1 g q1243 (Or.inl rfl) (by assumption) dX4_book_124 (by assumption) ?_
              refine z_bipush g dX4_book_127 zkb_8 ?_
              refine z_iald (k := 0) g rfl (by assumption) (by omega) (by omega) dX4_book_129 ?_
              refine z_iret g r (by omega) (by omega) dX4_book_130 ?_
              exact ⟨by first | (simp [bookF, zp_zp, zp_s, zp_self, *, zb]; done) | (simp_all [bookF, zp_zp, zp_s, zp_self, zb]; done), rfl, rfl, by first | (simp [bookF, zp_zp, zp_s, zp_self, *, zb]; done) | (simp_all [bookF, zp_zp, zp_s, zp_self, zb]; done), rfl, rfl⟩
            · skip
              refine z_iconst g dX4_book_106 zki_1 ?_
              refine z_goto (tgt := 111) g dX4_book_107 (by decide) ?_
              refine z_iast (k := 0) g rfl (by decide) (by assumption) (by omega) (by omega) dX4_book_111 ?_
              refine z_al0 g dX4_book_112 ?_
              refine zg4_1 g q1243 (Or.inl rfl) (by assumption) dX4_book_113 (by assumption) ?_
              refine z_bipush g dX4_book_116 zkb_8 ?_
              refine z_dup2 g dX4_book_118 rfl rfl ?_
              refine z_iald (k := 0) g rfl (by assumption) (by omega) (by omega) dX4_book_119 ?_
              refine z_iconst g dX4_book_120 zki_1 ?_
              first | with_reducible refine z_iaddN g dX4_book_121 ?_ | refine z_iadd g dX4_book_121 ?_
              refine z_iast (k := 0) g rfl (by decide) (by assumption) (by omega) (by omega) dX4_book_122 ?_
              refine z_al0 g dX4_book_123 ?_
              refine zg4_1 g q1243 (Or.inl rfl) (by assumption) dX4_book_124 (by assumption) ?_
              refine z_bipush g dX4_book_127 zkb_8 ?_
              refine z_iald (k := 0) g rfl (by assumption) (by omega) (by omega) dX4_book_129 ?_
              refine z_iret g r (by omega) (by omega) dX4_book_130 ?_
              exact ⟨by first | (simp [bookF, zp_zp, zp_s, zp_self, *, zb]; done) | (simp_all [bookF, zp_zp, zp_s, zp_self, zb]; done), rfl, rfl, by first | (simp [bookF, zp_zp, zp_s, zp_self, *, zb]; done) | (simp_all [bookF, zp_zp, zp_s, zp_self, zb]; done), rfl, rfl⟩
          · skip
            rw [hk] at c50
            refine z_bipush g dX4_book_53 zkb_m4 ?_
            refine z_iret g r (by omega) (by omega) dX4_book_55 ?_
            exact ⟨by first | (simp [bookF, zp_zp, zp_s, zp_self, *, zb]; done) | (simp_all [bookF, zp_zp, zp_s, zp_self, zb]; done), rfl, rfl, by first | (simp [bookF, zp_zp, zp_s, zp_self, *, zb]; done) | (simp_all [bookF, zp_zp, zp_s, zp_self, zb]; done), rfl, rfl⟩
        · skip
          refine z_bipush g dX4_book_38 zkb_m2 ?_
          refine z_iret g r (by omega) (by omega) dX4_book_40 ?_
          exact ⟨by first | (simp [bookF, zp_zp, zp_s, zp_self, *, zb]; done) | (simp_all [bookF, zp_zp, zp_s, zp_self, zb]; done), rfl, rfl, by first | (simp [bookF, zp_zp, zp_s, zp_self, *, zb]; done) | (simp_all [bookF, zp_zp, zp_s, zp_self, zb]; done), rfl, rfl⟩
      · skip
        refine z_iconst g dX4_book_31 zki_m1 ?_
        refine z_iret g r (by omega) (by omega) dX4_book_32 ?_
        exact ⟨by first | (simp [bookF, zp_zp, zp_s, zp_self, *, zb]; done) | (simp_all [bookF, zp_zp, zp_s, zp_self, zb]; done), rfl, rfl, by first | (simp [bookF, zp_zp, zp_s, zp_self, *, zb]; done) | (simp_all [bookF, zp_zp, zp_s, zp_self, zb]; done), rfl, rfl⟩
  · skip
    refine z_al0 g dX4_book_5 ?_
    refine zg4_1 g q1243 (Or.inl rfl) (by assumption) dX4_book_6 (by assumption) ?_
    refine z_bipush g dX4_book_9 zkb_8 ?_
    refine z_iconst g dX4_book_11 zki_0 ?_
    refine z_iast (k := 0) g rfl (by decide) (by assumption) (by omega) (by omega) dX4_book_12 ?_
    refine z_iconst g dX4_book_13 zki_0 ?_
    refine z_iret g r (by omega) (by omega) dX4_book_14 ?_
    exact ⟨by first | (simp [bookF, zp_zp, zp_s, zp_self, *, zb]; done) | (simp_all [bookF, zp_zp, zp_s, zp_self, zb]; done), rfl, rfl, by first | (simp [bookF, zp_zp, zp_s, zp_self, *, zb]; done) | (simp_all [bookF, zp_zp, zp_s, zp_self, zb]; done), rfl, rfl⟩

set_option maxHeartbeats 4000000 in
theorem c_X4_booksGame {E : ZE} {n : Nat} {T : ZT} {I : ZI} {L : ZL} {R : ZR} {t : Nat} (hL : TL T R t) (hH : holdOK (I (t + 1) 11)) {k pn qn : Nat} (hk : k < 8) (hp : I (t + 1) (42 + k) = nI pn) (hq : I (t + 1) (50 + k) = nI qn) (hp5 : pn < 5) (hq5 : qn < 5) : zM E yX4_booksGame cX4_booksGame 5 none 3 0 0 [.ref t, .int (nI k)] n T I L R (zis (none) n T (zp I (t + 1) (bgameF (I (t + 1)) k)) L R) := by
  refine zM.of (lv0 := [some (.ref t), some (.int (nI k)), none, none, none]) pn_X4 (Nat.le_of_ble_eq_true rfl) rfl fun G g r hin hlt hbn => ?_
  have g : zGd E G cX4_booksGame RX4 5 3 0 0 := g
  have hL0 := hL
  obtain ⟨hT, h1, ht1, h2, ht2, h3, ht3, h10, ht4, h11, ht5, ht6, ht7, h16, ht8, h17, ht9, h19, ht10⟩ := hL0
  have pnc : (nI pn).toNatClampNeg = pn := cl_nI (by omega)
  have qnc : (nI qn).toNatClampNeg = qn := cl_nI (by omega)
  refine z_al0 g dX4_booksGame_0 ?_
  refine zg4_1 g q1243 (Or.inl rfl) (by assumption) dX4_booksGame_1 (by assumption) ?_
  refine z_bipush g dX4_booksGame_4 zkb_42 ?_
  refine z_il1 g dX4_booksGame_6 ?_
  first | with_reducible refine z_iaddN g dX4_booksGame_7 ?_ | refine z_iadd g dX4_booksGame_7 ?_
  refine z_iald (k := 0) g rfl (by assumption) (by omega) (by omega) dX4_booksGame_8 ?_
  refine z_top hp ?_
  refine z_is2 g dX4_booksGame_9 rfl ?_
  refine z_al0 g dX4_booksGame_10 ?_
  refine zg4_1 g q1243 (Or.inl rfl) (by assumption) dX4_booksGame_11 (by assumption) ?_
  refine z_bipush g dX4_booksGame_14 zkb_50 ?_
  refine z_il1 g dX4_booksGame_16 ?_
  first | with_reducible refine z_iaddN g dX4_booksGame_17 ?_ | refine z_iadd g dX4_booksGame_17 ?_
  refine z_iald (k := 0) g rfl (by assumption) (by omega) (by omega) dX4_booksGame_18 ?_
  refine z_top hq ?_
  refine z_is3 g dX4_booksGame_19 rfl ?_
  refine z_al0 g dX4_booksGame_20 ?_
  refine zg4_1 g q1243 (Or.inl rfl) (by assumption) dX4_booksGame_21 (by assumption) ?_
  refine z_bipush g dX4_booksGame_24 zkb_58 ?_
  refine z_il1 g dX4_booksGame_26 ?_
  first | with_reducible refine z_iaddN g dX4_booksGame_27 ?_ | refine z_iadd g dX4_booksGame_27 ?_
  refine z_iald (k := 0) g rfl (by assumption) (by omega) (by omega) dX4_booksGame_28 ?_
  refine z_iconst g dX4_booksGame_29 zki_1 ?_
  refine z_icmp_ne (tgt := 37) g dX4_booksGame_30 (by decide) (fun c30 => ?_) (fun c30 => ?_)
  · skip
    refine z_iconst g dX4_booksGame_37 zki_0 ?_
    refine z_is4 g dX4_booksGame_38 rfl ?_
    refine z_al0 g dX4_booksGame_40 ?_
    refine z_il4 g dX4_booksGame_41 ?_
    refine z_if_eq_t (tgt := 50) g dX4_booksGame_43 (by decide) (by decide +kernel) ?_
    refine z_il3 g dX4_booksGame_50 ?_
    refine z_il4 g dX4_booksGame_51 ?_
    refine z_if_eq_t (tgt := 60) g dX4_booksGame_53 (by decide) (by decide +kernel) ?_
    refine z_il2 g dX4_booksGame_60 ?_
    refine z_callV2 g ck_X4_plays q1482 q1484 qs55 cls4 (by assumption) (c_X4_plays hL hH (by omega) (by omega)) rfl (Nat.le_of_ble_eq_true rfl) (by omega) (by omega) (by omega) dX4_booksGame_61 (z_ans0 ?_)
    refine z_vret g r (by omega) (by omega) dX4_booksGame_64 ?_
    exact ⟨rfl, rfl, rfl, by simp [bgameF, *], rfl, rfl⟩
  · skip
    refine z_iconst g dX4_booksGame_33 zki_1 ?_
    refine z_goto (tgt := 38) g dX4_booksGame_34 (by decide) ?_
    refine z_is4 g dX4_booksGame_38 rfl ?_
    refine z_al0 g dX4_booksGame_40 ?_
    refine z_il4 g dX4_booksGame_41 ?_
    refine z_if_eq_f (tgt := 50) g dX4_booksGame_43 (by decide) (by decide +kernel) ?_
    refine z_il2 g dX4_booksGame_46 ?_
    refine z_goto (tgt := 51) g dX4_booksGame_47 (by decide) ?_
    refine z_il4 g dX4_booksGame_51 ?_
    refine z_if_eq_f (tgt := 60) g dX4_booksGame_53 (by decide) (by decide +kernel) ?_
    refine z_il3 g dX4_booksGame_56 ?_
    refine z_goto (tgt := 61) g dX4_booksGame_57 (by decide) ?_
    refine z_callV2 g ck_X4_plays q1482 q1484 qs55 cls4 (by assumption) (c_X4_plays hL hH (by omega) (by omega)) rfl (Nat.le_of_ble_eq_true rfl) (by omega) (by omega) (by omega) dX4_booksGame_61 (z_ans0 ?_)
    refine z_vret g r (by omega) (by omega) dX4_booksGame_64 ?_
    exact ⟨rfl, rfl, rfl, by simp [bgameF, *], rfl, rfl⟩

set_option maxHeartbeats 4000000 in
theorem c_X4_tale {E : ZE} {n : Nat} {T : ZT} {I : ZI} {L : ZL} {R : ZR} {t : Nat} (hL : TL T R t) {m : Int32} {k : Nat} (hk : I (t + 1) 9 = nI k) (hk8 : k ≤ 8) : zM E yX4_tale cX4_tale 2 (some (Jvm.ClassFile.FieldType.int)) 1 0 0 [.ref t, .int m] n T I L R (zis (some (.int (taleF (I (t + 1)) m).1)) n T (zp I (t + 1) (taleF (I (t + 1)) m).2) L R) := by
  refine zM.of (lv0 := [some (.ref t), some (.int m)]) pn_X4 (Nat.le_of_ble_eq_true rfl) rfl fun G g r hin hlt hbn => ?_
  have g : zGd E G cX4_tale RX4 2 1 0 0 := g
  have hL0 := hL
  obtain ⟨hT, h1, ht1, h2, ht2, h3, ht3, h10, ht4, h11, ht5, ht6, ht7, h16, ht8, h17, ht9, h19, ht10⟩ := hL0
  refine z_il1 g dX4_tale_0 ?_
  refine z_iconst g dX4_tale_1 zki_m1 ?_
  refine z_icmp_ne (tgt := 15) g dX4_tale_2 (by decide) (fun c2 => ?_) (fun c2 => ?_)
  · skip
    refine z_il1 g dX4_tale_15 ?_
    refine z_iconst g dX4_tale_16 zki_1 ?_
    refine z_bipush g dX4_tale_17 zkb_20 ?_
    refine z_callS3 g ck_X4_in q1319 q1320 c_X4_in rfl (Nat.le_of_ble_eq_true rfl) (by omega) (by omega) (by omega) dX4_tale_19 (z_ans1 ?_)
    refine z_ifb_ne (tgt := 28) g dX4_tale_22 (by decide) (fun c22 => ?_) (fun c22 => ?_)
    · skip
      refine z_al0 g dX4_tale_28 ?_
      refine zg4_1 g q1243 (Or.inl rfl) (by assumption) dX4_tale_29 (by assumption) ?_
      refine z_bipush g dX4_tale_32 zkb_9 ?_
      refine z_iald (k := 0) g rfl (by assumption) (by omega) (by omega) dX4_tale_34 ?_
      refine z_bipush g dX4_tale_35 zkb_8 ?_
      refine z_icmp_ne (tgt := 43) g dX4_tale_37 (by decide) (fun c37 => ?_) (fun c37 => ?_)
      · skip
        have hk1 : k < 8 := by
          rcases Nat.lt_or_ge k 8 with q | q
          · exact q
          · exact absurd (by rw [hk, show k = 8 by omega]) c37
        have hkc : (nI k).toNatClampNeg = k := cl_nI (by omega)
        rw [hk] at c37
        refine z_al0 g dX4_tale_43 ?_
        refine zg4_1 g q1243 (Or.inl rfl) (by assumption) dX4_tale_44 (by assumption) ?_
        refine z_bipush g dX4_tale_47 zkb_66 ?_
        refine z_al0 g dX4_tale_49 ?_
        refine zg4_1 g q1243 (Or.inl rfl) (by assumption) dX4_tale_50 (by assumption) ?_
        refine z_bipush g dX4_tale_53 zkb_9 ?_
        refine z_iald (k := 0) g rfl (by assumption) (by omega) (by omega) dX4_tale_55 ?_
        refine z_top hk ?_
        first | with_reducible refine z_iaddN g dX4_tale_56 ?_ | refine z_iadd g dX4_tale_56 ?_
        refine z_il1 g dX4_tale_57 ?_
        refine z_iast (k := 0) g rfl (by decide) (by assumption) (by omega) (by omega) dX4_tale_58 ?_
        refine z_al0 g dX4_tale_59 ?_
        refine zg4_1 g q1243 (Or.inl rfl) (by assumption) dX4_tale_60 (by assumption) ?_
        refine z_bipush g dX4_tale_63 zkb_9 ?_
        refine z_dup2 g dX4_tale_65 rfl rfl ?_
        refine z_iald (k := 0) g rfl (by assumption) (by omega) (by omega) dX4_tale_66 ?_
        refine z_iconst g dX4_tale_67 zki_1 ?_
        first | with_reducible refine z_iaddN g dX4_tale_68 ?_ | refine z_iadd g dX4_tale_68 ?_
        refine z_iast (k := 0) g rfl (by decide) (by assumption) (by omega) (by omega) dX4_tale_69 ?_
        refine z_al0 g dX4_tale_70 ?_
        refine zg4_1 g q1243 (Or.inl rfl) (by assumption) dX4_tale_71 (by assumption) ?_
        refine z_bipush g dX4_tale_74 zkb_9 ?_
        refine z_iald (k := 0) g rfl (by assumption) (by omega) (by omega) dX4_tale_76 ?_
        refine z_iret g r (by omega) (by omega) dX4_tale_77 ?_
        exact ⟨by first | (simp [taleF, zp_zp, zp_s, zp_self, *]; done) | (simp_all [taleF, zp_zp, zp_s, zp_self]; done), rfl, rfl, by first | (simp [taleF, zp_zp, zp_s, zp_self, *]; done) | (simp_all [taleF, zp_zp, zp_s, zp_self]; done), rfl, rfl⟩
      · skip
        rw [hk] at c37
        refine z_bipush g dX4_tale_40 zkb_m4 ?_
        refine z_iret g r (by omega) (by omega) dX4_tale_42 ?_
        exact ⟨by first | (simp [taleF, zp_zp, zp_s, zp_self, *]; done) | (simp_all [taleF, zp_zp, zp_s, zp_self]; done), rfl, rfl, by first | (simp [taleF, zp_zp, zp_s, zp_self, *]; done) | (simp_all [taleF, zp_zp, zp_s, zp_self]; done), rfl, rfl⟩
    · skip
      refine z_bipush g dX4_tale_25 zkb_m2 ?_
      refine z_iret g r (by omega) (by omega) dX4_tale_27 ?_
      exact ⟨by first | (simp [taleF, zp_zp, zp_s, zp_self, *]; done) | (simp_all [taleF, zp_zp, zp_s, zp_self]; done), rfl, rfl, by first | (simp [taleF, zp_zp, zp_s, zp_self, *]; done) | (simp_all [taleF, zp_zp, zp_s, zp_self]; done), rfl, rfl⟩
  · skip
    refine z_al0 g dX4_tale_5 ?_
    refine zg4_1 g q1243 (Or.inl rfl) (by assumption) dX4_tale_6 (by assumption) ?_
    refine z_bipush g dX4_tale_9 zkb_9 ?_
    refine z_iconst g dX4_tale_11 zki_0 ?_
    refine z_iast (k := 0) g rfl (by decide) (by assumption) (by omega) (by omega) dX4_tale_12 ?_
    refine z_iconst g dX4_tale_13 zki_0 ?_
    refine z_iret g r (by omega) (by omega) dX4_tale_14 ?_
    exact ⟨by first | (simp [taleF, zp_zp, zp_s, zp_self, *]; done) | (simp_all [taleF, zp_zp, zp_s, zp_self]; done), rfl, rfl, by first | (simp [taleF, zp_zp, zp_s, zp_self, *]; done) | (simp_all [taleF, zp_zp, zp_s, zp_self]; done), rfl, rfl⟩

set_option maxHeartbeats 4000000 in
theorem c_X4_count {E : ZE} {n : Nat} {T : ZT} {I : ZI} {L : ZL} {R : ZR} {t : Nat} (hL : TL T R t) {w : Int32} : zM E yX4_count cX4_count 2 (some (Jvm.ClassFile.FieldType.int)) 1 0 0 [.ref t, .int w] n T I L R (zis (some (.int (countF (I (t + 1)) (I t 20) w))) n T I L R) := by
  refine zM.of (lv0 := [some (.ref t), some (.int w)]) pn_X4 (Nat.le_of_ble_eq_true rfl) rfl fun G g r hin hlt hbn => ?_
  have g : zGd E G cX4_count RX4 2 1 0 0 := g
  have hL0 := hL
  obtain ⟨hT, h1, ht1, h2, ht2, h3, ht3, h10, ht4, h11, ht5, ht6, ht7, h16, ht8, h17, ht9, h19, ht10⟩ := hL0
  refine z_il1 g dX4_count_0 ?_
  refine z_iconst g dX4_count_1 zki_5 ?_
  refine z_icmp_ne (tgt := 12) g dX4_count_2 (by decide) (fun c2 => ?_) (fun c2 => ?_)
  · skip
    refine z_il1 g dX4_count_12 ?_
    refine z_iconst g dX4_count_13 zki_0 ?_
    refine z_iconst g dX4_count_14 zki_4 ?_
    refine z_callS3 g ck_X4_in q1319 q1320 c_X4_in rfl (Nat.le_of_ble_eq_true rfl) (by omega) (by omega) (by omega) dX4_count_15 (z_ans1 ?_)
    refine z_ifb_eq (tgt := 33) g dX4_count_18 (by decide) (fun c18 => ?_) (fun c18 => ?_)
    · skip
      refine z_iconst g dX4_count_33 zki_m1 ?_
      refine z_iret g r (by omega) (by omega) dX4_count_34 ?_
      exact ⟨by simp [countF, *], rfl, rfl, rfl, rfl, rfl⟩
    · skip
      obtain ⟨wn, wn_ge, wn_le, rfl⟩ := inB_of c18 (by decide) (by decide)
      have wnc : (nI wn).toNatClampNeg = wn := cl_nI (by omega)
      refine z_al0 g dX4_count_21 ?_
      refine zg4_1 g q1243 (Or.inl rfl) (by assumption) dX4_count_22 (by assumption) ?_
      refine z_bipush g dX4_count_25 zkb_6 ?_
      refine z_il1 g dX4_count_27 ?_
      first | with_reducible refine z_iaddN g dX4_count_28 ?_ | refine z_iadd g dX4_count_28 ?_
      refine z_iald (k := 0) g rfl (by assumption) (by omega) (by omega) dX4_count_29 ?_
      refine z_goto (tgt := 34) g dX4_count_30 (by decide) ?_
      refine z_iret g r (by omega) (by omega) dX4_count_34 ?_
      exact ⟨by simp [countF, *], rfl, rfl, rfl, rfl, rfl⟩
  · skip
    refine z_al0 g dX4_count_5 ?_
    refine zg4_20 g q1262 (Or.inl rfl) (by assumption) dX4_count_6 ?_
    refine z_goto (tgt := 34) g dX4_count_9 (by decide) ?_
    refine z_iret g r (by omega) (by omega) dX4_count_34 ?_
    exact ⟨by simp [countF, *], rfl, rfl, rfl, rfl, rfl⟩

