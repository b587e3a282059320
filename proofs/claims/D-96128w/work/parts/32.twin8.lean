/-! ===== the twin: the table ===== -/
set_option maxRecDepth 100000
theorem pw10_le {k : Nat} (h : k ≤ 3) : 10 ^ k ≤ 1000 ∧ 0 < 10 ^ k := ⟨Nat.pow_le_pow_right (n := 10) (by decide) h, Nat.pow_pos (by decide)⟩
set_option maxHeartbeats 4000000 in
theorem c_X4_nextTable {E : ZE} {n : Nat} {T : ZT} {I : ZI} {L : ZL} {R : ZR} {t who p q w f : Nat} {ws rs : List Nat} {d : Nat} {x : Int64} (hL : TL T R t) (hw : tabOK p q ws) (hl3 : ws.length ≤ 3) (hf : f < 100) (e : ws ++ [q] = w :: rs) (hrs : rs.length = ws.length) (hrec : zM E yX4_tables cX4_tables 12 (some (Jvm.ClassFile.FieldType.long)) d 0 0 [.ref t, .int (nI who), .int (nI p), .int (nI w), .int (nI (digs rs)), .int (nI (List.length rs)), .int (nI (f + 1))] n T I L R (zsc t (some (.long x)) n T I L R)) : zM E yX4_nextTable cX4_nextTable 9 (some (Jvm.ClassFile.FieldType.long)) (d + 1) 0 0 [.ref t, .int (nI who), .int (nI p), .int (nI q), .int (nI (digs ws)), .int (nI (List.length ws)), .int (nI (f + 1 + 1))] n T I L R (zsc t (some (.long x)) n T I L R) := by
  refine zM.of (lv0 := [some (.ref t), some (.int (nI who)), some (.int (nI p)), some (.int (nI q)), some (.int (nI (digs ws))), some (.int (nI (List.length ws))), some (.int (nI (f + 1 + 1))), none, none]) pn_X4 (Nat.le_of_ble_eq_true rfl) rfl fun G g r hin hlt hbn => ?_
  have g : zGd E G cX4_nextTable RX4 9 (d + 1) 0 0 := g
  have hL0 := hL
  obtain ⟨hT, h1, ht1, h2, ht2, h3, ht3, h10, ht4, h11, ht5, ht6, ht7, h16, ht8, h17, ht9, h19, ht10⟩ := hL0
  have hn2 := tab_ne hw
  have hwr := tab_ne (tab_next hw e)
  have hdc := digs_cons (w := w) hwr.2.2.2
  have hdv := hdc.1
  have hmd := hdc.2
  rw [hrs] at hdv hmd
  have hd1 := digs_lt hn2.2.2.2
  have hd2 := digs_lt hwr.2.2.2
  rw [hrs] at hd2
  have hp10 := pw10_le hl3
  have happ : digs (w :: rs) = 10 * digs ws + q := by rw [← e, digs_app]
  have loop : ∀ r k : Nat, k + r = ws.length → Z E G 0 0 n T I L R 6 [some (.ref t), some (.int (nI who)), some (.int (nI p)), some (.int (nI q)), some (.int (nI (digs ws))), some (.int (nI ws.length)), some (.int (nI (f + 1 + 1))), some (.int (nI (10 ^ k))), some (.int (nI k))] [] := by
    intro r
    induction r with
    | zero =>
      intro k hk
      obtain rfl : k = ws.length := hk
      refine z_il8 g dX4_nextTable_6 ?_
      refine z_il5 g dX4_nextTable_8 ?_
      refine z_icmp_ge_t (tgt := 26) g dX4_nextTable_10 (by decide) (Int32.le_refl _) ?_
      refine z_bipush g dX4_nextTable_26 zkb_10 ?_
      refine z_il4 g dX4_nextTable_28 ?_
      first | with_reducible refine z_imulN g dX4_nextTable_30 ?_ | refine z_imul g dX4_nextTable_30 ?_
      refine z_il3 g dX4_nextTable_31 ?_
      first | with_reducible refine z_iaddN g dX4_nextTable_32 ?_ | refine z_iadd g dX4_nextTable_32 ?_
      refine z_top (show _ = nI (digs (w :: rs)) from by rw [← e, digs_app]) ?_
      refine z_is8 g dX4_nextTable_33 rfl ?_
      refine z_al0 g dX4_nextTable_35 ?_
      refine z_il1 g dX4_nextTable_36 ?_
      refine z_il2 g dX4_nextTable_37 ?_
      refine z_il8 g dX4_nextTable_38 ?_
      refine z_il7 g dX4_nextTable_40 ?_
      first | with_reducible refine z_idivN g dX4_nextTable_42 (by omega) (by omega) (by omega) ?_ | refine z_idiv g dX4_nextTable_42 (by decide +kernel) ?_
      refine z_top (show _ = nI w from by rw [hdv]) ?_
      refine z_il8 g dX4_nextTable_43 ?_
      refine z_il7 g dX4_nextTable_45 ?_
      first | with_reducible refine z_iremN g dX4_nextTable_47 (by omega) (by omega) (by omega) ?_ | refine z_irem g dX4_nextTable_47 (by decide +kernel) ?_
      refine z_top (show _ = nI (digs rs) from by rw [hmd]) ?_
      refine z_il5 g dX4_nextTable_48 ?_
      refine z_il6 g dX4_nextTable_50 ?_
      refine z_iconst g dX4_nextTable_52 zki_1 ?_
      first | with_reducible refine z_isubN g dX4_nextTable_53 (by omega) ?_ | refine z_isub g dX4_nextTable_53 ?_
      refine z_top (show _ = nI (f + 1) from rfl) ?_
      rw [← hrs]
      refine z_callV6 g ck_X4_tables q1595 q1597 qs70 cls4 (by assumption) hrec rfl (Nat.le_of_ble_eq_true rfl) (by omega) (by omega) (by omega) dX4_nextTable_54 (z_ex fun I1 g1 => z_ans1 ?_)
      refine z_lret g r (by omega) (by omega) dX4_nextTable_57 ?_
      exact ⟨I1, g1, rfl, rfl, rfl, rfl, rfl, rfl⟩
    | succ r ih =>
      intro k hk
      have hp10 := pw10_le (show k ≤ 3 by omega)
      refine z_il8 g dX4_nextTable_6 ?_
      refine z_il5 g dX4_nextTable_8 ?_
      refine z_icmp_ge_f (tgt := 26) g dX4_nextTable_10 (by decide) (nI_ge (by omega) (by omega)) ?_
      refine z_il7 g dX4_nextTable_13 ?_
      refine z_bipush g dX4_nextTable_15 zkb_10 ?_
      first | with_reducible refine z_imulN g dX4_nextTable_17 ?_ | refine z_imul g dX4_nextTable_17 ?_
      refine z_top (show _ = nI (10 ^ (k + 1)) from by rw [Nat.pow_succ]) ?_
      refine z_is7 g dX4_nextTable_18 rfl ?_
      first | with_reducible refine z_inc8 g dX4_nextTable_20 (zinc1 _) rfl ?_ | refine z_inc8 g dX4_nextTable_20 rfl rfl ?_
      refine z_goto (tgt := 6) g dX4_nextTable_23 (by decide) ?_
      exact ih (k + 1) (by omega)
  refine z_iconst g dX4_nextTable_0 zki_1 ?_
  refine z_is7 g dX4_nextTable_1 rfl ?_
  refine z_iconst g dX4_nextTable_3 zki_0 ?_
  refine z_is8 g dX4_nextTable_4 rfl ?_
  exact loop ws.length 0 (Nat.zero_add _)

set_option maxHeartbeats 8000000 in
theorem c_X4_tables {E : ZE} {n : Nat} {T : ZT} {L : ZL} {R : ZR} {t who : Nat} (hL : TL T R t) (hwho : who < 5) : ∀ (f p q : Nat) (ws : List Nat) (I : ZI), f < 100 → tabOK p q ws → ws.length ≤ 3 → oddOK (I (t + 1)) → gok (f + 1) (I (t + 1)) → zM E yX4_tables cX4_tables 12 (some (Jvm.ClassFile.FieldType.long)) (3 + 2 * f) 0 0 [.ref t, .int (nI who), .int (nI p), .int (nI q), .int (nI (digs ws)), .int (nI (List.length ws)), .int (nI (f + 1))] n T I L R (zsc t (some (.long (tabF who f p q ws (I (t + 1))))) n T I L R) := by
  intro f
  induction f with
  | zero =>
    intro p q ws I hf hw hl3 hO hg
    obtain ⟨hpq, hp, hq, -⟩ := tab_ne hw
    refine zM.of (lv0 := [some (.ref t), some (.int (nI who)), some (.int (nI p)), some (.int (nI q)), some (.int (nI (digs ws))), some (.int (nI (List.length ws))), some (.int (nI (0 + 1))), none, none, none, none, none]) pn_X4 (Nat.le_of_ble_eq_true rfl) rfl fun G g r hin hlt hbn => ?_
    have g : zGd E G cX4_tables RX4 12 (3 + 2 * 0) 0 0 := g
    have hL0 := hL
    obtain ⟨hT, h1, ht1, h2, ht2, h3, ht3, h10, ht4, h11, ht5, ht6, ht7, h16, ht8, h17, ht9, h19, ht10⟩ := hL0
    refine z_al0 g dX4_tables_0 ?_
    refine z_il2 g dX4_tables_1 ?_
    refine z_il3 g dX4_tables_2 ?_
    refine z_callV2 g ck_X4_oddsOf q1474 q1476 qs54 cls4 (by assumption) (cs_X4_oddsOf hL hO hp hq) rfl (Nat.le_of_ble_eq_true rfl) (by omega) (by omega) (by omega) dX4_tables_3 (z_ex fun I1 g1 => z_ans1 ?_)
    refine z_is7 g dX4_tables_6 rfl ?_
    refine z_il6 g dX4_tables_8 ?_
    refine z_iconst g dX4_tables_10 zki_1 ?_
    refine z_icmp_ne_f (tgt := 41) g dX4_tables_11 (by decide) (rfl) ?_
    refine z_il1 g dX4_tables_14 ?_
    refine z_il2 g dX4_tables_15 ?_
    refine z_icmp_ne (tgt := 25) g dX4_tables_16 (by decide) (fun c16 => ?_) (fun c16 => ?_)
    · skip
      have d16 : ¬ who = p := fun e => c16 (by rw [e])
      refine z_il1 g dX4_tables_25 ?_
      refine z_il3 g dX4_tables_26 ?_
      refine z_icmp_ne (tgt := 39) g dX4_tables_27 (by decide) (fun c27 => ?_) (fun c27 => ?_)
      · skip
        have d27 : ¬ who = q := fun e => c27 (by rw [e])
        refine z_lconst (v := 0) g dX4_tables_39 rfl ?_
        refine z_lret g r (by omega) (by omega) dX4_tables_40 ?_
        refine ⟨I1, g1, ?_, rfl, rfl, rfl, rfl, rfl⟩
        unfold tabF
        first | rw [if_pos d16] | rw [if_neg d16, if_pos d27] | rw [if_neg d16, if_neg d27]
      · skip
        have d27 : who = q := (nI_eq (by omega) (by omega)).mp c27
        refine z_bipush g dX4_tables_30 zkb_10 ?_
        refine z_il7 g dX4_tables_32 ?_
        first | with_reducible refine z_isubN g dX4_tables_34 (by omega) ?_ | refine z_isub g dX4_tables_34 ?_
        refine z_i2l g dX4_tables_35 ?_
        refine z_goto (tgt := 40) g dX4_tables_36 (by decide) ?_
        refine z_lret g r (by omega) (by omega) dX4_tables_40 ?_
        refine ⟨I1, g1, ?_, rfl, rfl, rfl, rfl, rfl⟩
        unfold tabF
        first | rw [if_pos d16] | rw [if_neg d16, if_pos d27] | rw [if_neg d16, if_neg d27]
    · skip
      have d16 : who = p := (nI_eq (by omega) (by omega)).mp c16
      refine z_il7 g dX4_tables_19 ?_
      refine z_i2l g dX4_tables_21 ?_
      refine z_goto (tgt := 40) g dX4_tables_22 (by decide) ?_
      refine z_lret g r (by omega) (by omega) dX4_tables_40 ?_
      refine ⟨I1, g1, ?_, rfl, rfl, rfl, rfl, rfl⟩
      unfold tabF
      first | rw [if_pos d16] | rw [if_neg d16, if_pos d27] | rw [if_neg d16, if_neg d27]
  | succ f ih =>
    intro p q ws I hf hw hl3 hO hg
    obtain ⟨hpq, hp, hq, -⟩ := tab_ne hw
    have h1k : ¬ nI (f + 1 + 1) = nI 1 := fun e => by have := (nI_eq (by omega) (by omega)).mp e; omega
    have hg1 : gok 1 (I (t + 1)) := gok_le hg (by omega)
    have ho1 := plays_odd hp hq hpq hO hg1
    have ho2 := plays_odd hq hp (Ne.symm hpq) hO hg1
    have hg2 : gok (f + 1) (playsF (I (t + 1)) p q) := plays_gok hp hq hpq hg
    have hg3 : gok (f + 1) (playsF (I (t + 1)) q p) := plays_gok hq hp (Ne.symm hpq) hg
    obtain ⟨w1, r1, a1, a2, a3, a4⟩ := app_cons ws q
    obtain ⟨w2, r2, b1, b2, b3, b4⟩ := app_cons ws p
    have hw1 := tab_next hw a1
    have hw2 := tab_next (tab_swap hw) b1
    refine zM.of (lv0 := [some (.ref t), some (.int (nI who)), some (.int (nI p)), some (.int (nI q)), some (.int (nI (digs ws))), some (.int (nI (List.length ws))), some (.int (nI (f + 1 + 1))), none, none, none, none, none]) pn_X4 (Nat.le_of_ble_eq_true rfl) rfl fun G g r hin hlt hbn => ?_
    have g : zGd E G cX4_tables RX4 12 (3 + 2 * (f + 1)) 0 0 := g
    have hL0 := hL
    obtain ⟨hT, h1, ht1, h2, ht2, h3, ht3, h10, ht4, h11, ht5, ht6, ht7, h16, ht8, h17, ht9, h19, ht10⟩ := hL0
    refine z_al0 g dX4_tables_0 ?_
    refine z_il2 g dX4_tables_1 ?_
    refine z_il3 g dX4_tables_2 ?_
    refine z_callV2 g ck_X4_oddsOf q1474 q1476 qs54 cls4 (by assumption) (cs_X4_oddsOf hL hO hp hq) rfl (Nat.le_of_ble_eq_true rfl) (by omega) (by omega) (by omega) dX4_tables_3 (z_ex fun I1 g1 => z_ans1 ?_)
    have e1 : I1 (t + 1) = I (t + 1) := g1.row
    refine z_is7 g dX4_tables_6 rfl ?_
    refine z_il6 g dX4_tables_8 ?_
    refine z_iconst g dX4_tables_10 zki_1 ?_
    refine z_icmp_ne_t (tgt := 41) g dX4_tables_11 (by decide) (h1k) ?_
    refine z_al0 g dX4_tables_41 ?_
    refine zg4_1 g q1243 (Or.inl rfl) (by assumption) dX4_tables_42 (by assumption) ?_
    refine z_iconst g dX4_tables_45 zki_1 ?_
    refine z_il2 g dX4_tables_46 ?_
    first | with_reducible refine z_iaddN g dX4_tables_47 ?_ | refine z_iadd g dX4_tables_47 ?_
    refine z_iald (k := 0) g rfl (by assumption) (by omega) (by omega) dX4_tables_48 ?_
    refine z_is8 g dX4_tables_49 rfl ?_
    refine z_al0 g dX4_tables_51 ?_
    refine zg4_1 g q1243 (Or.inl rfl) (by assumption) dX4_tables_52 (by assumption) ?_
    refine z_iconst g dX4_tables_55 zki_1 ?_
    refine z_il3 g dX4_tables_56 ?_
    first | with_reducible refine z_iaddN g dX4_tables_57 ?_ | refine z_iadd g dX4_tables_57 ?_
    refine z_iald (k := 0) g rfl (by assumption) (by omega) (by omega) dX4_tables_58 ?_
    refine z_is9 g dX4_tables_59 rfl ?_
    rw [e1]
    refine z_al0 g dX4_tables_61 ?_
    refine z_il2 g dX4_tables_62 ?_
    refine z_il3 g dX4_tables_63 ?_
    refine z_callV2 g ck_X4_plays q1482 q1484 qs55 cls4 (by assumption) (c_X4_plays hL (by rw [e1]; exact hO.1) hp hq) rfl (Nat.le_of_ble_eq_true rfl) (by omega) (by omega) (by omega) dX4_tables_64 (z_ans0 ?_)
    rw [e1]
    refine z_il7 g dX4_tables_67 ?_
    refine z_i2l g dX4_tables_69 ?_
    refine z_al0 g dX4_tables_70 ?_
    refine z_il1 g dX4_tables_71 ?_
    refine z_il2 g dX4_tables_72 ?_
    refine z_il3 g dX4_tables_73 ?_
    refine z_il4 g dX4_tables_74 ?_
    refine z_il5 g dX4_tables_76 ?_
    refine z_il6 g dX4_tables_78 ?_
    refine z_callV6 g ck_X4_nextTable q1599 q1601 qs71 cls4 (by assumption) (c_X4_nextTable hL hw hl3 (by omega) a1 a2 (ih p w1 r1 (zp I1 (t + 1) (playsF (I (t + 1)) p q)) (by omega) (tab_next hw a1) (by omega) (by rw [zp_s]; exact ho1) (by rw [zp_s]; exact hg2))) rfl (Nat.le_of_ble_eq_true rfl) (by omega) (by omega) (by omega) dX4_tables_80 (z_ex fun I2 g2 => z_ans1 ?_)
    have e2 : I2 (t + 1) = playsF (I (t + 1)) p q := g2.row.trans zp_s
    rw [zp_s]
    refine z_lmul g dX4_tables_83 ?_
    refine z_ls10 g dX4_tables_84 rfl ?_
    refine z_al0 g dX4_tables_86 ?_
    refine zg4_1 g q1243 (Or.inl rfl) (by assumption) dX4_tables_87 (by assumption) ?_
    refine z_iconst g dX4_tables_90 zki_1 ?_
    refine z_il2 g dX4_tables_91 ?_
    first | with_reducible refine z_iaddN g dX4_tables_92 ?_ | refine z_iadd g dX4_tables_92 ?_
    refine z_al0 g dX4_tables_93 ?_
    refine z_il8 g dX4_tables_94 ?_
    refine z_callV1 g ck_X4_moreOf q1490 q1492 qs57 cls4 (by assumption) (c_X4_moreOf hL (by rw [e2, plays_ag hp hq 11 (by decide)]; exact hO.1)) rfl (Nat.le_of_ble_eq_true rfl) (by omega) (by omega) (by omega) dX4_tables_96 (z_ans1 ?_)
    refine z_iast (k := 0) g rfl (by decide) (by assumption) (by omega) (by omega) dX4_tables_99 ?_
    refine z_al0 g dX4_tables_100 ?_
    refine zg4_1 g q1243 (Or.inl rfl) (by assumption) dX4_tables_101 (by assumption) ?_
    refine z_iconst g dX4_tables_104 zki_1 ?_
    refine z_il3 g dX4_tables_105 ?_
    first | with_reducible refine z_iaddN g dX4_tables_106 ?_ | refine z_iadd g dX4_tables_106 ?_
    refine z_al0 g dX4_tables_107 ?_
    refine z_il9 g dX4_tables_108 ?_
    refine z_callV1 g ck_X4_fewer q1486 q1488 qs56 cls4 (by assumption) (c_X4_fewer hL (by rw [zp_s, zp_n (by omega), e2, plays_ag hp hq 11 (by decide)]; exact hO.1)) rfl (Nat.le_of_ble_eq_true rfl) (by omega) (by omega) (by omega) dX4_tables_110 (z_ans1 ?_)
    refine z_iast (k := 0) g rfl (by decide) (by assumption) (by omega) (by omega) dX4_tables_113 ?_
    refine z_mem rfl rfl (show _ = zp I2 (t + 1) (playsF (I (t + 1)) q p) from by rw [zp_s, zp_zp, e2, plays_swap hp hq hpq]) rfl rfl ?_
    refine z_ll10 g dX4_tables_114 ?_
    refine z_bipush g dX4_tables_116 zkb_10 ?_
    refine z_il7 g dX4_tables_118 ?_
    first | with_reducible refine z_isubN g dX4_tables_120 (by omega) ?_ | refine z_isub g dX4_tables_120 ?_
    refine z_i2l g dX4_tables_121 ?_
    refine z_al0 g dX4_tables_122 ?_
    refine z_il1 g dX4_tables_123 ?_
    refine z_il3 g dX4_tables_124 ?_
    refine z_il2 g dX4_tables_125 ?_
    refine z_il4 g dX4_tables_126 ?_
    refine z_il5 g dX4_tables_128 ?_
    refine z_il6 g dX4_tables_130 ?_
    refine z_callV6 g ck_X4_nextTable q1599 q1601 qs71 cls4 (by assumption) (c_X4_nextTable hL (tab_swap hw) hl3 (by omega) b1 b2 (ih q w2 r2 (zp I2 (t + 1) (playsF (I (t + 1)) q p)) (by omega) (tab_next (tab_swap hw) b1) (by omega) (by rw [zp_s]; exact ho2) (by rw [zp_s]; exact hg3))) rfl (Nat.le_of_ble_eq_true rfl) (by omega) (by omega) (by omega) dX4_tables_132 (z_ex fun I3 g3 => z_ans1 ?_)
    have e3 : I3 (t + 1) = playsF (I (t + 1)) q p := g3.row.trans zp_s
    rw [zp_s]
    refine z_lmul g dX4_tables_135 ?_
    refine z_ladd g dX4_tables_136 ?_
    refine z_ls10 g dX4_tables_137 rfl ?_
    refine z_al0 g dX4_tables_139 ?_
    refine zg4_1 g q1243 (Or.inl rfl) (by assumption) dX4_tables_140 (by assumption) ?_
    refine z_iconst g dX4_tables_143 zki_1 ?_
    refine z_il2 g dX4_tables_144 ?_
    first | with_reducible refine z_iaddN g dX4_tables_145 ?_ | refine z_iadd g dX4_tables_145 ?_
    refine z_il8 g dX4_tables_146 ?_
    refine z_iast (k := 0) g rfl (by decide) (by assumption) (by omega) (by omega) dX4_tables_148 ?_
    refine z_al0 g dX4_tables_149 ?_
    refine zg4_1 g q1243 (Or.inl rfl) (by assumption) dX4_tables_150 (by assumption) ?_
    refine z_iconst g dX4_tables_153 zki_1 ?_
    refine z_il3 g dX4_tables_154 ?_
    first | with_reducible refine z_iaddN g dX4_tables_155 ?_ | refine z_iadd g dX4_tables_155 ?_
    refine z_il9 g dX4_tables_156 ?_
    refine z_iast (k := 0) g rfl (by decide) (by assumption) (by omega) (by omega) dX4_tables_158 ?_
    refine z_al0 g dX4_tables_159 ?_
    refine zg4_1 g q1243 (Or.inl rfl) (by assumption) dX4_tables_160 (by assumption) ?_
    refine z_iconst g dX4_tables_163 zki_0 ?_
    refine z_dup2 g dX4_tables_164 rfl rfl ?_
    refine z_iald (k := 0) g rfl (by assumption) (by omega) (by omega) dX4_tables_165 ?_
    refine z_iconst g dX4_tables_166 zki_1 ?_
    first | with_reducible refine z_isubN g dX4_tables_167 (by omega) ?_ | refine z_isub g dX4_tables_167 ?_
    refine z_iast (k := 0) g rfl (by decide) (by assumption) (by omega) (by omega) dX4_tables_168 ?_
    refine z_mem rfl rfl (show _ = zp I3 (t + 1) (I (t + 1)) from by simp only [zp_zp, zp_s, e3]; rw [plays_back hp hq hpq]) rfl rfl ?_
    refine z_ll10 g dX4_tables_169 ?_
    refine z_lret g r (by omega) (by omega) dX4_tables_171 ?_
    refine ⟨zp I3 (t + 1) (I (t + 1)), zag.dn2 ?_ zp_s, by rw [tabF_s, a3, a4, b3, b4], rfl, rfl, rfl, rfl, rfl⟩
    exact ((((g1.up3).put (Or.inl rfl)).trans g2.up3 |>.put (Or.inl rfl)).trans g3.up3).put (Or.inl rfl)
theorem queue_ok : ∀ np : Nat, np ≤ 5 → 2 ≤ np → tabOK 0 1 (queueN np) ∧ (queueN np).length = np - 2 ∧ digs (queueN np) = waitN (np - 2) := by
  intro np h1 h2
  have : np = 2 ∨ np = 3 ∨ np = 4 ∨ np = 5 := by omega
  unfold tabOK
  rcases this with rfl | rfl | rfl | rfl <;> decide +kernel
theorem waitN_lt : ∀ k : Nat, k ≤ 3 → waitN k < 1000 := by decide +kernel
set_option maxHeartbeats 4000000 in
theorem c_X4_table {E : ZE} {n : Nat} {T : ZT} {I : ZI} {L : ZL} {R : ZR} {t : Nat} (hL : TL T R t) {np : Nat} (hN : I (t + 1) 6 = nI np) (hnp : np ≤ 5) (hO : oddOK (I (t + 1))) (hg : gok 16 (I (t + 1))) {p k part : Int32} : zM E yX4_table cX4_table 6 (some (Jvm.ClassFile.FieldType.long)) 20 0 0 [.ref t, .int p, .int k, .int part] n T I L R (zsc t (some (.long (tableF (I (t + 1)) p k part))) n T I L R) := by
  refine zM.of (lv0 := [some (.ref t), some (.int p), some (.int k), some (.int part), none, none]) pn_X4 (Nat.le_of_ble_eq_true rfl) rfl fun G g r hin hlt hbn => ?_
  have g : zGd E G cX4_table RX4 6 20 0 0 := g
  have hL0 := hL
  obtain ⟨hT, h1, ht1, h2, ht2, h3, ht3, h10, ht4, h11, ht5, ht6, ht7, h16, ht8, h17, ht9, h19, ht10⟩ := hL0
  refine z_al0 g dX4_table_0 ?_
  refine z_il1 g dX4_table_1 ?_
  refine z_callV1 g ck_X4_isPlayer q1438 q1440 qs50 cls4 (by assumption) (c_X4_isPlayer hL) rfl (Nat.le_of_ble_eq_true rfl) (by omega) (by omega) (by omega) dX4_table_2 (z_ans1 ?_)
  refine z_ifb_eq (tgt := 38) g dX4_table_5 (by decide) (fun c5 => ?_) (fun c5 => ?_)
  · skip
    refine z_ldc2 g q1502 dX4_table_38 ?_
    refine z_lret g r (by omega) (by omega) dX4_table_41 ?_
    exact ⟨I, zag.rf, by first | (simp [tableF, *]; done) | (simp_all [tableF]; done), rfl, rfl, rfl, rfl, rfl⟩
  · skip
    obtain ⟨pn, pn_lt, rfl⟩ := isPl_of c5 hN hnp
    have pnc : (nI pn).toNatClampNeg = pn := cl_nI (by omega)
    refine z_il2 g dX4_table_8 ?_
    refine z_iconst g dX4_table_9 zki_1 ?_
    refine z_bipush g dX4_table_10 zkb_8 ?_
    refine z_callS3 g ck_X4_in q1319 q1320 c_X4_in rfl (Nat.le_of_ble_eq_true rfl) (by omega) (by omega) (by omega) dX4_table_12 (z_ans1 ?_)
    refine z_ifb_eq (tgt := 38) g dX4_table_15 (by decide) (fun c15 => ?_) (fun c15 => ?_)
    · skip
      refine z_ldc2 g q1502 dX4_table_38 ?_
      refine z_lret g r (by omega) (by omega) dX4_table_41 ?_
      exact ⟨I, zag.rf, by first | (simp [tableF, *]; done) | (simp_all [tableF]; done), rfl, rfl, rfl, rfl, rfl⟩
    · skip
      obtain ⟨kn, kn_ge, kn_le, rfl⟩ := inB_of c15 (by decide) (by decide)
      have knc : (nI kn).toNatClampNeg = kn := cl_nI (by omega)
      refine z_il3 g dX4_table_18 ?_
      refine z_iconst g dX4_table_19 zki_0 ?_
      refine z_iconst g dX4_table_20 zki_1 ?_
      refine z_callS3 g ck_X4_in q1319 q1320 c_X4_in rfl (Nat.le_of_ble_eq_true rfl) (by omega) (by omega) (by omega) dX4_table_21 (z_ans1 ?_)
      refine z_ifb_eq (tgt := 38) g dX4_table_24 (by decide) (fun c24 => ?_) (fun c24 => ?_)
      · skip
        refine z_ldc2 g q1502 dX4_table_38 ?_
        refine z_lret g r (by omega) (by omega) dX4_table_41 ?_
        exact ⟨I, zag.rf, by first | (simp [tableF, *]; done) | (simp_all [tableF]; done), rfl, rfl, rfl, rfl, rfl⟩
      · skip
        refine z_al0 g dX4_table_27 ?_
        refine zg4_1 g q1243 (Or.inl rfl) (by assumption) dX4_table_28 (by assumption) ?_
        refine z_bipush g dX4_table_31 zkb_6 ?_
        refine z_iald (k := 0) g rfl (by assumption) (by omega) (by omega) dX4_table_33 ?_
        refine z_iconst g dX4_table_34 zki_2 ?_
        refine z_icmp_ge (tgt := 42) g dX4_table_35 (by decide) (fun c35 => ?_) (fun c35 => ?_)
        · skip
          have hnp2 : 2 ≤ np := by
            rcases Nat.lt_or_ge np 2 with q | q
            · exact absurd c35 (by rw [hN]; exact nI_ge q (by decide))
            · exact q
          have hc35 : ¬ I (t + 1) 6 < nI 2 := by rw [hN]; exact nI_nlt hnp2 (by omega)
          obtain ⟨hq1, hq2, hq3⟩ := queue_ok np hnp hnp2
          have htb := c_X4_tables (E := E) (n := n) (L := L) hL (show pn < 5 by omega) (kn - 1) 0 1 (queueN np) I (by omega) hq1 (by omega) hO (gok_le hg (by omega))
          rw [show kn - 1 + 1 = kn by omega, hq2, hq3] at htb
          have loop : ∀ r k : Nat, k + r = np - 2 → Z E G 0 0 n T I L R 48 [some (.ref t), some (.int (nI pn)), some (.int (nI kn)), some (.int part), some (.int (nI (waitN k))), some (.int (nI (k + 2)))] [] := by
            intro r
            induction r with
            | zero =>
              intro k hk
              obtain rfl : k = np - 2 := hk
              have hw1 := waitN_lt (np - 2) (by omega)
              refine z_il5 g dX4_table_48 ?_
              refine z_al0 g dX4_table_50 ?_
              refine zg4_1 g q1243 (Or.inl rfl) (by assumption) dX4_table_51 (by assumption) ?_
              refine z_bipush g dX4_table_54 zkb_6 ?_
              refine z_iald (k := 0) g rfl (by assumption) (by omega) (by omega) dX4_table_56 ?_
              refine z_icmp_ge_t (tgt := 76) g dX4_table_57 (by decide) (by rw [hN]; exact nI_le (by omega) (by omega)) ?_
              refine z_al0 g dX4_table_76 ?_
              refine z_il1 g dX4_table_77 ?_
              refine z_iconst g dX4_table_78 zki_0 ?_
              refine z_iconst g dX4_table_79 zki_1 ?_
              refine z_il4 g dX4_table_80 ?_
              refine z_al0 g dX4_table_82 ?_
              refine zg4_1 g q1243 (Or.inl rfl) (by assumption) dX4_table_83 (by assumption) ?_
              refine z_bipush g dX4_table_86 zkb_6 ?_
              refine z_iald (k := 0) g rfl (by assumption) (by omega) (by omega) dX4_table_88 ?_
              refine z_top hN ?_
              refine z_iconst g dX4_table_89 zki_2 ?_
              first | with_reducible refine z_isubN g dX4_table_90 (by omega) ?_ | refine z_isub g dX4_table_90 ?_
              refine z_il2 g dX4_table_91 ?_
              refine z_callV6 g ck_X4_tables q1595 q1597 qs70 cls4 (by assumption) htb rfl (Nat.le_of_ble_eq_true rfl) (by omega) (by omega) (by omega) dX4_table_92 (z_ex fun I1 g1 => z_ans1 ?_)
              refine z_il2 g dX4_table_95 ?_
              refine z_callS1 g ck_X4_tens q1524 q1525 (c_X4_tens (by omega)) rfl (Nat.le_of_ble_eq_true rfl) (by omega) (by omega) (by omega) dX4_table_96 (z_ans1 ?_)
              refine z_il3 g dX4_table_99 ?_
              refine z_callS3 g ck_X4_lowest q1527 q1528 (c_X4_lowest (pow10_ne (by omega))) rfl (Nat.le_of_ble_eq_true rfl) (by omega) (by omega) (by omega) dX4_table_100 (z_ans1 ?_)
              refine z_lret g r (by omega) (by omega) dX4_table_103 ?_
              refine ⟨I1, g1, ?_, rfl, rfl, rfl, rfl, rfl⟩
              have hNc : (I (t + 1) 6).toNatClampNeg = np := by rw [hN, cl_nI (by omega)]
              have hcn : (nI np).toNatClampNeg = np := cl_nI (by omega)
              have hc2 : ¬ nI np < nI 2 := nI_nlt hnp2 (by omega)
              simp [tableF, *]
            | succ r ih =>
              intro k hk
              have hw1 := waitN_lt k (by omega)
              refine z_il5 g dX4_table_48 ?_
              refine z_al0 g dX4_table_50 ?_
              refine zg4_1 g q1243 (Or.inl rfl) (by assumption) dX4_table_51 (by assumption) ?_
              refine z_bipush g dX4_table_54 zkb_6 ?_
              refine z_iald (k := 0) g rfl (by assumption) (by omega) (by omega) dX4_table_56 ?_
              refine z_icmp_ge_f (tgt := 76) g dX4_table_57 (by decide) (by rw [hN]; exact nI_ge (by omega) (by omega)) ?_
              refine z_bipush g dX4_table_60 zkb_10 ?_
              refine z_il4 g dX4_table_62 ?_
              first | with_reducible refine z_imulN g dX4_table_64 ?_ | refine z_imul g dX4_table_64 ?_
              refine z_il5 g dX4_table_65 ?_
              first | with_reducible refine z_iaddN g dX4_table_67 ?_ | refine z_iadd g dX4_table_67 ?_
              refine z_top (show _ = nI (waitN (k + 1)) from by rw [waitN_s]) ?_
              refine z_is4 g dX4_table_68 rfl ?_
              first | with_reducible refine z_inc5 g dX4_table_70 (zinc1 _) rfl ?_ | refine z_inc5 g dX4_table_70 rfl rfl ?_
              refine z_goto (tgt := 48) g dX4_table_73 (by decide) ?_
              exact ih (k + 1) (by omega)
          refine z_iconst g dX4_table_42 zki_0 ?_
          refine z_is4 g dX4_table_43 rfl ?_
          refine z_iconst g dX4_table_45 zki_2 ?_
          refine z_is5 g dX4_table_46 rfl ?_
          exact loop (np - 2) 0 (by omega)
        · skip
          have d35 : I (t + 1) 6 < nI 2 := Int32.not_le.mp c35
          refine z_ldc2 g q1502 dX4_table_38 ?_
          refine z_lret g r (by omega) (by omega) dX4_table_41 ?_
          exact ⟨I, zag.rf, by first | (simp [tableF, *]; done) | (simp_all [tableF]; done), rfl, rfl, rfl, rfl, rfl⟩

