/-! ===== the twin: purpose, loses, even ===== -/
set_option maxRecDepth 100000
set_option maxHeartbeats 4000000 in
theorem c_X4_purpose {E : ZE} {n : Nat} {T : ZT} {I : ZI} {L : ZL} {R : ZR} {t : Nat} (hL : TL T R t) {np : Nat} (hN : I (t + 1) 6 = nI np) (hnp : np ≤ 5) (hO : oddOK (I (t + 1))) (hg : gok 16 (I (t + 1))) {p q k part : Int32} : zM E yX4_purpose cX4_purpose 5 (some (Jvm.ClassFile.FieldType.long)) 15 0 0 [.ref t, .int p, .int q, .int k, .int part] n T I L R (zex (fun I' : ZI => zag (fun x => x = t ∨ T2 t x) I I' ∧ (∀ k : Nat, k ≠ 15 → I' t k = I t k)) (fun I' => zis (some (.long (purposeF (I (t + 1)) p q k part))) n T I' L R)) := by
  refine zM.of (lv0 := [some (.ref t), some (.int p), some (.int q), some (.int k), some (.int part)]) pn_X4 (Nat.le_of_ble_eq_true rfl) rfl fun G g r hin hlt hbn => ?_
  have g : zGd E G cX4_purpose RX4 5 15 0 0 := g
  have hL0 := hL
  obtain ⟨hT, h1, ht1, h2, ht2, h3, ht3, h10, ht4, h11, ht5, ht6, ht7, h16, ht8, h17, ht9, h19, ht10⟩ := hL0
  refine z_al0 g dX4_purpose_0 ?_
  refine z_il1 g dX4_purpose_1 ?_
  refine z_il2 g dX4_purpose_2 ?_
  refine z_callV2 g ck_X4_areTwo q1498 q1500 qs58 cls4 (by assumption) (c_X4_areTwo hL) rfl (Nat.le_of_ble_eq_true rfl) (by omega) (by omega) (by omega) dX4_purpose_3 (z_ans1 ?_)
  refine z_ifb_eq (tgt := 29) g dX4_purpose_6 (by decide) (fun c6 => ?_) (fun c6 => ?_)
  · skip
    refine z_ldc2 g q1502 dX4_purpose_29 ?_
    refine z_lret g r (by omega) (by omega) dX4_purpose_32 ?_
    exact ⟨I, ⟨zag.rf, fun _ _ => rfl⟩, by first | (simp [purposeF, *]; done) | (simp_all [purposeF]; done), rfl, rfl, rfl, rfl, rfl⟩
  · skip
    obtain ⟨pn, qn, hpn, hqn, hpq, rfl, rfl⟩ := two_of c6 hN hnp
    have pnc : (nI pn).toNatClampNeg = pn := cl_nI (by omega)
    have qnc : (nI qn).toNatClampNeg = qn := cl_nI (by omega)
    refine z_il3 g dX4_purpose_9 ?_
    refine z_iconst g dX4_purpose_10 zki_1 ?_
    refine z_bipush g dX4_purpose_11 zkb_8 ?_
    refine z_callS3 g ck_X4_in q1319 q1320 c_X4_in rfl (Nat.le_of_ble_eq_true rfl) (by omega) (by omega) (by omega) dX4_purpose_13 (z_ans1 ?_)
    refine z_ifb_eq (tgt := 29) g dX4_purpose_16 (by decide) (fun c16 => ?_) (fun c16 => ?_)
    · skip
      refine z_ldc2 g q1502 dX4_purpose_29 ?_
      refine z_lret g r (by omega) (by omega) dX4_purpose_32 ?_
      exact ⟨I, ⟨zag.rf, fun _ _ => rfl⟩, by first | (simp [purposeF, *]; done) | (simp_all [purposeF]; done), rfl, rfl, rfl, rfl, rfl⟩
    · skip
      obtain ⟨kn, kn_ge, kn_le, rfl⟩ := inB_of c16 (by decide) (by decide)
      have knc : (nI kn).toNatClampNeg = kn := cl_nI (by omega)
      have hbest := c_X4_bestFor (E := E) (n := n) (L := L) hL (show pn < 5 by omega) (show qn < 5 by omega) hpq (kn - 1) I (by omega) hO (gok_le hg (by omega))
      rw [show kn - 1 + 1 = kn by omega] at hbest
      refine z_il4 g dX4_purpose_19 ?_
      refine z_iconst g dX4_purpose_21 zki_0 ?_
      refine z_iconst g dX4_purpose_22 zki_1 ?_
      refine z_callS3 g ck_X4_in q1319 q1320 c_X4_in rfl (Nat.le_of_ble_eq_true rfl) (by omega) (by omega) (by omega) dX4_purpose_23 (z_ans1 ?_)
      refine z_ifb_ne (tgt := 33) g dX4_purpose_26 (by decide) (fun c26 => ?_) (fun c26 => ?_)
      · skip
        refine z_al0 g dX4_purpose_33 ?_
        refine z_il1 g dX4_purpose_34 ?_
        refine z_il2 g dX4_purpose_35 ?_
        refine z_il3 g dX4_purpose_36 ?_
        refine z_callV3 g ck_X4_bestFor q1558 q1560 qs65 cls4 (by assumption) (hbest) rfl (Nat.le_of_ble_eq_true rfl) (by omega) (by omega) (by omega) dX4_purpose_37 (z_ex fun I1 g1 => z_ans1 ?_)
        refine z_il3 g dX4_purpose_40 ?_
        refine z_callS1 g ck_X4_tens q1524 q1525 (c_X4_tens (by omega)) rfl (Nat.le_of_ble_eq_true rfl) (by omega) (by omega) (by omega) dX4_purpose_41 (z_ans1 ?_)
        refine z_il4 g dX4_purpose_44 ?_
        refine z_callS3 g ck_X4_lowest q1527 q1528 (c_X4_lowest (pow10_ne (by omega))) rfl (Nat.le_of_ble_eq_true rfl) (by omega) (by omega) (by omega) dX4_purpose_46 (z_ans1 ?_)
        refine z_lret g r (by omega) (by omega) dX4_purpose_49 ?_
        refine ⟨I1, ⟨fun x hx => ?_, fun k hk => ?_⟩, by simp [purposeF, zb, *], rfl, rfl, rfl, rfl, rfl⟩
        · rw [g1 x (fun q => hx (Or.inr q)), zp_n (fun q => hx (Or.inl q))]
        · rw [g1 _ T2.t0, zp_s, zp_n hk]
      · skip
        refine z_ldc2 g q1502 dX4_purpose_29 ?_
        refine z_lret g r (by omega) (by omega) dX4_purpose_32 ?_
        exact ⟨I, ⟨zag.rf, fun _ _ => rfl⟩, by first | (simp [purposeF, *]; done) | (simp_all [purposeF]; done), rfl, rfl, rfl, rfl, rfl⟩

set_option maxHeartbeats 4000000 in
theorem c_X4_loses {E : ZE} {n : Nat} {T : ZT} {I : ZI} {L : ZL} {R : ZR} {t : Nat} (hL : TL T R t) {np : Nat} (hN : I (t + 1) 6 = nI np) (hnp : np ≤ 5) (hO : oddOK (I (t + 1))) (hg : gok 16 (I (t + 1))) {p q k : Int32} : zM E yX4_loses cX4_loses 4 (some (Jvm.ClassFile.FieldType.int)) 15 0 0 [.ref t, .int p, .int q, .int k] n T I L R (zex (fun I' : ZI => zag (fun x => x = t ∨ T2 t x) I I' ∧ (∀ k : Nat, k ≠ 15 → I' t k = I t k)) (fun I' => zis (some (.int (losesF (I (t + 1)) p q k))) n T I' L R)) := by
  refine zM.of (lv0 := [some (.ref t), some (.int p), some (.int q), some (.int k)]) pn_X4 (Nat.le_of_ble_eq_true rfl) rfl fun G g r hin hlt hbn => ?_
  have g : zGd E G cX4_loses RX4 4 15 0 0 := g
  have hL0 := hL
  obtain ⟨hT, h1, ht1, h2, ht2, h3, ht3, h10, ht4, h11, ht5, ht6, ht7, h16, ht8, h17, ht9, h19, ht10⟩ := hL0
  refine z_al0 g dX4_loses_0 ?_
  refine z_il1 g dX4_loses_1 ?_
  refine z_callV1 g ck_X4_isPlayer q1438 q1440 qs50 cls4 (by assumption) (c_X4_isPlayer hL) rfl (Nat.le_of_ble_eq_true rfl) (by omega) (by omega) (by omega) dX4_loses_2 (z_ans1 ?_)
  refine z_ifb_eq (tgt := 16) g dX4_loses_5 (by decide) (fun c5 => ?_) (fun c5 => ?_)
  · skip
    refine z_iconst g dX4_loses_16 zki_m1 ?_
    refine z_iret g r (by omega) (by omega) dX4_loses_17 ?_
    exact ⟨I, ⟨zag.rf, fun _ _ => rfl⟩, by first | (simp [losesF, *]; done) | (simp_all [losesF]; done), rfl, rfl, rfl, rfl, rfl⟩
  · skip
    obtain ⟨pn, pn_lt, rfl⟩ := isPl_of c5 hN hnp
    have pnc : (nI pn).toNatClampNeg = pn := cl_nI (by omega)
    refine z_al0 g dX4_loses_8 ?_
    refine z_il2 g dX4_loses_9 ?_
    refine z_callV1 g ck_X4_isPlayer q1438 q1440 qs50 cls4 (by assumption) (c_X4_isPlayer hL) rfl (Nat.le_of_ble_eq_true rfl) (by omega) (by omega) (by omega) dX4_loses_10 (z_ans1 ?_)
    refine z_ifb_ne (tgt := 18) g dX4_loses_13 (by decide) (fun c13 => ?_) (fun c13 => ?_)
    · skip
      obtain ⟨qn, qn_lt, rfl⟩ := isPl_of c13 hN hnp
      have qnc : (nI qn).toNatClampNeg = qn := cl_nI (by omega)
      refine z_il1 g dX4_loses_18 ?_
      refine z_il2 g dX4_loses_19 ?_
      refine z_icmp_eq (tgt := 33) g dX4_loses_20 (by decide) (fun c20 => ?_) (fun c20 => ?_)
      · skip
        refine z_bipush g dX4_loses_33 zkb_m2 ?_
        refine z_iret g r (by omega) (by omega) dX4_loses_35 ?_
        exact ⟨I, ⟨zag.rf, fun _ _ => rfl⟩, by first | (simp [losesF, *]; done) | (simp_all [losesF]; done), rfl, rfl, rfl, rfl, rfl⟩
      · skip
        have hpq : pn ≠ qn := fun e => c20 (by rw [e])
        refine z_il3 g dX4_loses_23 ?_
        refine z_iconst g dX4_loses_24 zki_1 ?_
        refine z_bipush g dX4_loses_25 zkb_8 ?_
        refine z_callS3 g ck_X4_in q1319 q1320 c_X4_in rfl (Nat.le_of_ble_eq_true rfl) (by omega) (by omega) (by omega) dX4_loses_27 (z_ans1 ?_)
        refine z_ifb_ne (tgt := 36) g dX4_loses_30 (by decide) (fun c30 => ?_) (fun c30 => ?_)
        · skip
          obtain ⟨kn, kn_ge, kn_le, rfl⟩ := inB_of c30 (by decide) (by decide)
          have knc : (nI kn).toNatClampNeg = kn := cl_nI (by omega)
          have hbest := c_X4_bestFor (E := E) (n := n) (L := L) hL (show pn < 5 by omega) (show qn < 5 by omega) hpq (kn - 1) I (by omega) hO (gok_le hg (by omega))
          rw [show kn - 1 + 1 = kn by omega] at hbest
          refine z_al0 g dX4_loses_36 ?_
          refine z_il1 g dX4_loses_37 ?_
          refine z_il2 g dX4_loses_38 ?_
          refine z_il3 g dX4_loses_39 ?_
          refine z_callV3 g ck_X4_bestFor q1558 q1560 qs65 cls4 (by assumption) (hbest) rfl (Nat.le_of_ble_eq_true rfl) (by omega) (by omega) (by omega) dX4_loses_40 (z_ex fun I1 g1 => z_ans1 ?_)
          refine z_pop2 g dX4_loses_43 rfl ?_
          refine z_al0 g dX4_loses_44 ?_
          refine zg4_15 g q1257 (Or.inl rfl) (by assumption) dX4_loses_45 ?_
          refine z_top (show _ = zb _ from by rw [g1 _ T2.t0, zp_s, zp_s]) ?_
          refine z_ifb_eq (tgt := 55) g dX4_loses_48 (by decide) (fun c48 => ?_) (fun c48 => ?_)
          · skip
            refine z_iconst g dX4_loses_55 zki_0 ?_
            refine z_iret g r (by omega) (by omega) dX4_loses_56 ?_
            refine ⟨I1, ⟨fun x hx => ?_, fun k hk => ?_⟩, by simp [losesF, zb, *], rfl, rfl, rfl, rfl, rfl⟩
            · rw [g1 x (fun q => hx (Or.inr q)), zp_n (fun q => hx (Or.inl q))]
            · rw [g1 _ T2.t0, zp_s, zp_n hk]
          · skip
            refine z_iconst g dX4_loses_51 zki_1 ?_
            refine z_goto (tgt := 56) g dX4_loses_52 (by decide) ?_
            refine z_iret g r (by omega) (by omega) dX4_loses_56 ?_
            refine ⟨I1, ⟨fun x hx => ?_, fun k hk => ?_⟩, by simp [losesF, zb, *], rfl, rfl, rfl, rfl, rfl⟩
            · rw [g1 x (fun q => hx (Or.inr q)), zp_n (fun q => hx (Or.inl q))]
            · rw [g1 _ T2.t0, zp_s, zp_n hk]
        · skip
          refine z_bipush g dX4_loses_33 zkb_m2 ?_
          refine z_iret g r (by omega) (by omega) dX4_loses_35 ?_
          exact ⟨I, ⟨zag.rf, fun _ _ => rfl⟩, by first | (simp [losesF, *]; done) | (simp_all [losesF]; done), rfl, rfl, rfl, rfl, rfl⟩
    · skip
      refine z_iconst g dX4_loses_16 zki_m1 ?_
      refine z_iret g r (by omega) (by omega) dX4_loses_17 ?_
      exact ⟨I, ⟨zag.rf, fun _ _ => rfl⟩, by first | (simp [losesF, *]; done) | (simp_all [losesF]; done), rfl, rfl, rfl, rfl, rfl⟩

set_option maxHeartbeats 4000000 in
theorem c_X4_even {E : ZE} {n : Nat} {T : ZT} {I : ZI} {L : ZL} {R : ZR} {t : Nat} (hL : TL T R t) {np : Nat} (hN : I (t + 1) 6 = nI np) (hnp : np ≤ 5) (hO : oddOK (I (t + 1))) {p q : Int32} : zM E yX4_even cX4_even 8 (some (Jvm.ClassFile.FieldType.int)) 3 0 0 [.ref t, .int p, .int q] n T I L R (zsc t (some (.int (evenF (I (t + 1)) p q))) n T I L R) := by
  refine zM.of (lv0 := [some (.ref t), some (.int p), some (.int q), none, none, none, none, none]) pn_X4 (Nat.le_of_ble_eq_true rfl) rfl fun G g r hin hlt hbn => ?_
  have g : zGd E G cX4_even RX4 8 3 0 0 := g
  have hL0 := hL
  obtain ⟨hT, h1, ht1, h2, ht2, h3, ht3, h10, ht4, h11, ht5, ht6, ht7, h16, ht8, h17, ht9, h19, ht10⟩ := hL0
  have loop : ∀ pn qn : Nat, pn < 5 → qn < 5 → evenF (I (t + 1)) p q = (evenN (I (t + 1)) pn qn 20).1 → ∀ (r m : Nat) (J : ZI) (v : Int32), m + r = 20 → zag (T3 t) I J → J (t + 1) = zp (I (t + 1)) (1 + pn) v → Z E G 0 0 n T J L R 45 [some (.ref t), some (.int (nI pn)), some (.int (nI qn)), some (.int (I (t + 1) (1 + pn))), some (.int (evenN (I (t + 1)) pn qn m).1), some (.int (evenN (I (t + 1)) pn qn m).2), some (.int (nI (m + 1))), none] [] := by
    intro pn qn hpn hqn hres r
    induction r with
    | zero =>
      intro m J v hm hz hJ
      obtain rfl : m = 20 := hm
      refine z_il6 g dX4_even_45 ?_
      refine z_bipush g dX4_even_47 zkb_20 ?_
      refine z_icmp_gt_t (tgt := 125) g dX4_even_49 (by decide) (by decide +kernel) ?_
      refine z_al0 g dX4_even_125 ?_
      refine zg4_1 g q1243 (Or.inl rfl) (by assumption) dX4_even_126 (by assumption) ?_
      refine z_iconst g dX4_even_129 zki_1 ?_
      refine z_il1 g dX4_even_130 ?_
      first | with_reducible refine z_iaddN g dX4_even_131 ?_ | refine z_iadd g dX4_even_131 ?_
      refine z_il3 g dX4_even_132 ?_
      refine z_iast (k := 0) g rfl (by decide) (by assumption) (by omega) (by omega) dX4_even_133 ?_
      refine z_il4 g dX4_even_134 ?_
      refine z_iret g r (by omega) (by omega) dX4_even_136 ?_
      exact ⟨_, zag.dn2 (hz.put (Or.inl rfl)) (by rw [zp_s, hJ, zp_zp, zp_self]), by rw [hres], rfl, rfl, rfl, rfl, rfl⟩
    | succ r ih =>
      intro m J v hm hz hJ
      have hev : evenN (I (t + 1)) pn qn (m + 1) = evenS (I (t + 1)) pn qn (evenN (I (t + 1)) pn qn m) (m + 1) := rfl
      have ha6 : ag6 (zp (I (t + 1)) (1 + pn) (nI (m + 1))) (I (t + 1)) := ag6_put ag6_rf (by omega)
      have hO2 : oddOK (zp (I (t + 1)) (1 + pn) (nI (m + 1))) := oddOK_ag ha6 hO (by obtain ⟨-, -, -, -, gm, h1, h2⟩ := hO; exact ⟨gm, h1, by rw [zp_n (by omega)]; exact h2⟩)
      refine z_il6 g dX4_even_45 ?_
      refine z_bipush g dX4_even_47 zkb_20 ?_
      refine z_icmp_gt_f (tgt := 125) g dX4_even_49 (by decide) (nI_nlt (by omega) (by omega)) ?_
      refine z_al0 g dX4_even_52 ?_
      refine zg4_1 g q1243 (Or.inl rfl) (by assumption) dX4_even_53 (by assumption) ?_
      refine z_iconst g dX4_even_56 zki_1 ?_
      refine z_il1 g dX4_even_57 ?_
      first | with_reducible refine z_iaddN g dX4_even_58 ?_ | refine z_iadd g dX4_even_58 ?_
      refine z_il6 g dX4_even_59 ?_
      refine z_iast (k := 0) g rfl (by decide) (by assumption) (by omega) (by omega) dX4_even_61 ?_
      refine z_mem rfl rfl (show _ = zp J (t + 1) (zp (I (t + 1)) (1 + pn) (nI (m + 1))) from by rw [hJ, zp_zp]) rfl rfl ?_
      refine z_al0 g dX4_even_62 ?_
      refine z_il1 g dX4_even_63 ?_
      refine z_il2 g dX4_even_64 ?_
      refine z_callV2 g ck_X4_oddsOf q1474 q1476 qs54 cls4 (by assumption) (cs_X4_oddsOf hL (by rw [zp_s]; exact hO2) hpn hqn) rfl (Nat.le_of_ble_eq_true rfl) (by omega) (by omega) (by omega) dX4_even_65 (z_ex fun I1 g1 => z_ans1 ?_)
      rw [zp_s]
      refine z_iconst g dX4_even_68 zki_5 ?_
      first | with_reducible refine z_isubN g dX4_even_69 (by omega) ?_ | refine z_isub g dX4_even_69 ?_
      refine z_is7 g dX4_even_70 rfl ?_
      refine z_il7 g dX4_even_72 ?_
      refine z_if_ge (tgt := 83) g dX4_even_74 (by decide) (fun c74 => ?_) (fun c74 => ?_)
      · skip
        have c74 := Int32.not_lt.mpr c74
        refine z_il7 g dX4_even_83 ?_
        refine z_is7 g dX4_even_85 rfl ?_
        refine z_il7 g dX4_even_87 ?_
        refine z_il5 g dX4_even_89 ?_
        refine z_icmp_ge (tgt := 99) g dX4_even_91 (by decide) (fun c91 => ?_) (fun c91 => ?_)
        · skip
          have c91 := Int32.not_lt.mpr c91
          refine z_il4 g dX4_even_99 ?_
          refine z_top (show _ = (evenN (I (t + 1)) pn qn (m + 1)).1 from by rw [hev]; unfold evenS; simp only [c74, c91, if_true, if_false]) ?_
          refine z_is4 g dX4_even_101 rfl ?_
          refine z_il7 g dX4_even_103 ?_
          refine z_il5 g dX4_even_105 ?_
          refine z_icmp_ge (tgt := 115) g dX4_even_107 (by decide) (fun c107 => ?_) (fun c107 => ?_)
          · skip
            have c107 := Int32.not_lt.mpr c107
            refine z_il5 g dX4_even_115 ?_
            refine z_top (show _ = (evenN (I (t + 1)) pn qn (m + 1)).2 from by first | (rw [hev]; unfold evenS; simp only [c74, c91, if_true, if_false]; done) | exact absurd c107 c91 | exact absurd c91 c107) ?_
            refine z_is5 g dX4_even_117 rfl ?_
            first | with_reducible refine z_inc6 g dX4_even_119 (zinc1 _) rfl ?_ | refine z_inc6 g dX4_even_119 rfl rfl ?_
            refine z_goto (tgt := 45) g dX4_even_122 (by decide) ?_
            exact z_sub (by simp [zsub]) (ih (m + 1) I1 (nI (m + 1)) (by omega) ((hz.put (Or.inl rfl)).trans g1.up3) (g1.row.trans zp_s))
          · skip
            have c107 := Int32.not_le.mp c107
            refine z_il7 g dX4_even_110 ?_
            refine z_goto (tgt := 117) g dX4_even_112 (by decide) ?_
            refine z_top (show _ = (evenN (I (t + 1)) pn qn (m + 1)).2 from by first | (rw [hev]; unfold evenS; simp only [c74, c91, if_true, if_false]; done) | exact absurd c107 c91 | exact absurd c91 c107) ?_
            refine z_is5 g dX4_even_117 rfl ?_
            first | with_reducible refine z_inc6 g dX4_even_119 (zinc1 _) rfl ?_ | refine z_inc6 g dX4_even_119 rfl rfl ?_
            refine z_goto (tgt := 45) g dX4_even_122 (by decide) ?_
            exact z_sub (by simp [zsub]) (ih (m + 1) I1 (nI (m + 1)) (by omega) ((hz.put (Or.inl rfl)).trans g1.up3) (g1.row.trans zp_s))
        · skip
          have c91 := Int32.not_le.mp c91
          refine z_il6 g dX4_even_94 ?_
          refine z_goto (tgt := 101) g dX4_even_96 (by decide) ?_
          refine z_top (show _ = (evenN (I (t + 1)) pn qn (m + 1)).1 from by rw [hev]; unfold evenS; simp only [c74, c91, if_true, if_false]) ?_
          refine z_is4 g dX4_even_101 rfl ?_
          refine z_il7 g dX4_even_103 ?_
          refine z_il5 g dX4_even_105 ?_
          refine z_icmp_ge (tgt := 115) g dX4_even_107 (by decide) (fun c107 => ?_) (fun c107 => ?_)
          · skip
            have c107 := Int32.not_lt.mpr c107
            refine z_il5 g dX4_even_115 ?_
            refine z_top (show _ = (evenN (I (t + 1)) pn qn (m + 1)).2 from by first | (rw [hev]; unfold evenS; simp only [c74, c91, if_true, if_false]; done) | exact absurd c107 c91 | exact absurd c91 c107) ?_
            refine z_is5 g dX4_even_117 rfl ?_
            first | with_reducible refine z_inc6 g dX4_even_119 (zinc1 _) rfl ?_ | refine z_inc6 g dX4_even_119 rfl rfl ?_
            refine z_goto (tgt := 45) g dX4_even_122 (by decide) ?_
            exact z_sub (by simp [zsub]) (ih (m + 1) I1 (nI (m + 1)) (by omega) ((hz.put (Or.inl rfl)).trans g1.up3) (g1.row.trans zp_s))
          · skip
            have c107 := Int32.not_le.mp c107
            refine z_il7 g dX4_even_110 ?_
            refine z_goto (tgt := 117) g dX4_even_112 (by decide) ?_
            refine z_top (show _ = (evenN (I (t + 1)) pn qn (m + 1)).2 from by first | (rw [hev]; unfold evenS; simp only [c74, c91, if_true, if_false]; done) | exact absurd c107 c91 | exact absurd c91 c107) ?_
            refine z_is5 g dX4_even_117 rfl ?_
            first | with_reducible refine z_inc6 g dX4_even_119 (zinc1 _) rfl ?_ | refine z_inc6 g dX4_even_119 rfl rfl ?_
            refine z_goto (tgt := 45) g dX4_even_122 (by decide) ?_
            exact z_sub (by simp [zsub]) (ih (m + 1) I1 (nI (m + 1)) (by omega) ((hz.put (Or.inl rfl)).trans g1.up3) (g1.row.trans zp_s))
      · skip
        have c74 := Int32.not_le.mp c74
        refine z_il7 g dX4_even_77 ?_
        refine z_ineg g dX4_even_79 ?_
        refine z_goto (tgt := 85) g dX4_even_80 (by decide) ?_
        refine z_is7 g dX4_even_85 rfl ?_
        refine z_il7 g dX4_even_87 ?_
        refine z_il5 g dX4_even_89 ?_
        refine z_icmp_ge (tgt := 99) g dX4_even_91 (by decide) (fun c91 => ?_) (fun c91 => ?_)
        · skip
          have c91 := Int32.not_lt.mpr c91
          refine z_il4 g dX4_even_99 ?_
          refine z_top (show _ = (evenN (I (t + 1)) pn qn (m + 1)).1 from by rw [hev]; unfold evenS; simp only [c74, c91, if_true, if_false]) ?_
          refine z_is4 g dX4_even_101 rfl ?_
          refine z_il7 g dX4_even_103 ?_
          refine z_il5 g dX4_even_105 ?_
          refine z_icmp_ge (tgt := 115) g dX4_even_107 (by decide) (fun c107 => ?_) (fun c107 => ?_)
          · skip
            have c107 := Int32.not_lt.mpr c107
            refine z_il5 g dX4_even_115 ?_
            refine z_top (show _ = (evenN (I (t + 1)) pn qn (m + 1)).2 from by first | (rw [hev]; unfold evenS; simp only [c74, c91, if_true, if_false]; done) | exact absurd c107 c91 | exact absurd c91 c107) ?_
            refine z_is5 g dX4_even_117 rfl ?_
            first | with_reducible refine z_inc6 g dX4_even_119 (zinc1 _) rfl ?_ | refine z_inc6 g dX4_even_119 rfl rfl ?_
            refine z_goto (tgt := 45) g dX4_even_122 (by decide) ?_
            exact z_sub (by simp [zsub]) (ih (m + 1) I1 (nI (m + 1)) (by omega) ((hz.put (Or.inl rfl)).trans g1.up3) (g1.row.trans zp_s))
          · skip
            have c107 := Int32.not_le.mp c107
            refine z_il7 g dX4_even_110 ?_
            refine z_goto (tgt := 117) g dX4_even_112 (by decide) ?_
            refine z_top (show _ = (evenN (I (t + 1)) pn qn (m + 1)).2 from by first | (rw [hev]; unfold evenS; simp only [c74, c91, if_true, if_false]; done) | exact absurd c107 c91 | exact absurd c91 c107) ?_
            refine z_is5 g dX4_even_117 rfl ?_
            first | with_reducible refine z_inc6 g dX4_even_119 (zinc1 _) rfl ?_ | refine z_inc6 g dX4_even_119 rfl rfl ?_
            refine z_goto (tgt := 45) g dX4_even_122 (by decide) ?_
            exact z_sub (by simp [zsub]) (ih (m + 1) I1 (nI (m + 1)) (by omega) ((hz.put (Or.inl rfl)).trans g1.up3) (g1.row.trans zp_s))
        · skip
          have c91 := Int32.not_le.mp c91
          refine z_il6 g dX4_even_94 ?_
          refine z_goto (tgt := 101) g dX4_even_96 (by decide) ?_
          refine z_top (show _ = (evenN (I (t + 1)) pn qn (m + 1)).1 from by rw [hev]; unfold evenS; simp only [c74, c91, if_true, if_false]) ?_
          refine z_is4 g dX4_even_101 rfl ?_
          refine z_il7 g dX4_even_103 ?_
          refine z_il5 g dX4_even_105 ?_
          refine z_icmp_ge (tgt := 115) g dX4_even_107 (by decide) (fun c107 => ?_) (fun c107 => ?_)
          · skip
            have c107 := Int32.not_lt.mpr c107
            refine z_il5 g dX4_even_115 ?_
            refine z_top (show _ = (evenN (I (t + 1)) pn qn (m + 1)).2 from by first | (rw [hev]; unfold evenS; simp only [c74, c91, if_true, if_false]; done) | exact absurd c107 c91 | exact absurd c91 c107) ?_
            refine z_is5 g dX4_even_117 rfl ?_
            first | with_reducible refine z_inc6 g dX4_even_119 (zinc1 _) rfl ?_ | refine z_inc6 g dX4_even_119 rfl rfl ?_
            refine z_goto (tgt := 45) g dX4_even_122 (by decide) ?_
            exact z_sub (by simp [zsub]) (ih (m + 1) I1 (nI (m + 1)) (by omega) ((hz.put (Or.inl rfl)).trans g1.up3) (g1.row.trans zp_s))
          · skip
            have c107 := Int32.not_le.mp c107
            refine z_il7 g dX4_even_110 ?_
            refine z_goto (tgt := 117) g dX4_even_112 (by decide) ?_
            refine z_top (show _ = (evenN (I (t + 1)) pn qn (m + 1)).2 from by first | (rw [hev]; unfold evenS; simp only [c74, c91, if_true, if_false]; done) | exact absurd c107 c91 | exact absurd c91 c107) ?_
            refine z_is5 g dX4_even_117 rfl ?_
            first | with_reducible refine z_inc6 g dX4_even_119 (zinc1 _) rfl ?_ | refine z_inc6 g dX4_even_119 rfl rfl ?_
            refine z_goto (tgt := 45) g dX4_even_122 (by decide) ?_
            exact z_sub (by simp [zsub]) (ih (m + 1) I1 (nI (m + 1)) (by omega) ((hz.put (Or.inl rfl)).trans g1.up3) (g1.row.trans zp_s))
  refine z_al0 g dX4_even_0 ?_
  refine z_il1 g dX4_even_1 ?_
  refine z_callV1 g ck_X4_isPlayer q1438 q1440 qs50 cls4 (by assumption) (c_X4_isPlayer hL) rfl (Nat.le_of_ble_eq_true rfl) (by omega) (by omega) (by omega) dX4_even_2 (z_ans1 ?_)
  refine z_ifb_eq (tgt := 16) g dX4_even_5 (by decide) (fun c5 => ?_) (fun c5 => ?_)
  · skip
    refine z_iconst g dX4_even_16 zki_m1 ?_
    refine z_iret g r (by omega) (by omega) dX4_even_17 ?_
    exact ⟨I, zag.rf, by first | (simp [evenF, *]; done) | (simp_all [evenF]; done), rfl, rfl, rfl, rfl, rfl⟩
  · skip
    obtain ⟨pn, pn_lt, rfl⟩ := isPl_of c5 hN hnp
    have pnc : (nI pn).toNatClampNeg = pn := cl_nI (by omega)
    refine z_al0 g dX4_even_8 ?_
    refine z_il2 g dX4_even_9 ?_
    refine z_callV1 g ck_X4_isPlayer q1438 q1440 qs50 cls4 (by assumption) (c_X4_isPlayer hL) rfl (Nat.le_of_ble_eq_true rfl) (by omega) (by omega) (by omega) dX4_even_10 (z_ans1 ?_)
    refine z_ifb_ne (tgt := 18) g dX4_even_13 (by decide) (fun c13 => ?_) (fun c13 => ?_)
    · skip
      obtain ⟨qn, qn_lt, rfl⟩ := isPl_of c13 hN hnp
      have qnc : (nI qn).toNatClampNeg = qn := cl_nI (by omega)
      refine z_il1 g dX4_even_18 ?_
      refine z_il2 g dX4_even_19 ?_
      refine z_icmp_ne (tgt := 26) g dX4_even_20 (by decide) (fun c20 => ?_) (fun c20 => ?_)
      · skip
        refine z_al0 g dX4_even_26 ?_
        refine zg4_1 g q1243 (Or.inl rfl) (by assumption) dX4_even_27 (by assumption) ?_
        refine z_iconst g dX4_even_30 zki_1 ?_
        refine z_il1 g dX4_even_31 ?_
        first | with_reducible refine z_iaddN g dX4_even_32 ?_ | refine z_iadd g dX4_even_32 ?_
        refine z_iald (k := 0) g rfl (by assumption) (by omega) (by omega) dX4_even_33 ?_
        refine z_is3 g dX4_even_34 rfl ?_
        refine z_iconst g dX4_even_35 zki_0 ?_
        refine z_is4 g dX4_even_36 rfl ?_
        refine z_bipush g dX4_even_38 zkb_99 ?_
        refine z_is5 g dX4_even_40 rfl ?_
        refine z_iconst g dX4_even_42 zki_1 ?_
        refine z_is6 g dX4_even_43 rfl ?_
        exact loop pn qn (by omega) (by omega) (by simp [evenF, *]) 20 0 I (I (t + 1) (1 + pn)) rfl zag.rf zp_self.symm
      · skip
        refine z_bipush g dX4_even_23 zkb_m2 ?_
        refine z_iret g r (by omega) (by omega) dX4_even_25 ?_
        exact ⟨I, zag.rf, by first | (simp [evenF, *]; done) | (simp_all [evenF]; done), rfl, rfl, rfl, rfl, rfl⟩
    · skip
      refine z_iconst g dX4_even_16 zki_m1 ?_
      refine z_iret g r (by omega) (by omega) dX4_even_17 ?_
      exact ⟨I, zag.rf, by first | (simp [evenF, *]; done) | (simp_all [evenF]; done), rfl, rfl, rfl, rfl, rfl⟩

